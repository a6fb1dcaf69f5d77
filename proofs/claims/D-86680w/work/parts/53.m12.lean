set_option maxRecDepth 100000
set_option maxHeartbeats 4000000
theorem dX1_mode_0 : decode cX1_mode 0 = .ok (.iload_n 1, 1) := by decide +kernel
theorem dX1_mode_1 : decode cX1_mode 1 = .ok (.iconst 0, 1) := by decide +kernel
theorem dX1_mode_2 : decode cX1_mode 2 = .ok (.iconst 1, 1) := by decide +kernel
theorem dX1_mode_3 : decode cX1_mode 3 = .ok (.invokestatic 161, 3) := by decide +kernel
theorem dX1_mode_6 : decode cX1_mode 6 = .ok (.ifCond .ne 6, 3) := by decide +kernel
theorem dX1_mode_9 : decode cX1_mode 9 = .ok (.bipush (-102), 2) := by decide +kernel
theorem dX1_mode_11 : decode cX1_mode 11 = .ok (.ireturn, 1) := by decide +kernel
theorem dX1_mode_12 : decode cX1_mode 12 = .ok (.iload_n 1, 1) := by decide +kernel
theorem dX1_mode_13 : decode cX1_mode 13 = .ok (.iconst 1, 1) := by decide +kernel
theorem dX1_mode_14 : decode cX1_mode 14 = .ok (.if_icmp .ne 13, 3) := by decide +kernel
theorem dX1_mode_17 : decode cX1_mode 17 = .ok (.aload_n 0, 1) := by decide +kernel
theorem dX1_mode_18 : decode cX1_mode 18 = .ok (.invokevirtual 335, 3) := by decide +kernel
theorem dX1_mode_21 : decode cX1_mode 21 = .ok (.ifCond .eq 6, 3) := by decide +kernel
theorem dX1_mode_24 : decode cX1_mode 24 = .ok (.bipush (-103), 2) := by decide +kernel
theorem dX1_mode_26 : decode cX1_mode 26 = .ok (.ireturn, 1) := by decide +kernel
theorem dX1_mode_27 : decode cX1_mode 27 = .ok (.aload_n 0, 1) := by decide +kernel
theorem dX1_mode_28 : decode cX1_mode 28 = .ok (.getfield 195, 3) := by decide +kernel
theorem dX1_mode_31 : decode cX1_mode 31 = .ok (.istore_n 2, 1) := by decide +kernel
theorem dX1_mode_32 : decode cX1_mode 32 = .ok (.aload_n 0, 1) := by decide +kernel
theorem dX1_mode_33 : decode cX1_mode 33 = .ok (.iload_n 1, 1) := by decide +kernel
theorem dX1_mode_34 : decode cX1_mode 34 = .ok (.putfield 195, 3) := by decide +kernel
theorem dX1_mode_37 : decode cX1_mode 37 = .ok (.iload_n 1, 1) := by decide +kernel
theorem dX1_mode_38 : decode cX1_mode 38 = .ok (.iconst 1, 1) := by decide +kernel
theorem dX1_mode_39 : decode cX1_mode 39 = .ok (.if_icmp .ne 34, 3) := by decide +kernel
theorem dX1_mode_42 : decode cX1_mode 42 = .ok (.aload_n 0, 1) := by decide +kernel
theorem dX1_mode_43 : decode cX1_mode 43 = .ok (.invokevirtual 338, 3) := by decide +kernel
theorem dX1_mode_46 : decode cX1_mode 46 = .ok (.iconst 0, 1) := by decide +kernel
theorem dX1_mode_47 : decode cX1_mode 47 = .ok (.istore_n 3, 1) := by decide +kernel
theorem dX1_mode_48 : decode cX1_mode 48 = .ok (.iload_n 3, 1) := by decide +kernel
theorem dX1_mode_49 : decode cX1_mode 49 = .ok (.aload_n 0, 1) := by decide +kernel
theorem dX1_mode_50 : decode cX1_mode 50 = .ok (.getfield 332, 3) := by decide +kernel
theorem dX1_mode_53 : decode cX1_mode 53 = .ok (.if_icmp .ge 16, 3) := by decide +kernel
theorem dX1_mode_56 : decode cX1_mode 56 = .ok (.aload_n 0, 1) := by decide +kernel
theorem dX1_mode_57 : decode cX1_mode 57 = .ok (.getfield 110, 3) := by decide +kernel
theorem dX1_mode_60 : decode cX1_mode 60 = .ok (.iload_n 3, 1) := by decide +kernel
theorem dX1_mode_61 : decode cX1_mode 61 = .ok (.iconst 0, 1) := by decide +kernel
theorem dX1_mode_62 : decode cX1_mode 62 = .ok (.iastore, 1) := by decide +kernel
theorem dX1_mode_63 : decode cX1_mode 63 = .ok (.iinc 3 1, 3) := by decide +kernel
theorem dX1_mode_66 : decode cX1_mode 66 = .ok (.goto (-18), 3) := by decide +kernel
theorem dX1_mode_69 : decode cX1_mode 69 = .ok (.aload_n 0, 1) := by decide +kernel
theorem dX1_mode_70 : decode cX1_mode 70 = .ok (.invokevirtual 341, 3) := by decide +kernel
theorem dX1_mode_73 : decode cX1_mode 73 = .ok (.iload_n 2, 1) := by decide +kernel
theorem dX1_mode_74 : decode cX1_mode 74 = .ok (.ireturn, 1) := by decide +kernel
theorem dX1_tried_0 : decode cX1_tried 0 = .ok (.aload_n 0, 1) := by decide +kernel
theorem dX1_tried_1 : decode cX1_tried 1 = .ok (.invokevirtual 338, 3) := by decide +kernel
theorem dX1_tried_4 : decode cX1_tried 4 = .ok (.aload_n 0, 1) := by decide +kernel
theorem dX1_tried_5 : decode cX1_tried 5 = .ok (.dload_n 3, 1) := by decide +kernel
theorem dX1_tried_6 : decode cX1_tried 6 = .ok (.putfield 297, 3) := by decide +kernel
theorem dX1_tried_9 : decode cX1_tried 9 = .ok (.iconst 0, 1) := by decide +kernel
theorem dX1_tried_10 : decode cX1_tried 10 = .ok (.istore 5, 2) := by decide +kernel
theorem dX1_tried_12 : decode cX1_tried 12 = .ok (.iload 5, 2) := by decide +kernel
theorem dX1_tried_14 : decode cX1_tried 14 = .ok (.iload_n 2, 1) := by decide +kernel
theorem dX1_tried_15 : decode cX1_tried 15 = .ok (.if_icmp .ge 13, 3) := by decide +kernel
theorem dX1_tried_18 : decode cX1_tried 18 = .ok (.aload_n 0, 1) := by decide +kernel
theorem dX1_tried_19 : decode cX1_tried 19 = .ok (.invokevirtual 347, 3) := by decide +kernel
theorem dX1_tried_22 : decode cX1_tried 22 = .ok (.iinc 5 1, 3) := by decide +kernel
theorem dX1_tried_25 : decode cX1_tried 25 = .ok (.goto (-13), 3) := by decide +kernel
theorem dX1_tried_28 : decode cX1_tried 28 = .ok (.aload_n 0, 1) := by decide +kernel
theorem dX1_tried_29 : decode cX1_tried 29 = .ok (.getfield 53, 3) := by decide +kernel
theorem dX1_tried_32 : decode cX1_tried 32 = .ok (.iload_n 1, 1) := by decide +kernel
theorem dX1_tried_33 : decode cX1_tried 33 = .ok (.daload, 1) := by decide +kernel
theorem dX1_tried_34 : decode cX1_tried 34 = .ok (.dreturn, 1) := by decide +kernel
theorem hd_X1_beginAll : yX1_beginAll.cls = RX1 ∧ yX1_beginAll.cls ≠ "java/lang/invoke/MethodHandle" ∧ yX1_beginAll.cls ≠ "java/lang/invoke/VarHandle" ∧ (parseMethodDescriptor yX1_beginAll.desc).map (fun d => d.parameters.length) = some 0 := by decide +kernel
theorem hd_X1_step : yX1_step.cls = RX1 ∧ yX1_step.cls ≠ "java/lang/invoke/MethodHandle" ∧ yX1_step.cls ≠ "java/lang/invoke/VarHandle" ∧ (parseMethodDescriptor yX1_step.desc).map (fun d => d.parameters.length) = some 0 := by decide +kernel
theorem hd_X1_toStrips : yX1_toStrips.cls = RX1 ∧ yX1_toStrips.cls ≠ "java/lang/invoke/MethodHandle" ∧ yX1_toStrips.cls ≠ "java/lang/invoke/VarHandle" ∧ (parseMethodDescriptor yX1_toStrips.desc).map (fun d => d.parameters.length) = some 0 := by decide +kernel
theorem hd_X1_wrong : yX1_wrong.cls = RX1 ∧ yX1_wrong.cls ≠ "java/lang/invoke/MethodHandle" ∧ yX1_wrong.cls ≠ "java/lang/invoke/VarHandle" ∧ (parseMethodDescriptor yX1_wrong.desc).map (fun d => d.parameters.length) = some 0 := by decide +kernel
theorem mt_X1_mode (l : Launch) (D : va_G) (dA : Nat → ClassId) (ad : Nat → Nat) (C : tp_C) (d : md_T) (m : Int32) (hC : mOK C) (hV : vOK C) (hW : vfOK C) (hDl : dlOK C) (hL : lvOK (dAI d 10)) (hI : iOK C (dAI d 10) d) (hSm : smOK d) : mC l D dA ad yX1_mode cX1_mode 4 (some .int) 6 [.int m] C d (some (.int (moI C d m))) (moC C d m) (moD C d m) := by
  refine mm_start (by decide) rfl (Nat.le_of_ble_eq_true rfl) ?_
  intro p0 e0 s0 mid bl0 me0 co0 ls S hr hlk G hl
  have hx := S.1; have hb := S.2.1; have hml := S.2.2.1; have hown := S.2.2.2.1; have hts := S.2.2.2.2
  have hl : lv_has ls 4 [(0, .ref (ad 0)), (1, .int m)] := hl
  have hN := hC.n
  have hMo := hC.mo
  have hZ := hC.z
  have hck := ckN_le C d
  have L1 : ∀ (n_ s : Nat), s ≤ cZ C → cZ C < s + n_ → ∀ (H : Heap) (locs : List Loc) (ls : Array Slot), mG D dA ad (wM C 1) (c0I (beD (wM C 1) (moW C d)) s) s0 H locs → lv_has ls 4 [(3, .int (nI s)), (2, .int (nI (cM C))), (0, .ref (ad 0)), (1, .int (nI 1))] → (∀ (H : Heap) (locs : List Loc) (ls : Array Slot), mG D dA ad (wM C 1) (c0I (beD (wM C 1) (moW C d)) (cZ C)) s0 H locs → lv_has ls 4 [(3, .int (nI (cZ C))), (2, .int (nI (cM C))), (0, .ref (ad 0)), (1, .int (nI 1))] → W p0 l e0 (rm_ 6) s0 mid (Value.ref (ad 0) :: [.int m]).toArray bl0 me0 co0 H locs 0 0 (MQ bl0 (mQ D dA ad (some (.int (moI C d m))) (moC C d m) (moD C d m)) (Value.ref (ad 0) :: [.int m]).toArray s0 0 0 (mA ad)) (F0 mid 69 ls [])) → W p0 l e0 (rm_ 6) s0 mid (Value.ref (ad 0) :: [.int m]).toArray bl0 me0 co0 H locs 0 0 (MQ bl0 (mQ D dA ad (some (.int (moI C d m))) (moC C d m) (moD C d m)) (Value.ref (ad 0) :: [.int m]).toArray s0 0 0 (mA ad)) (F0 mid 48 ls []) := by
    intro n_
    induction n_ with
    | zero => intro s h1_ h2_; exact absurd h2_ (by omega)
    | succ n_ ih =>
      intro s h1_ h2_ H locs ls G hl kk
      refine lv_iload_n hx hb dX1_mode_48 rfl (lv_at hl 0 rfl) ?_
      refine lv_aload_n hx hb dX1_mode_49 rfl (lv_at hl 2 rfl) ?_
      refine mm_get S G 37 (by decide) q1304 rfl (v := .int (nI (cZ C))) rfl dX1_mode_50 ?_
      refine nn_cge (tgt := 69) hx hb (by omega) (by omega) dX1_mode_53 (by decide) (fun c_53 => ?_) (fun c_53 => ?_)
      · have hiN : s = cZ C := by omega
        subst hiN
        exact kk H locs ls G (lv_sub hl [0, 1, 2, 3] rfl)
      · refine lv_aload_n hx hb dX1_mode_56 rfl (lv_at hl 2 rfl) ?_
        refine mm_get S G 39 (by decide) q1306 rfl (v := .ref (ad 40)) rfl dX1_mode_57 ?_
        refine lv_iload_n hx hb dX1_mode_60 rfl (lv_at hl 0 rfl) ?_
        refine lv_iconst (v := nI 0) hx hb dX1_mode_61 (by decide) ?_
        refine mm_iast S G 39 rfl (by decide) (n := 6) rfl (by omega) dX1_mode_62 (fun H locs G => ?_)
        refine lv_iinc (v := nI (s + 1)) (lv' := [(3, .int (nI (s + 1))), (2, .int (nI (cM C))), (0, .ref (ad 0)), (1, .int (nI 1))]) hx hb dX1_mode_63 hl (k := 0) rfl (nI_1 _) (by decide) rfl (fun ls hl => ?_)
        refine lv_goto (tgt := 48) hx hb dX1_mode_66 (by decide) ?_
        exact ih (s + 1) (by omega) (by omega) H locs ls (mG_d (by exact c0I_s _ _) G) (lv_sub hl [0, 1, 2, 3] rfl) kk
  refine lv_iload_n hx hb dX1_mode_0 rfl (lv_at hl 1 rfl) ?_
  refine lv_iconst (v := nI 0) hx hb dX1_mode_1 (by decide) ?_
  refine lv_iconst (v := nI 1) hx hb dX1_mode_2 (by decide) ?_
  refine sC_call (As := [.int m, .int (nI 0), .int (nI 1)]) (rest := []) S (st_X1_in l m (nI 0) (nI 1)) q1455 q1456 q53 q1457 hd_X1_in ⟨Nat.le_of_ble_eq_true rfl, Nat.le_of_ble_eq_true rfl⟩ rfl hl.1 rfl (Nat.le_of_ble_eq_true rfl) dX1_mode_3 ⟨Nat.zero_le _, Nat.zero_le _⟩ ?_
  refine W.eq (g2 := F0 mid 6 ls [.int (bI (inB m (nI 0) (nI 1)))]) rfl ?_
  refine bb_ne (tgt := 12) hx hb dX1_mode_6 (by decide) (fun c_6 => ?_) (fun c_6 => ?_)
  · obtain ⟨j, -, hj, rfl⟩ := in_nat c_6 (by decide) (by decide)
    have ij_j : ixN (nI j) = j := ixN_nI (by omega)
    refine lv_iload_n hx hb dX1_mode_12 rfl (lv_at hl 1 rfl) ?_
    refine lv_iconst (v := nI 1) hx hb dX1_mode_13 (by decide) ?_
    refine nn_cne (tgt := 27) hx hb (by omega) (by omega) dX1_mode_14 (by decide) (fun c_14 => ?_) (fun c_14 => ?_)
    · have n14 : ¬ nI j = nI 1 := fun e => c_14 ((nI_eq (by omega) (by decide)).mp e)
      refine lv_aload_n hx hb dX1_mode_27 rfl (lv_at hl 0 rfl) ?_
      refine mm_get S G 11 (by decide) q1278 rfl (v := .int (nI (cM C))) rfl dX1_mode_28 ?_
      refine lv_istore_n (lv' := [(2, .int (nI (cM C))), (0, .ref (ad 0)), (1, .int (nI j))]) hx hb dX1_mode_31 rfl hl (by decide) rfl (fun ls hl => ?_)
      refine lv_aload_n hx hb dX1_mode_32 rfl (lv_at hl 1 rfl) ?_
      refine lv_iload_n hx hb dX1_mode_33 rfl (lv_at hl 2 rfl) ?_
      refine mm_putM S G q1278 dX1_mode_34 (fun H locs G => ?_)
      refine lv_iload_n hx hb dX1_mode_37 rfl (lv_at hl 2 rfl) ?_
      refine lv_iconst (v := nI 1) hx hb dX1_mode_38 (by decide) ?_
      refine nn_cne (tgt := 73) hx hb (by omega) (by omega) dX1_mode_39 (by decide) (fun c_39 => ?_) (fun c_39 => by exfalso; exact c_14 c_39)
      refine lv_iload_n hx hb dX1_mode_73 rfl (lv_at hl 0 rfl) ?_
      exact mm_iret S hr hlk G (by simp [moI, moC, moD, c_6, ij_j, c_14, n14, c_39] <;> first | rfl | omega | skip) (by simp [moI, moC, moD, c_6, ij_j, c_14, n14, c_39] <;> first | rfl | omega | skip) (by simp [moI, moC, moD, c_6, ij_j, c_14, n14, c_39] <;> first | rfl | omega | skip) dX1_mode_74
    · subst c_14
      have ij_1 : ixN (nI 1) = 1 := ixN_nI (by omega)
      refine lv_aload_n hx hb dX1_mode_17 rfl (lv_at hl 0 rfl) ?_
      refine mm_call (As := []) (rest := []) S G (mt_X1_wrong l D dA ad C d hC) q1537 q1539 qs24 q1540 hd_X1_wrong ⟨Nat.le_of_ble_eq_true rfl, Nat.le_of_ble_eq_true rfl⟩ rfl hl.1 rfl (Nat.le_of_ble_eq_true rfl) dX1_mode_18 ⟨Nat.zero_le _, Nat.zero_le _⟩ (fun H locs G => ?_)
      refine W.eq (g2 := F0 mid 21 ls [.int (nI (ckN C d))]) rfl ?_
      have G : mG D dA ad C (moW C d) s0 H locs := G
      refine nz_eq (tgt := 27) hx hb (by omega) dX1_mode_21 (by decide) (fun c_21 => ?_) (fun c_21 => ?_)
      · refine lv_aload_n hx hb dX1_mode_27 rfl (lv_at hl 0 rfl) ?_
        refine mm_get S G 11 (by decide) q1278 rfl (v := .int (nI (cM C))) rfl dX1_mode_28 ?_
        refine lv_istore_n (lv' := [(2, .int (nI (cM C))), (0, .ref (ad 0)), (1, .int (nI 1))]) hx hb dX1_mode_31 rfl hl (by decide) rfl (fun ls hl => ?_)
        refine lv_aload_n hx hb dX1_mode_32 rfl (lv_at hl 1 rfl) ?_
        refine lv_iload_n hx hb dX1_mode_33 rfl (lv_at hl 2 rfl) ?_
        refine mm_putM S G q1278 dX1_mode_34 (fun H locs G => ?_)
        refine lv_iload_n hx hb dX1_mode_37 rfl (lv_at hl 2 rfl) ?_
        refine lv_iconst (v := nI 1) hx hb dX1_mode_38 (by decide) ?_
        refine lv_icmp_ne (tgt := 73) hx hb dX1_mode_39 (by decide) (fun c_ => absurd c_ (by decide)) (fun _ => ?_)
        refine lv_aload_n hx hb dX1_mode_42 rfl (lv_at hl 1 rfl) ?_
        refine mm_call (As := []) (rest := []) S G (mt_X1_beginAll l D dA ad (wM C 1) (moW C d) (mOK_wM hC (by decide)) hV hW (ck_aOK c_21) (show lvOK (dAI (moW C d) 10) from by rw [(iOK_moW hI).l]; exact hL) (show iOK (wM C 1) (dAI (moW C d) 10) (moW C d) from by rw [(iOK_moW hI).l]; exact iOK_moW hI)) q1542 q1544 qs25 q1545 hd_X1_beginAll ⟨Nat.le_of_ble_eq_true rfl, Nat.le_of_ble_eq_true rfl⟩ rfl hl.1 rfl (Nat.le_of_ble_eq_true rfl) dX1_mode_43 ⟨Nat.zero_le _, Nat.zero_le _⟩ (fun H locs G => ?_)
        refine W.eq (g2 := F0 mid 46 ls []) rfl ?_
        have hSb : smOK (beD (wM C 1) (moW C d)) := sm_mv hSm ((be_A _ _ (by decide) (by decide) (by decide)).trans (ck_A C d (by decide)))
        refine lv_iconst (v := nI 0) hx hb dX1_mode_46 (by decide) ?_
        refine lv_istore_n (lv' := [(3, .int (nI 0)), (2, .int (nI (cM C))), (0, .ref (ad 0)), (1, .int (nI 1))]) hx hb dX1_mode_47 rfl hl (by decide) rfl (fun ls hl => ?_)
        refine L1 (cZ C + 1) 0 (by omega) (by omega) _ _ ls (mG_d (by exact (c0I_0 _).symm) G) (lv_sub hl [0, 1, 2, 3] rfl) (fun H locs ls G hl => ?_)
        refine lv_aload_n hx hb dX1_mode_69 rfl (lv_at hl 2 rfl) ?_
        refine mm_call (As := []) (rest := []) S G (mt_X1_toStrips l D dA ad (wM C 1) (c0I (beD (wM C 1) (moW C d)) (cZ C)) (mOK_wM hC (by decide)) (c0_sm hSb (cZ C)) (fun s hs => by rw [c0_cnt (n := cZ C) hs]; omega)) q1611 q1613 qs39 q1614 hd_X1_toStrips ⟨Nat.le_of_ble_eq_true rfl, Nat.le_of_ble_eq_true rfl⟩ rfl hl.1 rfl (Nat.le_of_ble_eq_true rfl) dX1_mode_70 ⟨Nat.zero_le _, Nat.zero_le _⟩ (fun H locs G => ?_)
        refine W.eq (g2 := F0 mid 73 ls []) rfl ?_
        refine lv_iload_n hx hb dX1_mode_73 rfl (lv_at hl 1 rfl) ?_
        exact mm_iret S hr hlk G (by simp [moI, moC, moD, c_6, c_21] <;> first | rfl | omega | skip) (by simp [moI, moC, moD, c_6, c_21] <;> first | rfl | omega | skip) (by simp [moI, moC, moD, c_6, c_21] <;> first | rfl | omega | skip) dX1_mode_74
      · refine lv_bipush (v := (-103)) hx hb dX1_mode_24 (by decide) ?_
        exact mm_iret S hr hlk G (by simp [moI, moC, moD, c_6, c_21] <;> first | rfl | omega | skip) (by simp [moI, moC, moD, c_6, c_21] <;> first | rfl | omega | skip) (by simp [moI, moC, moD, c_6, c_21] <;> first | rfl | omega | skip) dX1_mode_26
  · refine lv_bipush (v := (-102)) hx hb dX1_mode_9 (by decide) ?_
    exact mm_iret S hr hlk G (by simp [moI, moC, moD, c_6] <;> first | rfl | omega | skip) (by simp [moI, moC, moD, c_6] <;> first | rfl | omega | skip) (by unfold moD; rw [if_neg (fun e => by rw [e] at c_6; exact absurd c_6 (by decide))]) dX1_mode_11
theorem iOK_tr {C : tp_C} {f : Nat → Int32} {t : UInt64} {d : md_T} (hC : mOK C) (hV : vOK C) (hW : vfOK C) (hA : aOK C) (ht : tOK t) (ht2 : tOK (FP.ddiv t 4611686018427387904)) (h : iOK C f d) (n : Nat) : iOK C (leF C (dAI d 10)) (trN C t n d) ∧ dD (trN C t n d) 45 = t :=
  it_ok (f := fun _ => stD C t) (a := uD (beD C d) 45 t) (P := fun x => iOK C (leF C (dAI d 10)) x ∧ dD x 45 = t) (n := n) ⟨iOK_mv (iOK_be hC hV hW hA h) rfl rfl rfl, by simp [uD, dD, va_up]⟩ (fun i a _ ha => ⟨iOK_st hC hV hA ht ht2 ha.1, by rw [st_dD]; exact ha.2⟩) n (Nat.le_refl n)
theorem mt_X1_tried (l : Launch) (D : va_G) (dA : Nat → ClassId) (ad : Nat → Nat) (C : tp_C) (d : md_T) (q : Nat) (n : Nat) (t : UInt64) (hC : mOK C) (hV : vOK C) (hW : vfOK C) (hA : aOK C) (hDl : dlOK C) (hL : lvOK (dAI d 10)) (hI : iOK C (dAI d 10) d) (hq : q < 20) (hn : n < 100) (ht : tOK t) (ht2 : tOK (FP.ddiv t 4611686018427387904)) : mC l D dA ad yX1_tried cX1_tried 6 (some .double) 6 [.int (nI q), .int (nI n), .double t] C d (some (.double (dAD (trN C t n d) 19 q))) C (trN C t n d) := by
  refine mm_start (by decide) rfl (Nat.le_of_ble_eq_true rfl) ?_
  intro p0 e0 s0 mid bl0 me0 co0 ls S hr hlk G hl
  have hx := S.1; have hb := S.2.1; have hml := S.2.2.1; have hown := S.2.2.2.1; have hts := S.2.2.2.2
  have hl : lv_has ls 6 [(0, .ref (ad 0)), (1, .int (nI q)), (2, .int (nI n)), (3, .double t)] := hl
  have hN := hC.n
  have hL2 := le_lv hC hL
  have L1 : ∀ (n_ k : Nat), k ≤ n → n < k + n_ → ∀ (H : Heap) (locs : List Loc) (ls : Array Slot), mG D dA ad C (trN C t k d) s0 H locs → lv_has ls 6 [(5, .int (nI k)), (3, .double t), (0, .ref (ad 0)), (1, .int (nI q)), (2, .int (nI n))] → (∀ (H : Heap) (locs : List Loc) (ls : Array Slot), mG D dA ad C (trN C t n d) s0 H locs → lv_has ls 6 [(5, .int (nI n)), (3, .double t), (0, .ref (ad 0)), (1, .int (nI q)), (2, .int (nI n))] → W p0 l e0 (rm_ 6) s0 mid (Value.ref (ad 0) :: [.int (nI q), .int (nI n), .double t]).toArray bl0 me0 co0 H locs 0 0 (MQ bl0 (mQ D dA ad (some (.double (dAD (trN C t n d) 19 q))) C (trN C t n d)) (Value.ref (ad 0) :: [.int (nI q), .int (nI n), .double t]).toArray s0 0 0 (mA ad)) (F0 mid 28 ls [])) → W p0 l e0 (rm_ 6) s0 mid (Value.ref (ad 0) :: [.int (nI q), .int (nI n), .double t]).toArray bl0 me0 co0 H locs 0 0 (MQ bl0 (mQ D dA ad (some (.double (dAD (trN C t n d) 19 q))) C (trN C t n d)) (Value.ref (ad 0) :: [.int (nI q), .int (nI n), .double t]).toArray s0 0 0 (mA ad)) (F0 mid 12 ls []) := by
    intro n_
    induction n_ with
    | zero => intro k h1_ h2_; exact absurd h2_ (by omega)
    | succ n_ ih =>
      intro k h1_ h2_ H locs ls G hl kk
      have hik := iOK_tr hC hV hW hA ht ht2 hI k
      refine lv_iload hx hb dX1_tried_12 (lv_at hl 0 rfl) ?_
      refine lv_iload_n hx hb dX1_tried_14 rfl (lv_at hl 4 rfl) ?_
      refine nn_cge (tgt := 28) hx hb (by omega) (by omega) dX1_tried_15 (by decide) (fun c_15 => ?_) (fun c_15 => ?_)
      · have hiN : k = n := by omega
        subst hiN
        exact kk H locs ls G (lv_sub hl [0, 1, 2, 3, 4] rfl)
      · refine lv_aload_n hx hb dX1_tried_18 rfl (lv_at hl 2 rfl) ?_
        refine mm_call (As := []) (rest := []) S G (mt_X1_step l D dA ad C (trN C t k d) hC hV hA (by rw [hik.1.l]; exact hL2) hDl (by rw [hik.1.l]; exact hik.1) hik.2 ht ht2) q1628 q1630 qs41 q1631 hd_X1_step ⟨Nat.le_of_ble_eq_true rfl, Nat.le_of_ble_eq_true rfl⟩ rfl hl.1 rfl (Nat.le_of_ble_eq_true rfl) dX1_tried_19 ⟨Nat.zero_le _, Nat.zero_le _⟩ (fun H locs G => ?_)
        refine W.eq (g2 := F0 mid 22 ls []) rfl ?_
        refine lv_iinc (v := nI (k + 1)) (lv' := [(5, .int (nI (k + 1))), (3, .double t), (0, .ref (ad 0)), (1, .int (nI q)), (2, .int (nI n))]) hx hb dX1_tried_22 hl (k := 0) rfl (nI_1 _) (by decide) rfl (fun ls hl => ?_)
        refine lv_goto (tgt := 12) hx hb dX1_tried_25 (by decide) ?_
        exact ih (k + 1) (by omega) (by omega) H locs ls (mG_d (by rfl) G) (lv_sub hl [0, 1, 2, 3, 4] rfl) kk
  refine lv_aload_n hx hb dX1_tried_0 rfl (lv_at hl 0 rfl) ?_
  refine mm_call (As := []) (rest := []) S G (mt_X1_beginAll l D dA ad C d hC hV hW hA hL hI) q1542 q1544 qs25 q1545 hd_X1_beginAll ⟨Nat.le_of_ble_eq_true rfl, Nat.le_of_ble_eq_true rfl⟩ rfl hl.1 rfl (Nat.le_of_ble_eq_true rfl) dX1_tried_1 ⟨Nat.zero_le _, Nat.zero_le _⟩ (fun H locs G => ?_)
  refine W.eq (g2 := F0 mid 4 ls []) rfl ?_
  refine lv_aload_n hx hb dX1_tried_4 rfl (lv_at hl 0 rfl) ?_
  refine lv_dload_n hx hb dX1_tried_5 rfl (lv_at hl 3 rfl) ?_
  refine mm_putd S G 45 rfl (by decide) q1312 rfl rfl rfl dX1_tried_6 (fun H locs G => ?_)
  refine lv_iconst (v := nI 0) hx hb dX1_tried_9 (by decide) ?_
  refine lv_istore (lv' := [(5, .int (nI 0)), (0, .ref (ad 0)), (1, .int (nI q)), (2, .int (nI n)), (3, .double t)]) hx hb dX1_tried_10 hl (by decide) rfl (fun ls hl => ?_)
  refine L1 (n + 1) 0 (by omega) (by omega) _ _ ls (mG_d (by rfl) G) (lv_sub hl [0, 4, 1, 2, 3] rfl) (fun H locs ls G hl => ?_)
  refine lv_aload_n hx hb dX1_tried_28 rfl (lv_at hl 2 rfl) ?_
  refine mm_get S G 19 (by decide) q1286 rfl (v := .ref (ad 20)) rfl dX1_tried_29 ?_
  refine lv_iload_n hx hb dX1_tried_32 rfl (lv_at hl 3 rfl) ?_
  refine mm_dald S G 19 2 (by decide) (n := 20) rfl rfl (by omega) (by decide) (v := dAD (trN C t n d) 19 q) rfl dX1_tried_33 ?_
  exact mm_dret S hr hlk G rfl rfl rfl dX1_tried_34
