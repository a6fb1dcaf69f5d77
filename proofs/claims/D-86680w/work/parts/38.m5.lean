set_option maxRecDepth 100000
set_option maxHeartbeats 4000000
theorem dX1_crossing_0 : decode cX1_crossing 0 = .ok (.aload_n 0, 1) := by decide +kernel
theorem dX1_crossing_1 : decode cX1_crossing 1 = .ok (.iload_n 1, 1) := by decide +kernel
theorem dX1_crossing_2 : decode cX1_crossing 2 = .ok (.invokevirtual 359, 3) := by decide +kernel
theorem dX1_crossing_5 : decode cX1_crossing 5 = .ok (.ifCond .ne 6, 3) := by decide +kernel
theorem dX1_crossing_8 : decode cX1_crossing 8 = .ok (.bipush (-101), 2) := by decide +kernel
theorem dX1_crossing_10 : decode cX1_crossing 10 = .ok (.ireturn, 1) := by decide +kernel
theorem dX1_crossing_11 : decode cX1_crossing 11 = .ok (.iconst 0, 1) := by decide +kernel
theorem dX1_crossing_12 : decode cX1_crossing 12 = .ok (.istore_n 3, 1) := by decide +kernel
theorem dX1_crossing_13 : decode cX1_crossing 13 = .ok (.iconst 1, 1) := by decide +kernel
theorem dX1_crossing_14 : decode cX1_crossing 14 = .ok (.istore 4, 2) := by decide +kernel
theorem dX1_crossing_16 : decode cX1_crossing 16 = .ok (.iload 4, 2) := by decide +kernel
theorem dX1_crossing_18 : decode cX1_crossing 18 = .ok (.aload_n 0, 1) := by decide +kernel
theorem dX1_crossing_19 : decode cX1_crossing 19 = .ok (.getfield 110, 3) := by decide +kernel
theorem dX1_crossing_22 : decode cX1_crossing 22 = .ok (.iload_n 1, 1) := by decide +kernel
theorem dX1_crossing_23 : decode cX1_crossing 23 = .ok (.iaload, 1) := by decide +kernel
theorem dX1_crossing_24 : decode cX1_crossing 24 = .ok (.if_icmp .ge 69, 3) := by decide +kernel
theorem dX1_crossing_27 : decode cX1_crossing 27 = .ok (.aload_n 0, 1) := by decide +kernel
theorem dX1_crossing_28 : decode cX1_crossing 28 = .ok (.getfield 113, 3) := by decide +kernel
theorem dX1_crossing_31 : decode cX1_crossing 31 = .ok (.bipush 120, 2) := by decide +kernel
theorem dX1_crossing_33 : decode cX1_crossing 33 = .ok (.iload_n 1, 1) := by decide +kernel
theorem dX1_crossing_34 : decode cX1_crossing 34 = .ok (.imul, 1) := by decide +kernel
theorem dX1_crossing_35 : decode cX1_crossing 35 = .ok (.iload 4, 2) := by decide +kernel
theorem dX1_crossing_37 : decode cX1_crossing 37 = .ok (.iadd, 1) := by decide +kernel
theorem dX1_crossing_38 : decode cX1_crossing 38 = .ok (.daload, 1) := by decide +kernel
theorem dX1_crossing_39 : decode cX1_crossing 39 = .ok (.dconst 0, 1) := by decide +kernel
theorem dX1_crossing_40 : decode cX1_crossing 40 = .ok (.dcmp .l, 1) := by decide +kernel
theorem dX1_crossing_41 : decode cX1_crossing 41 = .ok (.ifCond .le 7, 3) := by decide +kernel
theorem dX1_crossing_44 : decode cX1_crossing 44 = .ok (.iconst 1, 1) := by decide +kernel
theorem dX1_crossing_45 : decode cX1_crossing 45 = .ok (.goto 4, 3) := by decide +kernel
theorem dX1_crossing_48 : decode cX1_crossing 48 = .ok (.iconst 0, 1) := by decide +kernel
theorem dX1_crossing_49 : decode cX1_crossing 49 = .ok (.aload_n 0, 1) := by decide +kernel
theorem dX1_crossing_50 : decode cX1_crossing 50 = .ok (.getfield 113, 3) := by decide +kernel
theorem dX1_crossing_53 : decode cX1_crossing 53 = .ok (.bipush 120, 2) := by decide +kernel
theorem dX1_crossing_55 : decode cX1_crossing 55 = .ok (.iload_n 1, 1) := by decide +kernel
theorem dX1_crossing_56 : decode cX1_crossing 56 = .ok (.imul, 1) := by decide +kernel
theorem dX1_crossing_57 : decode cX1_crossing 57 = .ok (.iload 4, 2) := by decide +kernel
theorem dX1_crossing_59 : decode cX1_crossing 59 = .ok (.iadd, 1) := by decide +kernel
theorem dX1_crossing_60 : decode cX1_crossing 60 = .ok (.iconst 1, 1) := by decide +kernel
theorem dX1_crossing_61 : decode cX1_crossing 61 = .ok (.isub, 1) := by decide +kernel
theorem dX1_crossing_62 : decode cX1_crossing 62 = .ok (.daload, 1) := by decide +kernel
theorem dX1_crossing_63 : decode cX1_crossing 63 = .ok (.dconst 0, 1) := by decide +kernel
theorem dX1_crossing_64 : decode cX1_crossing 64 = .ok (.dcmp .l, 1) := by decide +kernel
theorem dX1_crossing_65 : decode cX1_crossing 65 = .ok (.ifCond .le 7, 3) := by decide +kernel
theorem dX1_crossing_68 : decode cX1_crossing 68 = .ok (.iconst 1, 1) := by decide +kernel
theorem dX1_crossing_69 : decode cX1_crossing 69 = .ok (.goto 4, 3) := by decide +kernel
theorem dX1_crossing_72 : decode cX1_crossing 72 = .ok (.iconst 0, 1) := by decide +kernel
theorem dX1_crossing_73 : decode cX1_crossing 73 = .ok (.if_icmp .eq 14, 3) := by decide +kernel
theorem dX1_crossing_76 : decode cX1_crossing 76 = .ok (.iload_n 3, 1) := by decide +kernel
theorem dX1_crossing_77 : decode cX1_crossing 77 = .ok (.iload_n 2, 1) := by decide +kernel
theorem dX1_crossing_78 : decode cX1_crossing 78 = .ok (.if_icmp .ne 6, 3) := by decide +kernel
theorem dX1_crossing_81 : decode cX1_crossing 81 = .ok (.iload 4, 2) := by decide +kernel
theorem dX1_crossing_83 : decode cX1_crossing 83 = .ok (.ireturn, 1) := by decide +kernel
theorem dX1_crossing_84 : decode cX1_crossing 84 = .ok (.iinc 3 1, 3) := by decide +kernel
theorem dX1_crossing_87 : decode cX1_crossing 87 = .ok (.iinc 4 1, 3) := by decide +kernel
theorem dX1_crossing_90 : decode cX1_crossing 90 = .ok (.goto (-74), 3) := by decide +kernel
theorem dX1_crossing_93 : decode cX1_crossing 93 = .ok (.iconst (-1), 1) := by decide +kernel
theorem dX1_crossing_94 : decode cX1_crossing 94 = .ok (.ireturn, 1) := by decide +kernel
theorem dX1_peak_0 : decode cX1_peak 0 = .ok (.aload_n 0, 1) := by decide +kernel
theorem dX1_peak_1 : decode cX1_peak 1 = .ok (.iload_n 1, 1) := by decide +kernel
theorem dX1_peak_2 : decode cX1_peak 2 = .ok (.invokevirtual 359, 3) := by decide +kernel
theorem dX1_peak_5 : decode cX1_peak 5 = .ok (.ifCond .ne 6, 3) := by decide +kernel
theorem dX1_peak_8 : decode cX1_peak 8 = .ok (.bipush (-101), 2) := by decide +kernel
theorem dX1_peak_10 : decode cX1_peak 10 = .ok (.ireturn, 1) := by decide +kernel
theorem dX1_peak_11 : decode cX1_peak 11 = .ok (.iconst 0, 1) := by decide +kernel
theorem dX1_peak_12 : decode cX1_peak 12 = .ok (.istore_n 3, 1) := by decide +kernel
theorem dX1_peak_13 : decode cX1_peak 13 = .ok (.iconst 1, 1) := by decide +kernel
theorem dX1_peak_14 : decode cX1_peak 14 = .ok (.istore 4, 2) := by decide +kernel
theorem dX1_peak_16 : decode cX1_peak 16 = .ok (.iload 4, 2) := by decide +kernel
theorem dX1_peak_18 : decode cX1_peak 18 = .ok (.iconst 1, 1) := by decide +kernel
theorem dX1_peak_19 : decode cX1_peak 19 = .ok (.iadd, 1) := by decide +kernel
theorem dX1_peak_20 : decode cX1_peak 20 = .ok (.aload_n 0, 1) := by decide +kernel
theorem dX1_peak_21 : decode cX1_peak 21 = .ok (.getfield 110, 3) := by decide +kernel
theorem dX1_peak_24 : decode cX1_peak 24 = .ok (.iload_n 1, 1) := by decide +kernel
theorem dX1_peak_25 : decode cX1_peak 25 = .ok (.iaload, 1) := by decide +kernel
theorem dX1_peak_26 : decode cX1_peak 26 = .ok (.if_icmp .ge 74, 3) := by decide +kernel
theorem dX1_peak_29 : decode cX1_peak 29 = .ok (.aload_n 0, 1) := by decide +kernel
theorem dX1_peak_30 : decode cX1_peak 30 = .ok (.getfield 113, 3) := by decide +kernel
theorem dX1_peak_33 : decode cX1_peak 33 = .ok (.bipush 120, 2) := by decide +kernel
theorem dX1_peak_35 : decode cX1_peak 35 = .ok (.iload_n 1, 1) := by decide +kernel
theorem dX1_peak_36 : decode cX1_peak 36 = .ok (.imul, 1) := by decide +kernel
theorem dX1_peak_37 : decode cX1_peak 37 = .ok (.iload 4, 2) := by decide +kernel
theorem dX1_peak_39 : decode cX1_peak 39 = .ok (.iadd, 1) := by decide +kernel
theorem dX1_peak_40 : decode cX1_peak 40 = .ok (.daload, 1) := by decide +kernel
theorem dX1_peak_41 : decode cX1_peak 41 = .ok (.dstore 5, 2) := by decide +kernel
theorem dX1_peak_43 : decode cX1_peak 43 = .ok (.dload 5, 2) := by decide +kernel
theorem dX1_peak_45 : decode cX1_peak 45 = .ok (.aload_n 0, 1) := by decide +kernel
theorem dX1_peak_46 : decode cX1_peak 46 = .ok (.getfield 113, 3) := by decide +kernel
theorem dX1_peak_49 : decode cX1_peak 49 = .ok (.bipush 120, 2) := by decide +kernel
theorem dX1_peak_51 : decode cX1_peak 51 = .ok (.iload_n 1, 1) := by decide +kernel
theorem dX1_peak_52 : decode cX1_peak 52 = .ok (.imul, 1) := by decide +kernel
theorem dX1_peak_53 : decode cX1_peak 53 = .ok (.iload 4, 2) := by decide +kernel
theorem dX1_peak_55 : decode cX1_peak 55 = .ok (.iadd, 1) := by decide +kernel
theorem dX1_peak_56 : decode cX1_peak 56 = .ok (.iconst 1, 1) := by decide +kernel
theorem dX1_peak_57 : decode cX1_peak 57 = .ok (.isub, 1) := by decide +kernel
theorem dX1_peak_58 : decode cX1_peak 58 = .ok (.daload, 1) := by decide +kernel
theorem dX1_peak_59 : decode cX1_peak 59 = .ok (.dcmp .l, 1) := by decide +kernel
theorem dX1_peak_60 : decode cX1_peak 60 = .ok (.ifCond .le 34, 3) := by decide +kernel
theorem dX1_peak_63 : decode cX1_peak 63 = .ok (.dload 5, 2) := by decide +kernel
theorem dX1_peak_65 : decode cX1_peak 65 = .ok (.aload_n 0, 1) := by decide +kernel
theorem dX1_peak_66 : decode cX1_peak 66 = .ok (.getfield 113, 3) := by decide +kernel
theorem dX1_peak_69 : decode cX1_peak 69 = .ok (.bipush 120, 2) := by decide +kernel
theorem dX1_peak_71 : decode cX1_peak 71 = .ok (.iload_n 1, 1) := by decide +kernel
theorem dX1_peak_72 : decode cX1_peak 72 = .ok (.imul, 1) := by decide +kernel
theorem dX1_peak_73 : decode cX1_peak 73 = .ok (.iload 4, 2) := by decide +kernel
theorem dX1_peak_75 : decode cX1_peak 75 = .ok (.iadd, 1) := by decide +kernel
theorem dX1_peak_76 : decode cX1_peak 76 = .ok (.iconst 1, 1) := by decide +kernel
theorem dX1_peak_77 : decode cX1_peak 77 = .ok (.iadd, 1) := by decide +kernel
theorem dX1_peak_78 : decode cX1_peak 78 = .ok (.daload, 1) := by decide +kernel
theorem dX1_peak_79 : decode cX1_peak 79 = .ok (.dcmp .l, 1) := by decide +kernel
theorem dX1_peak_80 : decode cX1_peak 80 = .ok (.ifCond .lt 14, 3) := by decide +kernel
theorem dX1_peak_83 : decode cX1_peak 83 = .ok (.iload_n 3, 1) := by decide +kernel
theorem dX1_peak_84 : decode cX1_peak 84 = .ok (.iload_n 2, 1) := by decide +kernel
theorem dX1_peak_85 : decode cX1_peak 85 = .ok (.if_icmp .ne 6, 3) := by decide +kernel
theorem dX1_peak_88 : decode cX1_peak 88 = .ok (.iload 4, 2) := by decide +kernel
theorem dX1_peak_90 : decode cX1_peak 90 = .ok (.ireturn, 1) := by decide +kernel
theorem dX1_peak_91 : decode cX1_peak 91 = .ok (.iinc 3 1, 3) := by decide +kernel
theorem dX1_peak_94 : decode cX1_peak 94 = .ok (.iinc 4 1, 3) := by decide +kernel
theorem dX1_peak_97 : decode cX1_peak 97 = .ok (.goto (-81), 3) := by decide +kernel
theorem dX1_peak_100 : decode cX1_peak 100 = .ok (.iconst (-1), 1) := by decide +kernel
theorem dX1_peak_101 : decode cX1_peak 101 = .ok (.ireturn, 1) := by decide +kernel
theorem im_isB {C : tp_C} {j : Nat} (hj : j < cZ C) (hN : cZ C ≤ 6) : inB (nI j) (nI 0) (nI (cZ C) - nI 1) = true := by
  refine inB_spec.mpr ⟨?_, ?_⟩
  · rw [Int32.le_iff_toInt_le, nI_toInt (by omega), nI_toInt (by omega)]; omega
  · rw [Int32.le_iff_toInt_le, pk_sub_toInt (by omega) (by omega), nI_toInt (by omega)]; omega
theorem mt_X1_crossing (l : Launch) (D : va_G) (dA : Nat → ClassId) (ad : Nat → Nat) (C : tp_C) (d : md_T) (s : Int32) (k : Int32) (hC : mOK C) (hSm : smOK d) : mC l D dA ad yX1_crossing cX1_crossing 5 (some .int) 2 [.int s, .int k] C d (some (.int (crI C d s k))) C d := by
  refine mm_start (by decide) rfl (Nat.le_of_ble_eq_true rfl) ?_
  intro p0 e0 s0 mid bl0 me0 co0 ls S hr hlk G hl
  have hx := S.1; have hb := S.2.1; have hml := S.2.2.1; have hown := S.2.2.2.1; have hts := S.2.2.2.2
  have hl : lv_has ls 5 [(0, .ref (ad 0)), (1, .int s), (2, .int k)] := hl
  have hN := hC.n
  have hMo := hC.mo
  have hZ := hC.z
  have L1 : ∀ (j : Nat) (hj : j < cZ C) (hc : cntN d j ≤ 120) (n_ : Nat) (i : Nat) (n : Nat), (1 ≤ i) → (121 < i + n_) → (i ≤ 121) → (crF (fun i => dAD d 40 (120 * j + i)) (cntN d j) k n_ i n = crI C d s k) → ∀ (H : Heap) (locs : List Loc) (ls : Array Slot), mG D dA ad C d s0 H locs → lv_has ls 5 [(4, .int (nI i)), (3, .int (nI n)), (0, .ref (ad 0)), (1, .int (nI j)), (2, .int k)] → W p0 l e0 (rm_ 2) s0 mid (Value.ref (ad 0) :: [.int s, .int k]).toArray bl0 me0 co0 H locs 0 0 (MQ bl0 (mQ D dA ad (some (.int (crI C d s k))) C d) (Value.ref (ad 0) :: [.int s, .int k]).toArray s0 0 0 (mA ad)) (F0 mid 16 ls []) := by
    intro j hj hc n_
    induction n_ with
    | zero => intro i n h1_ h2_ h3_ hRes; exfalso; omega
    | succ n_ ih =>
      intro i n h1_ h2_ h3_ hRes H locs ls G hl
      refine lv_iload hx hb dX1_crossing_16 (lv_at hl 0 rfl) ?_
      refine lv_aload_n hx hb dX1_crossing_18 rfl (lv_at hl 2 rfl) ?_
      refine mm_get S G 39 (by decide) q1306 rfl (v := .ref (ad 40)) rfl dX1_crossing_19 ?_
      refine lv_iload_n hx hb dX1_crossing_22 rfl (lv_at hl 3 rfl) ?_
      refine mm_iald S G 39 0 (by decide) (n := 6) rfl rfl (by omega) (by decide) (v := nI (cntN d j)) (hSm.eq j) dX1_crossing_23 ?_
      refine nn_cge (tgt := 93) hx hb (by omega) (by omega) dX1_crossing_24 (by decide) (fun c_24 => ?_) (fun c_24 => ?_)
      · refine lv_iconst (v := (-1)) hx hb dX1_crossing_93 (by decide) ?_
        exact mm_iret S hr hlk G (by rw [← hRes]; simp [crF, c_24]) rfl rfl dX1_crossing_94
      · refine lv_aload_n hx hb dX1_crossing_27 rfl (lv_at hl 2 rfl) ?_
        refine mm_get S G 40 (by decide) q1307 rfl (v := .ref (ad 41)) rfl dX1_crossing_28 ?_
        refine lv_bipush (v := nI 120) hx hb dX1_crossing_31 (by decide) ?_
        refine lv_iload_n hx hb dX1_crossing_33 rfl (lv_at hl 3 rfl) ?_
        refine nn_mul hx hb dX1_crossing_34 ?_
        refine lv_iload hx hb dX1_crossing_35 (lv_at hl 0 rfl) ?_
        refine nn_add hx hb dX1_crossing_37 ?_
        refine mm_dald S G 40 2 (by decide) (n := 720) rfl rfl (by omega) (by decide) (v := dAD d 40 (120 * j + i)) rfl dX1_crossing_38 ?_
        refine lv_dconst0 hx hb dX1_crossing_39 ?_
        refine fx_jlle (tgt := 48) hx hb dX1_crossing_40 dX1_crossing_41 (by decide) (fun c_41 => ?_) (fun c_41 => ?_)
        · refine lv_iconst (v := nI 0) hx hb dX1_crossing_48 (by decide) ?_
          refine lv_aload_n hx hb dX1_crossing_49 rfl (lv_at hl 2 rfl) ?_
          refine mm_get S G 40 (by decide) q1307 rfl (v := .ref (ad 41)) rfl dX1_crossing_50 ?_
          refine lv_bipush (v := nI 120) hx hb dX1_crossing_53 (by decide) ?_
          refine lv_iload_n hx hb dX1_crossing_55 rfl (lv_at hl 3 rfl) ?_
          refine nn_mul hx hb dX1_crossing_56 ?_
          refine lv_iload hx hb dX1_crossing_57 (lv_at hl 0 rfl) ?_
          refine nn_add hx hb dX1_crossing_59 ?_
          refine lv_iconst (v := nI 1) hx hb dX1_crossing_60 (by decide) ?_
          refine nn_sub hx hb (by omega) dX1_crossing_61 ?_
          refine mm_dald S G 40 2 (by decide) (n := 720) rfl rfl (by omega) (by decide) (v := dAD d 40 (120 * j + (i - 1))) (by rw [show 120 * j + i - 1 = 120 * j + (i - 1) from by omega]) dX1_crossing_62 ?_
          refine lv_dconst0 hx hb dX1_crossing_63 ?_
          refine fx_jlle (tgt := 72) hx hb dX1_crossing_64 dX1_crossing_65 (by decide) (fun c_65 => ?_) (fun c_65 => ?_)
          · refine lv_iconst (v := nI 0) hx hb dX1_crossing_72 (by decide) ?_
            refine lv_icmp_eq (tgt := 87) hx hb dX1_crossing_73 (by decide) (fun _ => ?_) (fun c_ => absurd (by decide) c_)
            refine lv_iinc (v := nI (i + 1)) (lv' := [(4, .int (nI (i + 1))), (3, .int (nI n)), (0, .ref (ad 0)), (1, .int (nI j)), (2, .int k)]) hx hb dX1_crossing_87 hl (k := 0) rfl (nI_1 _) (by decide) rfl (fun ls hl => ?_)
            refine lv_goto (tgt := 16) hx hb dX1_crossing_90 (by decide) ?_
            exact ih (i + 1) n (by omega) (by omega) (by omega) (by rw [← hRes]; simp [crF, c_24, c_41, c_65]) H locs ls G (lv_sub hl [0, 1, 2, 3, 4] rfl)
          · refine lv_iconst (v := nI 1) hx hb dX1_crossing_68 (by decide) ?_
            refine lv_goto (tgt := 73) hx hb dX1_crossing_69 (by decide) ?_
            refine lv_icmp_eq (tgt := 87) hx hb dX1_crossing_73 (by decide) (fun c_ => absurd c_ (by decide)) (fun _ => ?_)
            refine lv_iload_n hx hb dX1_crossing_76 rfl (lv_at hl 1 rfl) ?_
            refine lv_iload_n hx hb dX1_crossing_77 rfl (lv_at hl 4 rfl) ?_
            refine lv_icmp_ne (tgt := 84) hx hb dX1_crossing_78 (by decide) (fun c_78 => ?_) (fun c_78 => ?_)
            · refine lv_iinc (v := nI (n + 1)) (lv' := [(3, .int (nI (n + 1))), (4, .int (nI i)), (0, .ref (ad 0)), (1, .int (nI j)), (2, .int k)]) hx hb dX1_crossing_84 hl (k := 1) rfl (nI_1 _) (by decide) rfl (fun ls hl => ?_)
              refine lv_iinc (v := nI (i + 1)) (lv' := [(4, .int (nI (i + 1))), (3, .int (nI (n + 1))), (0, .ref (ad 0)), (1, .int (nI j)), (2, .int k)]) hx hb dX1_crossing_87 hl (k := 1) rfl (nI_1 _) (by decide) rfl (fun ls hl => ?_)
              refine lv_goto (tgt := 16) hx hb dX1_crossing_90 (by decide) ?_
              exact ih (i + 1) (n + 1) (by omega) (by omega) (by omega) (by rw [← hRes]; simp [crF, c_24, c_41, c_65, c_78]) H locs ls G (lv_sub hl [0, 1, 2, 3, 4] rfl)
            · refine lv_iload hx hb dX1_crossing_81 (lv_at hl 0 rfl) ?_
              exact mm_iret S hr hlk G (by rw [← hRes]; simp [crF, c_24, c_41, c_65, c_78]) rfl rfl dX1_crossing_83
        · refine lv_iconst (v := nI 1) hx hb dX1_crossing_44 (by decide) ?_
          refine lv_goto (tgt := 49) hx hb dX1_crossing_45 (by decide) ?_
          refine lv_aload_n hx hb dX1_crossing_49 rfl (lv_at hl 2 rfl) ?_
          refine mm_get S G 40 (by decide) q1307 rfl (v := .ref (ad 41)) rfl dX1_crossing_50 ?_
          refine lv_bipush (v := nI 120) hx hb dX1_crossing_53 (by decide) ?_
          refine lv_iload_n hx hb dX1_crossing_55 rfl (lv_at hl 3 rfl) ?_
          refine nn_mul hx hb dX1_crossing_56 ?_
          refine lv_iload hx hb dX1_crossing_57 (lv_at hl 0 rfl) ?_
          refine nn_add hx hb dX1_crossing_59 ?_
          refine lv_iconst (v := nI 1) hx hb dX1_crossing_60 (by decide) ?_
          refine nn_sub hx hb (by omega) dX1_crossing_61 ?_
          refine mm_dald S G 40 2 (by decide) (n := 720) rfl rfl (by omega) (by decide) (v := dAD d 40 (120 * j + (i - 1))) (by rw [show 120 * j + i - 1 = 120 * j + (i - 1) from by omega]) dX1_crossing_62 ?_
          refine lv_dconst0 hx hb dX1_crossing_63 ?_
          refine fx_jlle (tgt := 72) hx hb dX1_crossing_64 dX1_crossing_65 (by decide) (fun c_65 => ?_) (fun c_65 => ?_)
          · refine lv_iconst (v := nI 0) hx hb dX1_crossing_72 (by decide) ?_
            refine lv_icmp_eq (tgt := 87) hx hb dX1_crossing_73 (by decide) (fun c_ => absurd c_ (by decide)) (fun _ => ?_)
            refine lv_iload_n hx hb dX1_crossing_76 rfl (lv_at hl 1 rfl) ?_
            refine lv_iload_n hx hb dX1_crossing_77 rfl (lv_at hl 4 rfl) ?_
            refine lv_icmp_ne (tgt := 84) hx hb dX1_crossing_78 (by decide) (fun c_78 => ?_) (fun c_78 => ?_)
            · refine lv_iinc (v := nI (n + 1)) (lv' := [(3, .int (nI (n + 1))), (4, .int (nI i)), (0, .ref (ad 0)), (1, .int (nI j)), (2, .int k)]) hx hb dX1_crossing_84 hl (k := 1) rfl (nI_1 _) (by decide) rfl (fun ls hl => ?_)
              refine lv_iinc (v := nI (i + 1)) (lv' := [(4, .int (nI (i + 1))), (3, .int (nI (n + 1))), (0, .ref (ad 0)), (1, .int (nI j)), (2, .int k)]) hx hb dX1_crossing_87 hl (k := 1) rfl (nI_1 _) (by decide) rfl (fun ls hl => ?_)
              refine lv_goto (tgt := 16) hx hb dX1_crossing_90 (by decide) ?_
              exact ih (i + 1) (n + 1) (by omega) (by omega) (by omega) (by rw [← hRes]; simp [crF, c_24, c_41, c_65, c_78]) H locs ls G (lv_sub hl [0, 1, 2, 3, 4] rfl)
            · refine lv_iload hx hb dX1_crossing_81 (lv_at hl 0 rfl) ?_
              exact mm_iret S hr hlk G (by rw [← hRes]; simp [crF, c_24, c_41, c_65, c_78]) rfl rfl dX1_crossing_83
          · refine lv_iconst (v := nI 1) hx hb dX1_crossing_68 (by decide) ?_
            refine lv_goto (tgt := 73) hx hb dX1_crossing_69 (by decide) ?_
            refine lv_icmp_eq (tgt := 87) hx hb dX1_crossing_73 (by decide) (fun _ => ?_) (fun c_ => absurd (by decide) c_)
            refine lv_iinc (v := nI (i + 1)) (lv' := [(4, .int (nI (i + 1))), (3, .int (nI n)), (0, .ref (ad 0)), (1, .int (nI j)), (2, .int k)]) hx hb dX1_crossing_87 hl (k := 0) rfl (nI_1 _) (by decide) rfl (fun ls hl => ?_)
            refine lv_goto (tgt := 16) hx hb dX1_crossing_90 (by decide) ?_
            exact ih (i + 1) n (by omega) (by omega) (by omega) (by rw [← hRes]; simp [crF, c_24, c_41, c_65]) H locs ls G (lv_sub hl [0, 1, 2, 3, 4] rfl)
  refine lv_aload_n hx hb dX1_crossing_0 rfl (lv_at hl 0 rfl) ?_
  refine lv_iload_n hx hb dX1_crossing_1 rfl (lv_at hl 1 rfl) ?_
  refine mm_call (As := [.int s]) (rest := []) S G (mt_X1_isStrip l D dA ad C d s) q1690 q1692 qs46 q1693 hd_X1_isStrip ⟨Nat.le_of_ble_eq_true rfl, Nat.le_of_ble_eq_true rfl⟩ rfl hl.1 rfl (Nat.le_of_ble_eq_true rfl) dX1_crossing_2 ⟨Nat.zero_le _, Nat.zero_le _⟩ (fun H locs G => ?_)
  refine W.eq (g2 := F0 mid 5 ls [.int (bI (inB s (nI 0) (nI (cZ C) - nI 1)))]) rfl ?_
  refine bb_ne (tgt := 11) hx hb dX1_crossing_5 (by decide) (fun c_5 => ?_) (fun c_5 => ?_)
  · obtain ⟨j, hj, rfl⟩ := is_nat c_5 hZ
    have ij_j : ixN (nI j) = j := ixN_nI (by omega)
    have hc := hSm.le j
    refine lv_iconst (v := nI 0) hx hb dX1_crossing_11 (by decide) ?_
    refine lv_istore_n (lv' := [(3, .int (nI 0)), (0, .ref (ad 0)), (1, .int (nI j)), (2, .int k)]) hx hb dX1_crossing_12 rfl hl (by decide) rfl (fun ls hl => ?_)
    refine lv_iconst (v := nI 1) hx hb dX1_crossing_13 (by decide) ?_
    refine lv_istore (lv' := [(4, .int (nI 1)), (3, .int (nI 0)), (0, .ref (ad 0)), (1, .int (nI j)), (2, .int k)]) hx hb dX1_crossing_14 hl (by decide) rfl (fun ls hl => ?_)
    refine L1 j hj hc cr_u 1 0 (by omega) (by decide) (by omega) (by simp [crI, pkI, isB, c_5, ij_j]) _ _ ls G (lv_sub hl [0, 1, 2, 3, 4] rfl)
  · refine lv_bipush (v := (-101)) hx hb dX1_crossing_8 (by decide) ?_
    exact mm_iret S hr hlk G (by simp [isB, crI, pkI, c_5]) rfl rfl dX1_crossing_10
theorem mt_X1_peak (l : Launch) (D : va_G) (dA : Nat → ClassId) (ad : Nat → Nat) (C : tp_C) (d : md_T) (s : Int32) (k : Int32) (hC : mOK C) (hSm : smOK d) : mC l D dA ad yX1_peak cX1_peak 7 (some .int) 2 [.int s, .int k] C d (some (.int (pkI C d s k))) C d := by
  refine mm_start (by decide) rfl (Nat.le_of_ble_eq_true rfl) ?_
  intro p0 e0 s0 mid bl0 me0 co0 ls S hr hlk G hl
  have hx := S.1; have hb := S.2.1; have hml := S.2.2.1; have hown := S.2.2.2.1; have hts := S.2.2.2.2
  have hl : lv_has ls 7 [(0, .ref (ad 0)), (1, .int s), (2, .int k)] := hl
  have hN := hC.n
  have hMo := hC.mo
  have hZ := hC.z
  have L1 : ∀ (j : Nat) (hj : j < cZ C) (hc : cntN d j ≤ 120) (n_ : Nat) (i : Nat) (n : Nat), (1 ≤ i) → (121 < i + n_) → (i ≤ 121) → (pkF (fun i => dAD d 40 (120 * j + i)) (cntN d j) k n_ i n = pkI C d s k) → ∀ (H : Heap) (locs : List Loc) (ls : Array Slot), mG D dA ad C d s0 H locs → lv_has ls 7 [(4, .int (nI i)), (3, .int (nI n)), (0, .ref (ad 0)), (1, .int (nI j)), (2, .int k)] → W p0 l e0 (rm_ 2) s0 mid (Value.ref (ad 0) :: [.int s, .int k]).toArray bl0 me0 co0 H locs 0 0 (MQ bl0 (mQ D dA ad (some (.int (pkI C d s k))) C d) (Value.ref (ad 0) :: [.int s, .int k]).toArray s0 0 0 (mA ad)) (F0 mid 16 ls []) := by
    intro j hj hc n_
    induction n_ with
    | zero => intro i n h1_ h2_ h3_ hRes; exfalso; omega
    | succ n_ ih =>
      intro i n h1_ h2_ h3_ hRes H locs ls G hl
      refine lv_iload hx hb dX1_peak_16 (lv_at hl 0 rfl) ?_
      refine lv_iconst (v := nI 1) hx hb dX1_peak_18 (by decide) ?_
      refine nn_add hx hb dX1_peak_19 ?_
      refine lv_aload_n hx hb dX1_peak_20 rfl (lv_at hl 2 rfl) ?_
      refine mm_get S G 39 (by decide) q1306 rfl (v := .ref (ad 40)) rfl dX1_peak_21 ?_
      refine lv_iload_n hx hb dX1_peak_24 rfl (lv_at hl 3 rfl) ?_
      refine mm_iald S G 39 0 (by decide) (n := 6) rfl rfl (by omega) (by decide) (v := nI (cntN d j)) (hSm.eq j) dX1_peak_25 ?_
      refine nn_cge (tgt := 100) hx hb (by omega) (by omega) dX1_peak_26 (by decide) (fun c_26 => ?_) (fun c_26 => ?_)
      · refine lv_iconst (v := (-1)) hx hb dX1_peak_100 (by decide) ?_
        exact mm_iret S hr hlk G (by rw [← hRes]; simp [pkF, c_26]) rfl rfl dX1_peak_101
      · refine lv_aload_n hx hb dX1_peak_29 rfl (lv_at hl 2 rfl) ?_
        refine mm_get S G 40 (by decide) q1307 rfl (v := .ref (ad 41)) rfl dX1_peak_30 ?_
        refine lv_bipush (v := nI 120) hx hb dX1_peak_33 (by decide) ?_
        refine lv_iload_n hx hb dX1_peak_35 rfl (lv_at hl 3 rfl) ?_
        refine nn_mul hx hb dX1_peak_36 ?_
        refine lv_iload hx hb dX1_peak_37 (lv_at hl 0 rfl) ?_
        refine nn_add hx hb dX1_peak_39 ?_
        refine mm_dald S G 40 2 (by decide) (n := 720) rfl rfl (by omega) (by decide) (v := dAD d 40 (120 * j + i)) rfl dX1_peak_40 ?_
        refine lv_dstore (lv' := [(5, .double (dAD d 40 (120 * j + i))), (4, .int (nI i)), (3, .int (nI n)), (0, .ref (ad 0)), (1, .int (nI j)), (2, .int k)]) hx hb dX1_peak_41 hl (by decide) rfl (fun ls hl => ?_)
        refine lv_dload hx hb dX1_peak_43 (lv_at hl 0 rfl) ?_
        refine lv_aload_n hx hb dX1_peak_45 rfl (lv_at hl 3 rfl) ?_
        refine mm_get S G 40 (by decide) q1307 rfl (v := .ref (ad 41)) rfl dX1_peak_46 ?_
        refine lv_bipush (v := nI 120) hx hb dX1_peak_49 (by decide) ?_
        refine lv_iload_n hx hb dX1_peak_51 rfl (lv_at hl 4 rfl) ?_
        refine nn_mul hx hb dX1_peak_52 ?_
        refine lv_iload hx hb dX1_peak_53 (lv_at hl 1 rfl) ?_
        refine nn_add hx hb dX1_peak_55 ?_
        refine lv_iconst (v := nI 1) hx hb dX1_peak_56 (by decide) ?_
        refine nn_sub hx hb (by omega) dX1_peak_57 ?_
        refine mm_dald S G 40 2 (by decide) (n := 720) rfl rfl (by omega) (by decide) (v := dAD d 40 (120 * j + (i - 1))) (by rw [show 120 * j + i - 1 = 120 * j + (i - 1) from by omega]) dX1_peak_58 ?_
        refine fx_jlle (tgt := 94) hx hb dX1_peak_59 dX1_peak_60 (by decide) (fun c_60 => ?_) (fun c_60 => ?_)
        · refine lv_iinc (v := nI (i + 1)) (lv' := [(4, .int (nI (i + 1))), (5, .double (dAD d 40 (120 * j + i))), (3, .int (nI n)), (0, .ref (ad 0)), (1, .int (nI j)), (2, .int k)]) hx hb dX1_peak_94 hl (k := 1) rfl (nI_1 _) (by decide) rfl (fun ls hl => ?_)
          refine lv_goto (tgt := 16) hx hb dX1_peak_97 (by decide) ?_
          exact ih (i + 1) n (by omega) (by omega) (by omega) (by rw [← hRes]; simp [pkF, c_26, c_60]) H locs ls G (lv_sub hl [0, 2, 3, 4, 5] rfl)
        · refine lv_dload hx hb dX1_peak_63 (lv_at hl 0 rfl) ?_
          refine lv_aload_n hx hb dX1_peak_65 rfl (lv_at hl 3 rfl) ?_
          refine mm_get S G 40 (by decide) q1307 rfl (v := .ref (ad 41)) rfl dX1_peak_66 ?_
          refine lv_bipush (v := nI 120) hx hb dX1_peak_69 (by decide) ?_
          refine lv_iload_n hx hb dX1_peak_71 rfl (lv_at hl 4 rfl) ?_
          refine nn_mul hx hb dX1_peak_72 ?_
          refine lv_iload hx hb dX1_peak_73 (lv_at hl 1 rfl) ?_
          refine nn_add hx hb dX1_peak_75 ?_
          refine lv_iconst (v := nI 1) hx hb dX1_peak_76 (by decide) ?_
          refine nn_add hx hb dX1_peak_77 ?_
          refine mm_dald S G 40 2 (by decide) (n := 720) rfl rfl (by omega) (by decide) (v := dAD d 40 (120 * j + (i + 1))) rfl dX1_peak_78 ?_
          refine fx_jllt (tgt := 94) hx hb dX1_peak_79 dX1_peak_80 (by decide) (fun c_80 => ?_) (fun c_80 => ?_)
          · refine lv_iinc (v := nI (i + 1)) (lv' := [(4, .int (nI (i + 1))), (5, .double (dAD d 40 (120 * j + i))), (3, .int (nI n)), (0, .ref (ad 0)), (1, .int (nI j)), (2, .int k)]) hx hb dX1_peak_94 hl (k := 1) rfl (nI_1 _) (by decide) rfl (fun ls hl => ?_)
            refine lv_goto (tgt := 16) hx hb dX1_peak_97 (by decide) ?_
            exact ih (i + 1) n (by omega) (by omega) (by omega) (by rw [← hRes]; simp [pkF, c_26, c_60, c_80]) H locs ls G (lv_sub hl [0, 2, 3, 4, 5] rfl)
          · refine lv_iload_n hx hb dX1_peak_83 rfl (lv_at hl 2 rfl) ?_
            refine lv_iload_n hx hb dX1_peak_84 rfl (lv_at hl 5 rfl) ?_
            refine lv_icmp_ne (tgt := 91) hx hb dX1_peak_85 (by decide) (fun c_85 => ?_) (fun c_85 => ?_)
            · refine lv_iinc (v := nI (n + 1)) (lv' := [(3, .int (nI (n + 1))), (5, .double (dAD d 40 (120 * j + i))), (4, .int (nI i)), (0, .ref (ad 0)), (1, .int (nI j)), (2, .int k)]) hx hb dX1_peak_91 hl (k := 2) rfl (nI_1 _) (by decide) rfl (fun ls hl => ?_)
              refine lv_iinc (v := nI (i + 1)) (lv' := [(4, .int (nI (i + 1))), (3, .int (nI (n + 1))), (5, .double (dAD d 40 (120 * j + i))), (0, .ref (ad 0)), (1, .int (nI j)), (2, .int k)]) hx hb dX1_peak_94 hl (k := 2) rfl (nI_1 _) (by decide) rfl (fun ls hl => ?_)
              refine lv_goto (tgt := 16) hx hb dX1_peak_97 (by decide) ?_
              exact ih (i + 1) (n + 1) (by omega) (by omega) (by omega) (by rw [← hRes]; simp [pkF, c_26, c_60, c_80, c_85]) H locs ls G (lv_sub hl [0, 1, 3, 4, 5] rfl)
            · refine lv_iload hx hb dX1_peak_88 (lv_at hl 1 rfl) ?_
              exact mm_iret S hr hlk G (by rw [← hRes]; simp [pkF, c_26, c_60, c_80, c_85]) rfl rfl dX1_peak_90
  refine lv_aload_n hx hb dX1_peak_0 rfl (lv_at hl 0 rfl) ?_
  refine lv_iload_n hx hb dX1_peak_1 rfl (lv_at hl 1 rfl) ?_
  refine mm_call (As := [.int s]) (rest := []) S G (mt_X1_isStrip l D dA ad C d s) q1690 q1692 qs46 q1693 hd_X1_isStrip ⟨Nat.le_of_ble_eq_true rfl, Nat.le_of_ble_eq_true rfl⟩ rfl hl.1 rfl (Nat.le_of_ble_eq_true rfl) dX1_peak_2 ⟨Nat.zero_le _, Nat.zero_le _⟩ (fun H locs G => ?_)
  refine W.eq (g2 := F0 mid 5 ls [.int (bI (inB s (nI 0) (nI (cZ C) - nI 1)))]) rfl ?_
  refine bb_ne (tgt := 11) hx hb dX1_peak_5 (by decide) (fun c_5 => ?_) (fun c_5 => ?_)
  · obtain ⟨j, hj, rfl⟩ := is_nat c_5 hZ
    have ij_j : ixN (nI j) = j := ixN_nI (by omega)
    have hc := hSm.le j
    refine lv_iconst (v := nI 0) hx hb dX1_peak_11 (by decide) ?_
    refine lv_istore_n (lv' := [(3, .int (nI 0)), (0, .ref (ad 0)), (1, .int (nI j)), (2, .int k)]) hx hb dX1_peak_12 rfl hl (by decide) rfl (fun ls hl => ?_)
    refine lv_iconst (v := nI 1) hx hb dX1_peak_13 (by decide) ?_
    refine lv_istore (lv' := [(4, .int (nI 1)), (3, .int (nI 0)), (0, .ref (ad 0)), (1, .int (nI j)), (2, .int k)]) hx hb dX1_peak_14 hl (by decide) rfl (fun ls hl => ?_)
    refine L1 j hj hc cr_u 1 0 (by omega) (by decide) (by omega) (by simp [crI, pkI, isB, c_5, ij_j]) _ _ ls G (lv_sub hl [0, 1, 2, 3, 4] rfl)
  · refine lv_bipush (v := (-101)) hx hb dX1_peak_8 (by decide) ?_
    exact mm_iret S hr hlk G (by simp [isB, crI, pkI, c_5]) rfl rfl dX1_peak_10
