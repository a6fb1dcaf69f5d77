set_option maxRecDepth 100000
set_option maxHeartbeats 4000000
theorem dX1_halved_0 : decode cX1_halved 0 = .ok (.aload_n 0, 1) := by decide +kernel
theorem dX1_halved_1 : decode cX1_halved 1 = .ok (.iload_n 1, 1) := by decide +kernel
theorem dX1_halved_2 : decode cX1_halved 2 = .ok (.invokevirtual 198, 3) := by decide +kernel
theorem dX1_halved_5 : decode cX1_halved 5 = .ok (.ifCond .eq 20, 3) := by decide +kernel
theorem dX1_halved_8 : decode cX1_halved 8 = .ok (.iload_n 2, 1) := by decide +kernel
theorem dX1_halved_9 : decode cX1_halved 9 = .ok (.iconst 1, 1) := by decide +kernel
theorem dX1_halved_10 : decode cX1_halved 10 = .ok (.bipush 20, 2) := by decide +kernel
theorem dX1_halved_12 : decode cX1_halved 12 = .ok (.invokestatic 161, 3) := by decide +kernel
theorem dX1_halved_15 : decode cX1_halved 15 = .ok (.ifCond .eq 10, 3) := by decide +kernel
theorem dX1_halved_18 : decode cX1_halved 18 = .ok (.aload_n 0, 1) := by decide +kernel
theorem dX1_halved_19 : decode cX1_halved 19 = .ok (.getfield 195, 3) := by decide +kernel
theorem dX1_halved_22 : decode cX1_halved 22 = .ok (.ifCond .ne 5, 3) := by decide +kernel
theorem dX1_halved_25 : decode cX1_halved 25 = .ok (.lconst 0, 1) := by decide +kernel
theorem dX1_halved_26 : decode cX1_halved 26 = .ok (.lreturn, 1) := by decide +kernel
theorem dX1_halved_27 : decode cX1_halved 27 = .ok (.aload_n 0, 1) := by decide +kernel
theorem dX1_halved_28 : decode cX1_halved 28 = .ok (.invokevirtual 365, 3) := by decide +kernel
theorem dX1_halved_31 : decode cX1_halved 31 = .ok (.dconst 0, 1) := by decide +kernel
theorem dX1_halved_32 : decode cX1_halved 32 = .ok (.dstore_n 3, 1) := by decide +kernel
theorem dX1_halved_33 : decode cX1_halved 33 = .ok (.iconst 1, 1) := by decide +kernel
theorem dX1_halved_34 : decode cX1_halved 34 = .ok (.istore 5, 2) := by decide +kernel
theorem dX1_halved_36 : decode cX1_halved 36 = .ok (.iload 5, 2) := by decide +kernel
theorem dX1_halved_38 : decode cX1_halved 38 = .ok (.iload_n 2, 1) := by decide +kernel
theorem dX1_halved_39 : decode cX1_halved 39 = .ok (.if_icmp .gt 81, 3) := by decide +kernel
theorem dX1_halved_42 : decode cX1_halved 42 = .ok (.aload_n 0, 1) := by decide +kernel
theorem dX1_halved_43 : decode cX1_halved 43 = .ok (.iload_n 1, 1) := by decide +kernel
theorem dX1_halved_44 : decode cX1_halved 44 = .ok (.iload 5, 2) := by decide +kernel
theorem dX1_halved_46 : decode cX1_halved 46 = .ok (.aload_n 0, 1) := by decide +kernel
theorem dX1_halved_47 : decode cX1_halved 47 = .ok (.aload_n 0, 1) := by decide +kernel
theorem dX1_halved_48 : decode cX1_halved 48 = .ok (.getfield 42, 3) := by decide +kernel
theorem dX1_halved_51 : decode cX1_halved 51 = .ok (.invokevirtual 344, 3) := by decide +kernel
theorem dX1_halved_54 : decode cX1_halved 54 = .ok (.invokevirtual 371, 3) := by decide +kernel
theorem dX1_halved_57 : decode cX1_halved 57 = .ok (.dstore 6, 2) := by decide +kernel
theorem dX1_halved_59 : decode cX1_halved 59 = .ok (.dload 6, 2) := by decide +kernel
theorem dX1_halved_61 : decode cX1_halved 61 = .ok (.aload_n 0, 1) := by decide +kernel
theorem dX1_halved_62 : decode cX1_halved 62 = .ok (.iload_n 1, 1) := by decide +kernel
theorem dX1_halved_63 : decode cX1_halved 63 = .ok (.iconst 2, 1) := by decide +kernel
theorem dX1_halved_64 : decode cX1_halved 64 = .ok (.iload 5, 2) := by decide +kernel
theorem dX1_halved_66 : decode cX1_halved 66 = .ok (.imul, 1) := by decide +kernel
theorem dX1_halved_67 : decode cX1_halved 67 = .ok (.aload_n 0, 1) := by decide +kernel
theorem dX1_halved_68 : decode cX1_halved 68 = .ok (.aload_n 0, 1) := by decide +kernel
theorem dX1_halved_69 : decode cX1_halved 69 = .ok (.getfield 42, 3) := by decide +kernel
theorem dX1_halved_72 : decode cX1_halved 72 = .ok (.iconst 1, 1) := by decide +kernel
theorem dX1_halved_73 : decode cX1_halved 73 = .ok (.iadd, 1) := by decide +kernel
theorem dX1_halved_74 : decode cX1_halved 74 = .ok (.invokevirtual 344, 3) := by decide +kernel
theorem dX1_halved_77 : decode cX1_halved 77 = .ok (.invokevirtual 371, 3) := by decide +kernel
theorem dX1_halved_80 : decode cX1_halved 80 = .ok (.dsub, 1) := by decide +kernel
theorem dX1_halved_81 : decode cX1_halved 81 = .ok (.dstore 8, 2) := by decide +kernel
theorem dX1_halved_83 : decode cX1_halved 83 = .ok (.dload 8, 2) := by decide +kernel
theorem dX1_halved_85 : decode cX1_halved 85 = .ok (.dconst 0, 1) := by decide +kernel
theorem dX1_halved_86 : decode cX1_halved 86 = .ok (.dcmp .g, 1) := by decide +kernel
theorem dX1_halved_87 : decode cX1_halved 87 = .ok (.ifCond .ge 9, 3) := by decide +kernel
theorem dX1_halved_90 : decode cX1_halved 90 = .ok (.dload 8, 2) := by decide +kernel
theorem dX1_halved_92 : decode cX1_halved 92 = .ok (.dneg, 1) := by decide +kernel
theorem dX1_halved_93 : decode cX1_halved 93 = .ok (.goto 5, 3) := by decide +kernel
theorem dX1_halved_96 : decode cX1_halved 96 = .ok (.dload 8, 2) := by decide +kernel
theorem dX1_halved_98 : decode cX1_halved 98 = .ok (.dstore 8, 2) := by decide +kernel
theorem dX1_halved_100 : decode cX1_halved 100 = .ok (.dload 8, 2) := by decide +kernel
theorem dX1_halved_102 : decode cX1_halved 102 = .ok (.dload_n 3, 1) := by decide +kernel
theorem dX1_halved_103 : decode cX1_halved 103 = .ok (.dcmp .l, 1) := by decide +kernel
theorem dX1_halved_104 : decode cX1_halved 104 = .ok (.ifCond .le 8, 3) := by decide +kernel
theorem dX1_halved_107 : decode cX1_halved 107 = .ok (.dload 8, 2) := by decide +kernel
theorem dX1_halved_109 : decode cX1_halved 109 = .ok (.goto 4, 3) := by decide +kernel
theorem dX1_halved_112 : decode cX1_halved 112 = .ok (.dload_n 3, 1) := by decide +kernel
theorem dX1_halved_113 : decode cX1_halved 113 = .ok (.dstore_n 3, 1) := by decide +kernel
theorem dX1_halved_114 : decode cX1_halved 114 = .ok (.iinc 5 1, 3) := by decide +kernel
theorem dX1_halved_117 : decode cX1_halved 117 = .ok (.goto (-81), 3) := by decide +kernel
theorem dX1_halved_120 : decode cX1_halved 120 = .ok (.aload_n 0, 1) := by decide +kernel
theorem dX1_halved_121 : decode cX1_halved 121 = .ok (.invokevirtual 375, 3) := by decide +kernel
theorem dX1_halved_124 : decode cX1_halved 124 = .ok (.dload_n 3, 1) := by decide +kernel
theorem dX1_halved_125 : decode cX1_halved 125 = .ok (.invokestatic 250, 3) := by decide +kernel
theorem dX1_halved_128 : decode cX1_halved 128 = .ok (.lreturn, 1) := by decide +kernel
theorem hd_X1_back : yX1_back.cls = RX1 ∧ yX1_back.cls ≠ "java/lang/invoke/MethodHandle" ∧ yX1_back.cls ≠ "java/lang/invoke/VarHandle" ∧ (parseMethodDescriptor yX1_back.desc).map (fun d => d.parameters.length) = some 0 := by decide +kernel
theorem hd_X1_keep : yX1_keep.cls = RX1 ∧ yX1_keep.cls ≠ "java/lang/invoke/MethodHandle" ∧ yX1_keep.cls ≠ "java/lang/invoke/VarHandle" ∧ (parseMethodDescriptor yX1_keep.desc).map (fun d => d.parameters.length) = some 0 := by decide +kernel
theorem hd_X1_tried : yX1_tried.cls = RX1 ∧ yX1_tried.cls ≠ "java/lang/invoke/MethodHandle" ∧ yX1_tried.cls ≠ "java/lang/invoke/VarHandle" ∧ (parseMethodDescriptor yX1_tried.desc).map (fun d => d.parameters.length) = some 3 := by decide +kernel
theorem mt_X1_halved (l : Launch) (D : va_G) (dA : Nat → ClassId) (ad : Nat → Nat) (C : tp_C) (d : md_T) (q : Int32) (n : Int32) (hC : mOK C) (hV : vOK C) (hW : vfOK C) (hA : (¬ cM C = 0 → aOK C)) (hDl : dlOK C) (hL : lvOK (dAI d 10)) (hI : iOK C (dAI d 10) d) : mC l D dA ad yX1_halved cX1_halved 10 (some .long) 7 [.int q, .int n] C d (some (.long (haL C d q n))) C (haD C d q n) := by
  refine mm_start (by decide) rfl (Nat.le_of_ble_eq_true rfl) ?_
  intro p0 e0 s0 mid bl0 me0 co0 ls S hr hlk G hl
  have hx := S.1; have hb := S.2.1; have hml := S.2.2.1; have hown := S.2.2.2.1; have hts := S.2.2.2.2
  have hl : lv_has ls 10 [(0, .ref (ad 0)), (1, .int q), (2, .int n)] := hl
  have hN := hC.n
  have hMo := hC.mo
  have hH := hC.hv
  have L1 : ∀ (q1 n1 : Nat) (hq1 : q1 < cN C) (hn1 : n1 ≤ 20) (hAA : aOK C) (n_ i : Nat), i ≤ n1 → n1 < i + n_ → ∀ (H : Heap) (locs : List Loc) (ls : Array Slot), mG D dA ad C ((haN C q1 i d).2) s0 H locs → lv_has ls 10 [(5, .int (nI (i + 1))), (3, .double ((haN C q1 i d).1)), (0, .ref (ad 0)), (1, .int (nI q1)), (2, .int (nI n1))] → (∀ (H : Heap) (locs : List Loc) (ls : Array Slot), mG D dA ad C ((haN C q1 n1 d).2) s0 H locs → lv_has ls 10 [(5, .int (nI (n1 + 1))), (3, .double ((haN C q1 n1 d).1)), (0, .ref (ad 0)), (1, .int (nI q1)), (2, .int (nI n1))] → W p0 l e0 (rm_ 7) s0 mid (Value.ref (ad 0) :: [.int q, .int n]).toArray bl0 me0 co0 H locs 0 0 (MQ bl0 (mQ D dA ad (some (.long (haL C d q n))) C (haD C d q n)) (Value.ref (ad 0) :: [.int q, .int n]).toArray s0 0 0 (mA ad)) (F0 mid 120 ls [])) → W p0 l e0 (rm_ 7) s0 mid (Value.ref (ad 0) :: [.int q, .int n]).toArray bl0 me0 co0 H locs 0 0 (MQ bl0 (mQ D dA ad (some (.long (haL C d q n))) C (haD C d q n)) (Value.ref (ad 0) :: [.int q, .int n]).toArray s0 0 0 (mA ad)) (F0 mid 36 ls []) := by
    intro q1 n1 hq1 hn1 hAA n_
    induction n_ with
    | zero => intro i h1_ h2_; exact absurd h2_ (by omega)
    | succ n_ ih =>
      intro i h1_ h2_ H locs ls G hl kk
      obtain ⟨⟨i1, l1⟩, v1⟩ := haN_ok (q := q1) hC hV hW hAA hL hI i
      refine lv_iload hx hb dX1_halved_36 (lv_at hl 0 rfl) ?_
      refine lv_iload_n hx hb dX1_halved_38 rfl (lv_at hl 4 rfl) ?_
      refine nn_cgt (tgt := 120) hx hb (by omega) (by omega) dX1_halved_39 (by decide) (fun c_39 => ?_) (fun c_39 => ?_)
      · have hiN : i = n1 := by omega
        subst hiN
        exact kk H locs ls G (lv_sub hl [0, 1, 2, 3, 4] rfl)
      · refine lv_aload_n hx hb dX1_halved_42 rfl (lv_at hl 2 rfl) ?_
        refine lv_iload_n hx hb dX1_halved_43 rfl (lv_at hl 3 rfl) ?_
        refine lv_iload hx hb dX1_halved_44 (lv_at hl 0 rfl) ?_
        refine lv_aload_n hx hb dX1_halved_46 rfl (lv_at hl 2 rfl) ?_
        refine lv_aload_n hx hb dX1_halved_47 rfl (lv_at hl 2 rfl) ?_
        refine mm_get S G 14 (by decide) q1281 rfl (v := .int (nI (cH C))) rfl dX1_halved_48 ?_
        refine mm_call (As := [.int (nI (cH C))]) (rest := [.int (nI (i + 1)), .int (nI q1), .ref (ad 0)]) S G (mt_X1_lengthOf l D dA ad C ((haN C q1 i d).2) (cH C) (by omega)) q1623 q1625 qs40 q1626 hd_X1_lengthOf ⟨Nat.le_of_ble_eq_true rfl, Nat.le_of_ble_eq_true rfl⟩ rfl hl.1 rfl (Nat.le_of_ble_eq_true rfl) dX1_halved_51 ⟨Nat.zero_le _, Nat.zero_le _⟩ (fun H locs G => ?_)
        refine W.eq (g2 := F0 mid 54 ls [.double (hvT (cH C)), .int (nI (i + 1)), .int (nI q1), .ref (ad 0)]) rfl ?_
        refine mm_call (As := [.int (nI q1), .int (nI (i + 1)), .double (hvT (cH C))]) (rest := []) S G (mt_X1_tried l D dA ad C ((haN C q1 i d).2) q1 (i + 1) (hvT (cH C)) hC hV hW hAA hDl l1 i1 (by omega) (by omega) (hv_ok (k := cH C) (by omega)) (hv_ok (k := cH C + 1) (by omega))) q1714 q1716 qs48 q1717 hd_X1_tried ⟨Nat.le_of_ble_eq_true rfl, Nat.le_of_ble_eq_true rfl⟩ rfl hl.1 rfl (Nat.le_of_ble_eq_true rfl) dX1_halved_54 ⟨Nat.zero_le _, Nat.zero_le _⟩ (fun H locs G => ?_)
        refine W.eq (g2 := F0 mid 57 ls [.double (dAD (trN C (hvT (cH C)) (i + 1) ((haN C q1 i d).2)) 19 q1)]) rfl ?_
        have G : mG D dA ad C (ha1 C (i + 1) (haN C q1 i d).2) s0 H locs := G
        obtain ⟨i2, l2⟩ := tr_ok (t := hvT (cH C)) hC hV hW hAA (hv_ok (by omega)) (hv_ok (k := cH C + 1) (by omega)) l1 i1 (i + 1)
        refine w_st (st' := [.double (dAD (ha1 C (i + 1) (haN C q1 i d).2) 19 q1)]) (by rfl) ?_
        refine lv_dstore (lv' := [(6, .double (dAD (ha1 C (i + 1) (haN C q1 i d).2) 19 q1)), (5, .int (nI (i + 1))), (3, .double ((haN C q1 i d).1)), (0, .ref (ad 0)), (1, .int (nI q1)), (2, .int (nI n1))]) hx hb dX1_halved_57 hl (by decide) rfl (fun ls hl => ?_)
        refine lv_dload hx hb dX1_halved_59 (lv_at hl 0 rfl) ?_
        refine lv_aload_n hx hb dX1_halved_61 rfl (lv_at hl 3 rfl) ?_
        refine lv_iload_n hx hb dX1_halved_62 rfl (lv_at hl 4 rfl) ?_
        refine lv_iconst (v := nI 2) hx hb dX1_halved_63 (by decide) ?_
        refine lv_iload hx hb dX1_halved_64 (lv_at hl 1 rfl) ?_
        refine nn_mul hx hb dX1_halved_66 ?_
        refine lv_aload_n hx hb dX1_halved_67 rfl (lv_at hl 3 rfl) ?_
        refine lv_aload_n hx hb dX1_halved_68 rfl (lv_at hl 3 rfl) ?_
        refine mm_get S G 14 (by decide) q1281 rfl (v := .int (nI (cH C))) rfl dX1_halved_69 ?_
        refine lv_iconst (v := nI 1) hx hb dX1_halved_72 (by decide) ?_
        refine nn_add hx hb dX1_halved_73 ?_
        refine mm_call (As := [.int (nI (cH C + 1))]) (rest := [.int (nI (2 * (i + 1))), .int (nI q1), .ref (ad 0), .double (dAD (ha1 C (i + 1) (haN C q1 i d).2) 19 q1)]) S G (mt_X1_lengthOf l D dA ad C (ha1 C (i + 1) (haN C q1 i d).2) (cH C + 1) (by omega)) q1623 q1625 qs40 q1626 hd_X1_lengthOf ⟨Nat.le_of_ble_eq_true rfl, Nat.le_of_ble_eq_true rfl⟩ rfl hl.1 rfl (Nat.le_of_ble_eq_true rfl) dX1_halved_74 ⟨Nat.zero_le _, Nat.zero_le _⟩ (fun H locs G => ?_)
        refine W.eq (g2 := F0 mid 77 ls [.double (hvT (cH C + 1)), .int (nI (2 * (i + 1))), .int (nI q1), .ref (ad 0), .double (dAD (ha1 C (i + 1) (haN C q1 i d).2) 19 q1)]) rfl ?_
        refine mm_call (As := [.int (nI q1), .int (nI (2 * (i + 1))), .double (hvT (cH C + 1))]) (rest := [.double (dAD (ha1 C (i + 1) (haN C q1 i d).2) 19 q1)]) S G (mt_X1_tried l D dA ad C (ha1 C (i + 1) (haN C q1 i d).2) q1 (2 * (i + 1)) (hvT (cH C + 1)) hC hV hW hAA hDl l2 i2 (by omega) (by omega) (hv_ok (k := cH C + 1) (by omega)) (hv_ok (k := cH C + 1 + 1) (by omega))) q1714 q1716 qs48 q1717 hd_X1_tried ⟨Nat.le_of_ble_eq_true rfl, Nat.le_of_ble_eq_true rfl⟩ rfl hl.1 rfl (Nat.le_of_ble_eq_true rfl) dX1_halved_77 ⟨Nat.zero_le _, Nat.zero_le _⟩ (fun H locs G => ?_)
        refine W.eq (g2 := F0 mid 80 ls [.double (dAD (trN C (hvT (cH C + 1)) (2 * (i + 1)) (ha1 C (i + 1) (haN C q1 i d).2)) 19 q1), .double (dAD (ha1 C (i + 1) (haN C q1 i d).2) 19 q1)]) rfl ?_
        have G : mG D dA ad C (ha2 C (i + 1) (haN C q1 i d).2) s0 H locs := G
        obtain ⟨i3, l3⟩ := tr_ok (t := hvT (cH C + 1)) hC hV hW hAA (hv_ok (by omega)) (hv_ok (k := cH C + 1 + 1) (by omega)) l2 i2 (2 * (i + 1))
        refine w_st (st' := [.double (dAD (ha2 C (i + 1) (haN C q1 i d).2) 19 q1), .double (dAD (ha1 C (i + 1) (haN C q1 i d).2) 19 q1)]) (by rfl) ?_
        refine lv_dsub hx hb dX1_halved_80 (nD_sub (i2.r.rd q1) (i3.r.rd q1)) ?_
        refine w_st (st' := [.double (haV C q1 (i + 1) (haN C q1 i d).2)]) (by rfl) ?_
        refine lv_dstore (lv' := [(8, .double (haV C q1 (i + 1) (haN C q1 i d).2)), (6, .double (dAD (ha1 C (i + 1) (haN C q1 i d).2) 19 q1)), (5, .int (nI (i + 1))), (3, .double ((haN C q1 i d).1)), (0, .ref (ad 0)), (1, .int (nI q1)), (2, .int (nI n1))]) hx hb dX1_halved_81 hl (by decide) rfl (fun ls hl => ?_)
        refine lv_dload hx hb dX1_halved_83 (lv_at hl 0 rfl) ?_
        refine lv_dconst0 hx hb dX1_halved_85 ?_
        refine fx_jgge (tgt := 96) hx hb dX1_halved_86 dX1_halved_87 (by decide) (fun c_87 => ?_) (fun c_87 => ?_)
        · refine lv_dload hx hb dX1_halved_96 (lv_at hl 0 rfl) ?_
          refine w_st (st' := [.double (haA C q1 (i + 1) (haN C q1 i d).2)]) (by simp [haA, c_39, c_87]) ?_
          refine lv_dstore (lv' := [(8, .double (haA C q1 (i + 1) (haN C q1 i d).2)), (6, .double (dAD (ha1 C (i + 1) (haN C q1 i d).2) 19 q1)), (5, .int (nI (i + 1))), (3, .double ((haN C q1 i d).1)), (0, .ref (ad 0)), (1, .int (nI q1)), (2, .int (nI n1))]) hx hb dX1_halved_98 hl (by decide) rfl (fun ls hl => ?_)
          refine lv_dload hx hb dX1_halved_100 (lv_at hl 0 rfl) ?_
          refine lv_dload_n hx hb dX1_halved_102 rfl (lv_at hl 3 rfl) ?_
          refine fx_jlle (tgt := 112) hx hb dX1_halved_103 dX1_halved_104 (by decide) (fun c_104 => ?_) (fun c_104 => ?_)
          · refine lv_dload_n hx hb dX1_halved_112 rfl (lv_at hl 3 rfl) ?_
            refine lv_dstore_n (lv' := [(3, .double ((haN C q1 i d).1)), (8, .double (haA C q1 (i + 1) (haN C q1 i d).2)), (6, .double (dAD (ha1 C (i + 1) (haN C q1 i d).2) 19 q1)), (5, .int (nI (i + 1))), (0, .ref (ad 0)), (1, .int (nI q1)), (2, .int (nI n1))]) hx hb dX1_halved_113 rfl hl (by decide) rfl (fun ls hl => ?_)
            refine lv_iinc (v := nI (i + 1 + 1)) (lv' := [(5, .int (nI (i + 1 + 1))), (3, .double ((haN C q1 i d).1)), (8, .double (haA C q1 (i + 1) (haN C q1 i d).2)), (6, .double (dAD (ha1 C (i + 1) (haN C q1 i d).2) 19 q1)), (0, .ref (ad 0)), (1, .int (nI q1)), (2, .int (nI n1))]) hx hb dX1_halved_114 hl (k := 3) rfl (nI_1 _) (by decide) rfl (fun ls hl => ?_)
            refine lv_goto (tgt := 36) hx hb dX1_halved_117 (by decide) ?_
            exact ih (i + 1) (by omega) (by omega) H locs ls (mG_d (by rfl) G) (lv_eq (lv_sub (l' := [(5, .int (nI (i + 1 + 1))), (3, .double ((haN C q1 i d).1)), (0, .ref (ad 0)), (1, .int (nI q1)), (2, .int (nI n1))]) hl [0, 1, 4, 5, 6] rfl) (by simp [haN_s, haS, c_39, c_87, c_104])) kk
          · refine lv_dload hx hb dX1_halved_107 (lv_at hl 0 rfl) ?_
            refine lv_goto (tgt := 113) hx hb dX1_halved_109 (by decide) ?_
            refine lv_dstore_n (lv' := [(3, .double (haA C q1 (i + 1) (haN C q1 i d).2)), (8, .double (haA C q1 (i + 1) (haN C q1 i d).2)), (6, .double (dAD (ha1 C (i + 1) (haN C q1 i d).2) 19 q1)), (5, .int (nI (i + 1))), (0, .ref (ad 0)), (1, .int (nI q1)), (2, .int (nI n1))]) hx hb dX1_halved_113 rfl hl (by decide) rfl (fun ls hl => ?_)
            refine lv_iinc (v := nI (i + 1 + 1)) (lv' := [(5, .int (nI (i + 1 + 1))), (3, .double (haA C q1 (i + 1) (haN C q1 i d).2)), (8, .double (haA C q1 (i + 1) (haN C q1 i d).2)), (6, .double (dAD (ha1 C (i + 1) (haN C q1 i d).2) 19 q1)), (0, .ref (ad 0)), (1, .int (nI q1)), (2, .int (nI n1))]) hx hb dX1_halved_114 hl (k := 3) rfl (nI_1 _) (by decide) rfl (fun ls hl => ?_)
            refine lv_goto (tgt := 36) hx hb dX1_halved_117 (by decide) ?_
            exact ih (i + 1) (by omega) (by omega) H locs ls (mG_d (by rfl) G) (lv_eq (lv_sub (l' := [(5, .int (nI (i + 1 + 1))), (3, .double (haA C q1 (i + 1) (haN C q1 i d).2)), (0, .ref (ad 0)), (1, .int (nI q1)), (2, .int (nI n1))]) hl [0, 1, 4, 5, 6] rfl) (by simp [haN_s, haS, c_39, c_87, c_104])) kk
        · refine lv_dload hx hb dX1_halved_90 (lv_at hl 0 rfl) ?_
          refine lv_dneg hx hb dX1_halved_92 ?_
          refine w_st (st' := [.double (haA C q1 (i + 1) (haN C q1 i d).2)]) (by simp [haA, c_39, c_87]) ?_
          refine lv_goto (tgt := 98) hx hb dX1_halved_93 (by decide) ?_
          refine lv_dstore (lv' := [(8, .double (haA C q1 (i + 1) (haN C q1 i d).2)), (6, .double (dAD (ha1 C (i + 1) (haN C q1 i d).2) 19 q1)), (5, .int (nI (i + 1))), (3, .double ((haN C q1 i d).1)), (0, .ref (ad 0)), (1, .int (nI q1)), (2, .int (nI n1))]) hx hb dX1_halved_98 hl (by decide) rfl (fun ls hl => ?_)
          refine lv_dload hx hb dX1_halved_100 (lv_at hl 0 rfl) ?_
          refine lv_dload_n hx hb dX1_halved_102 rfl (lv_at hl 3 rfl) ?_
          refine fx_jlle (tgt := 112) hx hb dX1_halved_103 dX1_halved_104 (by decide) (fun c_104 => ?_) (fun c_104 => ?_)
          · refine lv_dload_n hx hb dX1_halved_112 rfl (lv_at hl 3 rfl) ?_
            refine lv_dstore_n (lv' := [(3, .double ((haN C q1 i d).1)), (8, .double (haA C q1 (i + 1) (haN C q1 i d).2)), (6, .double (dAD (ha1 C (i + 1) (haN C q1 i d).2) 19 q1)), (5, .int (nI (i + 1))), (0, .ref (ad 0)), (1, .int (nI q1)), (2, .int (nI n1))]) hx hb dX1_halved_113 rfl hl (by decide) rfl (fun ls hl => ?_)
            refine lv_iinc (v := nI (i + 1 + 1)) (lv' := [(5, .int (nI (i + 1 + 1))), (3, .double ((haN C q1 i d).1)), (8, .double (haA C q1 (i + 1) (haN C q1 i d).2)), (6, .double (dAD (ha1 C (i + 1) (haN C q1 i d).2) 19 q1)), (0, .ref (ad 0)), (1, .int (nI q1)), (2, .int (nI n1))]) hx hb dX1_halved_114 hl (k := 3) rfl (nI_1 _) (by decide) rfl (fun ls hl => ?_)
            refine lv_goto (tgt := 36) hx hb dX1_halved_117 (by decide) ?_
            exact ih (i + 1) (by omega) (by omega) H locs ls (mG_d (by rfl) G) (lv_eq (lv_sub (l' := [(5, .int (nI (i + 1 + 1))), (3, .double ((haN C q1 i d).1)), (0, .ref (ad 0)), (1, .int (nI q1)), (2, .int (nI n1))]) hl [0, 1, 4, 5, 6] rfl) (by simp [haN_s, haS, c_39, c_87, c_104])) kk
          · refine lv_dload hx hb dX1_halved_107 (lv_at hl 0 rfl) ?_
            refine lv_goto (tgt := 113) hx hb dX1_halved_109 (by decide) ?_
            refine lv_dstore_n (lv' := [(3, .double (haA C q1 (i + 1) (haN C q1 i d).2)), (8, .double (haA C q1 (i + 1) (haN C q1 i d).2)), (6, .double (dAD (ha1 C (i + 1) (haN C q1 i d).2) 19 q1)), (5, .int (nI (i + 1))), (0, .ref (ad 0)), (1, .int (nI q1)), (2, .int (nI n1))]) hx hb dX1_halved_113 rfl hl (by decide) rfl (fun ls hl => ?_)
            refine lv_iinc (v := nI (i + 1 + 1)) (lv' := [(5, .int (nI (i + 1 + 1))), (3, .double (haA C q1 (i + 1) (haN C q1 i d).2)), (8, .double (haA C q1 (i + 1) (haN C q1 i d).2)), (6, .double (dAD (ha1 C (i + 1) (haN C q1 i d).2) 19 q1)), (0, .ref (ad 0)), (1, .int (nI q1)), (2, .int (nI n1))]) hx hb dX1_halved_114 hl (k := 3) rfl (nI_1 _) (by decide) rfl (fun ls hl => ?_)
            refine lv_goto (tgt := 36) hx hb dX1_halved_117 (by decide) ?_
            exact ih (i + 1) (by omega) (by omega) H locs ls (mG_d (by rfl) G) (lv_eq (lv_sub (l' := [(5, .int (nI (i + 1 + 1))), (3, .double (haA C q1 (i + 1) (haN C q1 i d).2)), (0, .ref (ad 0)), (1, .int (nI q1)), (2, .int (nI n1))]) hl [0, 1, 4, 5, 6] rfl) (by simp [haN_s, haS, c_39, c_87, c_104])) kk
  refine lv_aload_n hx hb dX1_halved_0 rfl (lv_at hl 0 rfl) ?_
  refine lv_iload_n hx hb dX1_halved_1 rfl (lv_at hl 1 rfl) ?_
  refine mm_call (As := [.int q]) (rest := []) S G (mt_X1_isModule l D dA ad C d q) q1478 q1480 qs19 q1481 hd_X1_isModule ⟨Nat.le_of_ble_eq_true rfl, Nat.le_of_ble_eq_true rfl⟩ rfl hl.1 rfl (Nat.le_of_ble_eq_true rfl) dX1_halved_2 ⟨Nat.zero_le _, Nat.zero_le _⟩ (fun H locs G => ?_)
  refine W.eq (g2 := F0 mid 5 ls [.int (bI (inB q (nI 0) (nI (cN C) - nI 1)))]) rfl ?_
  refine bb_eq (tgt := 25) hx hb dX1_halved_5 (by decide) (fun c_5 => ?_) (fun c_5 => ?_)
  · refine lv_lconst (v := 0) hx hb dX1_halved_25 (by decide) ?_
    exact mm_lret S hr hlk G (by simp [haL, haD, haO, imB, c_5]) rfl (by simp [haL, haD, haO, imB, c_5]) dX1_halved_26
  · obtain ⟨q1, hq1, rfl⟩ := im_nat c_5 hN
    have ij_q1 : ixN (nI q1) = q1 := ixN_nI (by omega)
    refine lv_iload_n hx hb dX1_halved_8 rfl (lv_at hl 2 rfl) ?_
    refine lv_iconst (v := nI 1) hx hb dX1_halved_9 (by decide) ?_
    refine lv_bipush (v := nI 20) hx hb dX1_halved_10 (by decide) ?_
    refine sC_call (As := [.int n, .int (nI 1), .int (nI 20)]) (rest := []) S (st_X1_in l n (nI 1) (nI 20)) q1455 q1456 q53 q1457 hd_X1_in ⟨Nat.le_of_ble_eq_true rfl, Nat.le_of_ble_eq_true rfl⟩ rfl hl.1 rfl (Nat.le_of_ble_eq_true rfl) dX1_halved_12 ⟨Nat.zero_le _, Nat.zero_le _⟩ ?_
    refine W.eq (g2 := F0 mid 15 ls [.int (bI (inB n (nI 1) (nI 20)))]) rfl ?_
    refine bb_eq (tgt := 25) hx hb dX1_halved_15 (by decide) (fun c_15 => ?_) (fun c_15 => ?_)
    · refine lv_lconst (v := 0) hx hb dX1_halved_25 (by decide) ?_
      exact mm_lret S hr hlk G (by simp [haL, haD, haO, imB, c_5, ij_q1, c_15]) rfl (by simp [haL, haD, haO, imB, c_5, ij_q1, c_15]) dX1_halved_26
    · obtain ⟨n1, hn0, hn1, rfl⟩ := in_nat c_15 (by decide) (by decide)
      have ij_n1 : ixN (nI n1) = n1 := ixN_nI (by omega)
      refine lv_aload_n hx hb dX1_halved_18 rfl (lv_at hl 0 rfl) ?_
      refine mm_get S G 11 (by decide) q1278 rfl (v := .int (nI (cM C))) rfl dX1_halved_19 ?_
      refine nz_ne (tgt := 27) hx hb (by omega) dX1_halved_22 (by decide) (fun c_22 => ?_) (fun c_22 => ?_)
      · refine lv_aload_n hx hb dX1_halved_27 rfl (lv_at hl 0 rfl) ?_
        refine mm_call (As := []) (rest := []) S G (mt_X1_keep l D dA ad C d ) q1710 q1712 qs47 q1713 hd_X1_keep ⟨Nat.le_of_ble_eq_true rfl, Nat.le_of_ble_eq_true rfl⟩ rfl hl.1 rfl (Nat.le_of_ble_eq_true rfl) dX1_halved_28 ⟨Nat.zero_le _, Nat.zero_le _⟩ (fun H locs G => ?_)
        refine W.eq (g2 := F0 mid 31 ls []) rfl ?_
        refine lv_dconst0 hx hb dX1_halved_31 ?_
        refine lv_dstore_n (lv' := [(3, .double FP.dconst0), (0, .ref (ad 0)), (1, .int (nI q1)), (2, .int (nI n1))]) hx hb dX1_halved_32 rfl hl (by decide) rfl (fun ls hl => ?_)
        refine lv_iconst (v := nI 1) hx hb dX1_halved_33 (by decide) ?_
        refine lv_istore (lv' := [(5, .int (nI 1)), (3, .double FP.dconst0), (0, .ref (ad 0)), (1, .int (nI q1)), (2, .int (nI n1))]) hx hb dX1_halved_34 hl (by decide) rfl (fun ls hl => ?_)
        refine L1 q1 n1 hq1 hn1 (hA c_22) (n1 + 1) 0 (by omega) (by omega) _ _ ls (mG_d (by rfl) G) (lv_eq (lv_sub (l' := [(5, .int (nI 1)), (3, .double FP.dconst0), (0, .ref (ad 0)), (1, .int (nI q1)), (2, .int (nI n1))]) hl [0, 1, 2, 3, 4] rfl) (by rfl)) (fun H locs ls G hl => ?_)
        refine lv_aload_n hx hb dX1_halved_120 rfl (lv_at hl 2 rfl) ?_
        refine mm_call (As := []) (rest := []) S G (mt_X1_back l D dA ad C ((haN C q1 n1 d).2) ) q1718 q1720 qs49 q1721 hd_X1_back ⟨Nat.le_of_ble_eq_true rfl, Nat.le_of_ble_eq_true rfl⟩ rfl hl.1 rfl (Nat.le_of_ble_eq_true rfl) dX1_halved_121 ⟨Nat.zero_le _, Nat.zero_le _⟩ (fun H locs G => ?_)
        refine W.eq (g2 := F0 mid 124 ls []) rfl ?_
        refine lv_dload_n hx hb dX1_halved_124 rfl (lv_at hl 1 rfl) ?_
        refine sC_call (As := [.double ((haN C q1 n1 d).1)]) (rest := []) S (st_J0_doubleToLongBits l ((haN C q1 n1 d).1) (haN_ok hC hV hW (hA c_22) hL hI n1).2) q1569 q1156 q55 q1157 hd_J0_doubleToLongBits ⟨Nat.le_of_ble_eq_true rfl, Nat.le_of_ble_eq_true rfl⟩ rfl hl.1 rfl (Nat.le_of_ble_eq_true rfl) dX1_halved_125 ⟨Nat.zero_le _, Nat.zero_le _⟩ ?_
        refine W.eq (g2 := F0 mid 128 ls [.long ((((haN C q1 n1 d).1)).toInt64)]) rfl ?_
        exact mm_lret S hr hlk G (by simp [haL, haD, haO, imB, c_5, ij_q1, c_15, ij_n1, c_22]) rfl (by simp [haL, haD, haO, imB, c_5, ij_q1, c_15, ij_n1, c_22]) dX1_halved_128
      · refine lv_lconst (v := 0) hx hb dX1_halved_25 (by decide) ?_
        exact mm_lret S hr hlk G (by simp [haL, haD, haO, imB, c_5, ij_q1, c_15, ij_n1, c_22]) rfl (by simp [haL, haD, haO, imB, c_5, ij_q1, c_15, ij_n1, c_22]) dX1_halved_26
