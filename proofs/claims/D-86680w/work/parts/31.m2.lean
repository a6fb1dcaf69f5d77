set_option maxRecDepth 100000
set_option maxHeartbeats 4000000
theorem dX1_sum_0 : decode cX1_sum 0 = .ok (.dconst 0, 1) := by decide +kernel
theorem dX1_sum_1 : decode cX1_sum 1 = .ok (.dstore_n 2, 1) := by decide +kernel
theorem dX1_sum_2 : decode cX1_sum 2 = .ok (.iconst 1, 1) := by decide +kernel
theorem dX1_sum_3 : decode cX1_sum 3 = .ok (.istore 4, 2) := by decide +kernel
theorem dX1_sum_5 : decode cX1_sum 5 = .ok (.iconst 0, 1) := by decide +kernel
theorem dX1_sum_6 : decode cX1_sum 6 = .ok (.istore 5, 2) := by decide +kernel
theorem dX1_sum_8 : decode cX1_sum 8 = .ok (.iload 5, 2) := by decide +kernel
theorem dX1_sum_10 : decode cX1_sum 10 = .ok (.bipush 6, 2) := by decide +kernel
theorem dX1_sum_12 : decode cX1_sum 12 = .ok (.if_icmp .ge 47, 3) := by decide +kernel
theorem dX1_sum_15 : decode cX1_sum 15 = .ok (.aload_n 0, 1) := by decide +kernel
theorem dX1_sum_16 : decode cX1_sum 16 = .ok (.iload_n 1, 1) := by decide +kernel
theorem dX1_sum_17 : decode cX1_sum 17 = .ok (.iload 5, 2) := by decide +kernel
theorem dX1_sum_19 : decode cX1_sum 19 = .ok (.invokevirtual 213, 3) := by decide +kernel
theorem dX1_sum_22 : decode cX1_sum 22 = .ok (.ifCond .eq 31, 3) := by decide +kernel
theorem dX1_sum_25 : decode cX1_sum 25 = .ok (.iload 4, 2) := by decide +kernel
theorem dX1_sum_27 : decode cX1_sum 27 = .ok (.ifCond .eq 13, 3) := by decide +kernel
theorem dX1_sum_30 : decode cX1_sum 30 = .ok (.aload_n 0, 1) := by decide +kernel
theorem dX1_sum_31 : decode cX1_sum 31 = .ok (.iload_n 1, 1) := by decide +kernel
theorem dX1_sum_32 : decode cX1_sum 32 = .ok (.iload 5, 2) := by decide +kernel
theorem dX1_sum_34 : decode cX1_sum 34 = .ok (.invokevirtual 242, 3) := by decide +kernel
theorem dX1_sum_37 : decode cX1_sum 37 = .ok (.goto 12, 3) := by decide +kernel
theorem dX1_sum_40 : decode cX1_sum 40 = .ok (.dload_n 2, 1) := by decide +kernel
theorem dX1_sum_41 : decode cX1_sum 41 = .ok (.aload_n 0, 1) := by decide +kernel
theorem dX1_sum_42 : decode cX1_sum 42 = .ok (.iload_n 1, 1) := by decide +kernel
theorem dX1_sum_43 : decode cX1_sum 43 = .ok (.iload 5, 2) := by decide +kernel
theorem dX1_sum_45 : decode cX1_sum 45 = .ok (.invokevirtual 242, 3) := by decide +kernel
theorem dX1_sum_48 : decode cX1_sum 48 = .ok (.dadd, 1) := by decide +kernel
theorem dX1_sum_49 : decode cX1_sum 49 = .ok (.dstore_n 2, 1) := by decide +kernel
theorem dX1_sum_50 : decode cX1_sum 50 = .ok (.iconst 0, 1) := by decide +kernel
theorem dX1_sum_51 : decode cX1_sum 51 = .ok (.istore 4, 2) := by decide +kernel
theorem dX1_sum_53 : decode cX1_sum 53 = .ok (.iinc 5 1, 3) := by decide +kernel
theorem dX1_sum_56 : decode cX1_sum 56 = .ok (.goto (-48), 3) := by decide +kernel
theorem dX1_sum_59 : decode cX1_sum 59 = .ok (.dload_n 2, 1) := by decide +kernel
theorem dX1_sum_60 : decode cX1_sum 60 = .ok (.dreturn, 1) := by decide +kernel
theorem dX1_sumF_0 : decode cX1_sumF 0 = .ok (.fconst 0, 1) := by decide +kernel
theorem dX1_sumF_1 : decode cX1_sumF 1 = .ok (.fstore_n 2, 1) := by decide +kernel
theorem dX1_sumF_2 : decode cX1_sumF 2 = .ok (.iconst 1, 1) := by decide +kernel
theorem dX1_sumF_3 : decode cX1_sumF 3 = .ok (.istore_n 3, 1) := by decide +kernel
theorem dX1_sumF_4 : decode cX1_sumF 4 = .ok (.iconst 0, 1) := by decide +kernel
theorem dX1_sumF_5 : decode cX1_sumF 5 = .ok (.istore 4, 2) := by decide +kernel
theorem dX1_sumF_7 : decode cX1_sumF 7 = .ok (.iload 4, 2) := by decide +kernel
theorem dX1_sumF_9 : decode cX1_sumF 9 = .ok (.bipush 6, 2) := by decide +kernel
theorem dX1_sumF_11 : decode cX1_sumF 11 = .ok (.if_icmp .ge 45, 3) := by decide +kernel
theorem dX1_sumF_14 : decode cX1_sumF 14 = .ok (.aload_n 0, 1) := by decide +kernel
theorem dX1_sumF_15 : decode cX1_sumF 15 = .ok (.iload_n 1, 1) := by decide +kernel
theorem dX1_sumF_16 : decode cX1_sumF 16 = .ok (.iload 4, 2) := by decide +kernel
theorem dX1_sumF_18 : decode cX1_sumF 18 = .ok (.invokevirtual 213, 3) := by decide +kernel
theorem dX1_sumF_21 : decode cX1_sumF 21 = .ok (.ifCond .eq 29, 3) := by decide +kernel
theorem dX1_sumF_24 : decode cX1_sumF 24 = .ok (.iload_n 3, 1) := by decide +kernel
theorem dX1_sumF_25 : decode cX1_sumF 25 = .ok (.ifCond .eq 13, 3) := by decide +kernel
theorem dX1_sumF_28 : decode cX1_sumF 28 = .ok (.aload_n 0, 1) := by decide +kernel
theorem dX1_sumF_29 : decode cX1_sumF 29 = .ok (.iload_n 1, 1) := by decide +kernel
theorem dX1_sumF_30 : decode cX1_sumF 30 = .ok (.iload 4, 2) := by decide +kernel
theorem dX1_sumF_32 : decode cX1_sumF 32 = .ok (.invokevirtual 246, 3) := by decide +kernel
theorem dX1_sumF_35 : decode cX1_sumF 35 = .ok (.goto 12, 3) := by decide +kernel
theorem dX1_sumF_38 : decode cX1_sumF 38 = .ok (.fload_n 2, 1) := by decide +kernel
theorem dX1_sumF_39 : decode cX1_sumF 39 = .ok (.aload_n 0, 1) := by decide +kernel
theorem dX1_sumF_40 : decode cX1_sumF 40 = .ok (.iload_n 1, 1) := by decide +kernel
theorem dX1_sumF_41 : decode cX1_sumF 41 = .ok (.iload 4, 2) := by decide +kernel
theorem dX1_sumF_43 : decode cX1_sumF 43 = .ok (.invokevirtual 246, 3) := by decide +kernel
theorem dX1_sumF_46 : decode cX1_sumF 46 = .ok (.fadd, 1) := by decide +kernel
theorem dX1_sumF_47 : decode cX1_sumF 47 = .ok (.fstore_n 2, 1) := by decide +kernel
theorem dX1_sumF_48 : decode cX1_sumF 48 = .ok (.iconst 0, 1) := by decide +kernel
theorem dX1_sumF_49 : decode cX1_sumF 49 = .ok (.istore_n 3, 1) := by decide +kernel
theorem dX1_sumF_50 : decode cX1_sumF 50 = .ok (.iinc 4 1, 3) := by decide +kernel
theorem dX1_sumF_53 : decode cX1_sumF 53 = .ok (.goto (-46), 3) := by decide +kernel
theorem dX1_sumF_56 : decode cX1_sumF 56 = .ok (.fload_n 2, 1) := by decide +kernel
theorem dX1_sumF_57 : decode cX1_sumF 57 = .ok (.freturn, 1) := by decide +kernel
theorem hd_X1_has : yX1_has.cls = RX1 ∧ yX1_has.cls ≠ "java/lang/invoke/MethodHandle" ∧ yX1_has.cls ≠ "java/lang/invoke/VarHandle" ∧ (parseMethodDescriptor yX1_has.desc).map (fun d => d.parameters.length) = some 2 := by decide +kernel
theorem hd_X1_input : yX1_input.cls = RX1 ∧ yX1_input.cls ≠ "java/lang/invoke/MethodHandle" ∧ yX1_input.cls ≠ "java/lang/invoke/VarHandle" ∧ (parseMethodDescriptor yX1_input.desc).map (fun d => d.parameters.length) = some 2 := by decide +kernel
theorem hd_X1_inputF : yX1_inputF.cls = RX1 ∧ yX1_inputF.cls ≠ "java/lang/invoke/MethodHandle" ∧ yX1_inputF.cls ≠ "java/lang/invoke/VarHandle" ∧ (parseMethodDescriptor yX1_inputF.desc).map (fun d => d.parameters.length) = some 2 := by decide +kernel
theorem mt_X1_sum (l : Launch) (D : va_G) (dA : Nat → ClassId) (ad : Nat → Nat) (C : tp_C) (d : md_T) (m : Nat) (hC : mOK C) (hm : m < 20) (hg : ∀ k, bD 1075 (dAD d 19 k)) : mC l D dA ad yX1_sum cX1_sum 6 (some .double) 1 [.int (nI m)] C d (some (.double (suD C (dAD d 19) m))) C d := by
  refine mm_start (by decide) rfl (Nat.le_of_ble_eq_true rfl) ?_
  intro p0 e0 s0 mid bl0 me0 co0 ls S hr hlk G hl
  have hx := S.1; have hb := S.2.1; have hml := S.2.2.1; have hown := S.2.2.2.1; have hts := S.2.2.2.2
  have hl : lv_has ls 6 [(0, .ref (ad 0)), (1, .int (nI m))] := hl
  have L1 : ∀ (n_ i : Nat), i ≤ 6 → 6 < i + n_ → ∀ (H : Heap) (locs : List Loc) (ls : Array Slot), mG D dA ad C d s0 H locs → lv_has ls 6 [(5, .int (nI i)), (4, .int (bI ((suA C (dAD d 19) m i).2))), (2, .double ((suA C (dAD d 19) m i).1)), (0, .ref (ad 0)), (1, .int (nI m))] → (∀ (H : Heap) (locs : List Loc) (ls : Array Slot), mG D dA ad C d s0 H locs → lv_has ls 6 [(5, .int (nI 6)), (4, .int (bI ((suA C (dAD d 19) m 6).2))), (2, .double ((suA C (dAD d 19) m 6).1)), (0, .ref (ad 0)), (1, .int (nI m))] → W p0 l e0 (rm_ 1) s0 mid (Value.ref (ad 0) :: [.int (nI m)]).toArray bl0 me0 co0 H locs 0 0 (MQ bl0 (mQ D dA ad (some (.double (suD C (dAD d 19) m))) C d) (Value.ref (ad 0) :: [.int (nI m)]).toArray s0 0 0 (mA ad)) (F0 mid 59 ls [])) → W p0 l e0 (rm_ 1) s0 mid (Value.ref (ad 0) :: [.int (nI m)]).toArray bl0 me0 co0 H locs 0 0 (MQ bl0 (mQ D dA ad (some (.double (suD C (dAD d 19) m))) C d) (Value.ref (ad 0) :: [.int (nI m)]).toArray s0 0 0 (mA ad)) (F0 mid 8 ls []) := by
    intro n_
    induction n_ with
    | zero => intro i h1_ h2_; exact absurd h2_ (by omega)
    | succ n_ ih =>
      intro i h1_ h2_ H locs ls G hl kk
      refine lv_iload hx hb dX1_sum_8 (lv_at hl 0 rfl) ?_
      refine lv_bipush (v := nI 6) hx hb dX1_sum_10 (by decide) ?_
      refine nn_cge (tgt := 59) hx hb (by omega) (by omega) dX1_sum_12 (by decide) (fun c_12 => ?_) (fun c_12 => ?_)
      · have hiN : i = 6 := by omega
        subst hiN
        exact kk H locs ls G (lv_sub hl [0, 1, 2, 3, 4] rfl)
      · refine lv_aload_n hx hb dX1_sum_15 rfl (lv_at hl 3 rfl) ?_
        refine lv_iload_n hx hb dX1_sum_16 rfl (lv_at hl 4 rfl) ?_
        refine lv_iload hx hb dX1_sum_17 (lv_at hl 0 rfl) ?_
        refine mm_call (As := [.int (nI m), .int (nI i)]) (rest := []) S G (mt_X1_has l D dA ad C d m i hC (by omega) (by omega)) q1513 q1515 qs21 q1516 hd_X1_has ⟨Nat.le_of_ble_eq_true rfl, Nat.le_of_ble_eq_true rfl⟩ rfl hl.1 rfl (Nat.le_of_ble_eq_true rfl) dX1_sum_19 ⟨Nat.zero_le _, Nat.zero_le _⟩ (fun H locs G => ?_)
        refine W.eq (g2 := F0 mid 22 ls [.int (bI ((cF C m i).isSome))]) rfl ?_
        refine bb_eq (tgt := 53) hx hb dX1_sum_22 (by decide) (fun c_22 => ?_) (fun c_22 => ?_)
        · refine lv_iinc (v := nI (i + 1)) (lv' := [(5, .int (nI (i + 1))), (4, .int (bI ((suA C (dAD d 19) m i).2))), (2, .double ((suA C (dAD d 19) m i).1)), (0, .ref (ad 0)), (1, .int (nI m))]) hx hb dX1_sum_53 hl (k := 0) rfl (nI_1 _) (by decide) rfl (fun ls hl => ?_)
          refine lv_goto (tgt := 8) hx hb dX1_sum_56 (by decide) ?_
          exact ih (i + 1) (by omega) (by omega) H locs ls G (lv_eq (lv_sub (l' := [(5, .int (nI (i + 1))), (4, .int (bI ((suA C (dAD d 19) m i).2))), (2, .double ((suA C (dAD d 19) m i).1)), (0, .ref (ad 0)), (1, .int (nI m))]) hl [0, 1, 2, 3, 4] rfl) (by simp [suA_s, suS, bI0, bI1, c_12, c_22])) kk
        · obtain ⟨k, hk⟩ := Option.isSome_iff_exists.mp c_22
          refine lv_iload hx hb dX1_sum_25 (lv_at hl 1 rfl) ?_
          refine bb_eq (tgt := 40) hx hb dX1_sum_27 (by decide) (fun c_27 => ?_) (fun c_27 => ?_)
          · refine lv_dload_n hx hb dX1_sum_40 rfl (lv_at hl 2 rfl) ?_
            refine lv_aload_n hx hb dX1_sum_41 rfl (lv_at hl 3 rfl) ?_
            refine lv_iload_n hx hb dX1_sum_42 rfl (lv_at hl 4 rfl) ?_
            refine lv_iload hx hb dX1_sum_43 (lv_at hl 0 rfl) ?_
            refine mm_call (As := [.int (nI m), .int (nI i)]) (rest := [.double ((suA C (dAD d 19) m i).1)]) S G (mt_X1_input l D dA ad C d m i hC (by omega) (by omega) (by assumption)) q1554 q1556 qs28 q1557 hd_X1_input ⟨Nat.le_of_ble_eq_true rfl, Nat.le_of_ble_eq_true rfl⟩ rfl hl.1 rfl (Nat.le_of_ble_eq_true rfl) dX1_sum_45 ⟨Nat.zero_le _, Nat.zero_le _⟩ (fun H locs G => ?_)
            refine W.eq (g2 := F0 mid 48 ls [.double (inD C (dAD d 19) m i), .double ((suA C (dAD d 19) m i).1)]) rfl ?_
            refine lv_dadd hx hb dX1_sum_48 (nD_add (bD_n (suA_b hg i (by omega))) (in_b hg)) ?_
            refine lv_dstore_n (lv' := [(2, .double (FP.dadd ((suA C (dAD d 19) m i).1) (inD C (dAD d 19) m i))), (5, .int (nI i)), (4, .int (bI ((suA C (dAD d 19) m i).2))), (0, .ref (ad 0)), (1, .int (nI m))]) hx hb dX1_sum_49 rfl hl (by decide) rfl (fun ls hl => ?_)
            refine lv_iconst (v := nI 0) hx hb dX1_sum_50 (by decide) ?_
            refine lv_istore (lv' := [(4, .int (nI 0)), (2, .double (FP.dadd ((suA C (dAD d 19) m i).1) (inD C (dAD d 19) m i))), (5, .int (nI i)), (0, .ref (ad 0)), (1, .int (nI m))]) hx hb dX1_sum_51 hl (by decide) rfl (fun ls hl => ?_)
            refine lv_iinc (v := nI (i + 1)) (lv' := [(5, .int (nI (i + 1))), (4, .int (nI 0)), (2, .double (FP.dadd ((suA C (dAD d 19) m i).1) (inD C (dAD d 19) m i))), (0, .ref (ad 0)), (1, .int (nI m))]) hx hb dX1_sum_53 hl (k := 2) rfl (nI_1 _) (by decide) rfl (fun ls hl => ?_)
            refine lv_goto (tgt := 8) hx hb dX1_sum_56 (by decide) ?_
            exact ih (i + 1) (by omega) (by omega) H locs ls G (lv_eq (lv_sub (l' := [(5, .int (nI (i + 1))), (4, .int (nI 0)), (2, .double (FP.dadd ((suA C (dAD d 19) m i).1) (inD C (dAD d 19) m i))), (0, .ref (ad 0)), (1, .int (nI m))]) hl [0, 1, 2, 3, 4] rfl) (by simp [suA_s, suS, bI0, bI1, c_12, c_22, c_27])) kk
          · refine lv_aload_n hx hb dX1_sum_30 rfl (lv_at hl 3 rfl) ?_
            refine lv_iload_n hx hb dX1_sum_31 rfl (lv_at hl 4 rfl) ?_
            refine lv_iload hx hb dX1_sum_32 (lv_at hl 0 rfl) ?_
            refine mm_call (As := [.int (nI m), .int (nI i)]) (rest := []) S G (mt_X1_input l D dA ad C d m i hC (by omega) (by omega) (by assumption)) q1554 q1556 qs28 q1557 hd_X1_input ⟨Nat.le_of_ble_eq_true rfl, Nat.le_of_ble_eq_true rfl⟩ rfl hl.1 rfl (Nat.le_of_ble_eq_true rfl) dX1_sum_34 ⟨Nat.zero_le _, Nat.zero_le _⟩ (fun H locs G => ?_)
            refine W.eq (g2 := F0 mid 37 ls [.double (inD C (dAD d 19) m i)]) rfl ?_
            refine lv_goto (tgt := 49) hx hb dX1_sum_37 (by decide) ?_
            refine lv_dstore_n (lv' := [(2, .double (inD C (dAD d 19) m i)), (5, .int (nI i)), (4, .int (bI ((suA C (dAD d 19) m i).2))), (0, .ref (ad 0)), (1, .int (nI m))]) hx hb dX1_sum_49 rfl hl (by decide) rfl (fun ls hl => ?_)
            refine lv_iconst (v := nI 0) hx hb dX1_sum_50 (by decide) ?_
            refine lv_istore (lv' := [(4, .int (nI 0)), (2, .double (inD C (dAD d 19) m i)), (5, .int (nI i)), (0, .ref (ad 0)), (1, .int (nI m))]) hx hb dX1_sum_51 hl (by decide) rfl (fun ls hl => ?_)
            refine lv_iinc (v := nI (i + 1)) (lv' := [(5, .int (nI (i + 1))), (4, .int (nI 0)), (2, .double (inD C (dAD d 19) m i)), (0, .ref (ad 0)), (1, .int (nI m))]) hx hb dX1_sum_53 hl (k := 2) rfl (nI_1 _) (by decide) rfl (fun ls hl => ?_)
            refine lv_goto (tgt := 8) hx hb dX1_sum_56 (by decide) ?_
            exact ih (i + 1) (by omega) (by omega) H locs ls G (lv_eq (lv_sub (l' := [(5, .int (nI (i + 1))), (4, .int (nI 0)), (2, .double (inD C (dAD d 19) m i)), (0, .ref (ad 0)), (1, .int (nI m))]) hl [0, 1, 2, 3, 4] rfl) (by simp [suA_s, suS, bI0, bI1, c_12, c_22, c_27])) kk
  refine lv_dconst0 hx hb dX1_sum_0 ?_
  refine lv_dstore_n (lv' := [(2, .double FP.dconst0), (0, .ref (ad 0)), (1, .int (nI m))]) hx hb dX1_sum_1 rfl hl (by decide) rfl (fun ls hl => ?_)
  refine lv_iconst (v := nI 1) hx hb dX1_sum_2 (by decide) ?_
  refine lv_istore (lv' := [(4, .int (nI 1)), (2, .double FP.dconst0), (0, .ref (ad 0)), (1, .int (nI m))]) hx hb dX1_sum_3 hl (by decide) rfl (fun ls hl => ?_)
  refine lv_iconst (v := nI 0) hx hb dX1_sum_5 (by decide) ?_
  refine lv_istore (lv' := [(5, .int (nI 0)), (4, .int (nI 1)), (2, .double FP.dconst0), (0, .ref (ad 0)), (1, .int (nI m))]) hx hb dX1_sum_6 hl (by decide) rfl (fun ls hl => ?_)
  refine L1 7 0 (by omega) (by omega) _ [] ls G (lv_eq (lv_sub (l' := [(5, .int (nI 0)), (4, .int (nI 1)), (2, .double FP.dconst0), (0, .ref (ad 0)), (1, .int (nI m))]) hl [0, 1, 2, 3, 4] rfl) (by rfl)) (fun H locs ls G hl => ?_)
  refine lv_dload_n hx hb dX1_sum_59 rfl (lv_at hl 2 rfl) ?_
  exact mm_dret S hr hlk G (by rfl) rfl rfl dX1_sum_60
theorem mt_X1_sumF (l : Launch) (D : va_G) (dA : Nat → ClassId) (ad : Nat → Nat) (C : tp_C) (d : md_T) (m : Nat) (hC : mOK C) (hm : m < 20) (hg : ∀ k, bF 1075 (dAF d 20 k)) : mC l D dA ad yX1_sumF cX1_sumF 5 (some .float) 1 [.int (nI m)] C d (some (.float (suF C (dAF d 20) m))) C d := by
  refine mm_start (by decide) rfl (Nat.le_of_ble_eq_true rfl) ?_
  intro p0 e0 s0 mid bl0 me0 co0 ls S hr hlk G hl
  have hx := S.1; have hb := S.2.1; have hml := S.2.2.1; have hown := S.2.2.2.1; have hts := S.2.2.2.2
  have hl : lv_has ls 5 [(0, .ref (ad 0)), (1, .int (nI m))] := hl
  have L1 : ∀ (n_ i : Nat), i ≤ 6 → 6 < i + n_ → ∀ (H : Heap) (locs : List Loc) (ls : Array Slot), mG D dA ad C d s0 H locs → lv_has ls 5 [(4, .int (nI i)), (3, .int (bI ((suAF C (dAF d 20) m i).2))), (2, .float ((suAF C (dAF d 20) m i).1)), (0, .ref (ad 0)), (1, .int (nI m))] → (∀ (H : Heap) (locs : List Loc) (ls : Array Slot), mG D dA ad C d s0 H locs → lv_has ls 5 [(4, .int (nI 6)), (3, .int (bI ((suAF C (dAF d 20) m 6).2))), (2, .float ((suAF C (dAF d 20) m 6).1)), (0, .ref (ad 0)), (1, .int (nI m))] → W p0 l e0 (rm_ 1) s0 mid (Value.ref (ad 0) :: [.int (nI m)]).toArray bl0 me0 co0 H locs 0 0 (MQ bl0 (mQ D dA ad (some (.float (suF C (dAF d 20) m))) C d) (Value.ref (ad 0) :: [.int (nI m)]).toArray s0 0 0 (mA ad)) (F0 mid 56 ls [])) → W p0 l e0 (rm_ 1) s0 mid (Value.ref (ad 0) :: [.int (nI m)]).toArray bl0 me0 co0 H locs 0 0 (MQ bl0 (mQ D dA ad (some (.float (suF C (dAF d 20) m))) C d) (Value.ref (ad 0) :: [.int (nI m)]).toArray s0 0 0 (mA ad)) (F0 mid 7 ls []) := by
    intro n_
    induction n_ with
    | zero => intro i h1_ h2_; exact absurd h2_ (by omega)
    | succ n_ ih =>
      intro i h1_ h2_ H locs ls G hl kk
      refine lv_iload hx hb dX1_sumF_7 (lv_at hl 0 rfl) ?_
      refine lv_bipush (v := nI 6) hx hb dX1_sumF_9 (by decide) ?_
      refine nn_cge (tgt := 56) hx hb (by omega) (by omega) dX1_sumF_11 (by decide) (fun c_11 => ?_) (fun c_11 => ?_)
      · have hiN : i = 6 := by omega
        subst hiN
        exact kk H locs ls G (lv_sub hl [0, 1, 2, 3, 4] rfl)
      · refine lv_aload_n hx hb dX1_sumF_14 rfl (lv_at hl 3 rfl) ?_
        refine lv_iload_n hx hb dX1_sumF_15 rfl (lv_at hl 4 rfl) ?_
        refine lv_iload hx hb dX1_sumF_16 (lv_at hl 0 rfl) ?_
        refine mm_call (As := [.int (nI m), .int (nI i)]) (rest := []) S G (mt_X1_has l D dA ad C d m i hC (by omega) (by omega)) q1513 q1515 qs21 q1516 hd_X1_has ⟨Nat.le_of_ble_eq_true rfl, Nat.le_of_ble_eq_true rfl⟩ rfl hl.1 rfl (Nat.le_of_ble_eq_true rfl) dX1_sumF_18 ⟨Nat.zero_le _, Nat.zero_le _⟩ (fun H locs G => ?_)
        refine W.eq (g2 := F0 mid 21 ls [.int (bI ((cF C m i).isSome))]) rfl ?_
        refine bb_eq (tgt := 50) hx hb dX1_sumF_21 (by decide) (fun c_21 => ?_) (fun c_21 => ?_)
        · refine lv_iinc (v := nI (i + 1)) (lv' := [(4, .int (nI (i + 1))), (3, .int (bI ((suAF C (dAF d 20) m i).2))), (2, .float ((suAF C (dAF d 20) m i).1)), (0, .ref (ad 0)), (1, .int (nI m))]) hx hb dX1_sumF_50 hl (k := 0) rfl (nI_1 _) (by decide) rfl (fun ls hl => ?_)
          refine lv_goto (tgt := 7) hx hb dX1_sumF_53 (by decide) ?_
          exact ih (i + 1) (by omega) (by omega) H locs ls G (lv_eq (lv_sub (l' := [(4, .int (nI (i + 1))), (3, .int (bI ((suAF C (dAF d 20) m i).2))), (2, .float ((suAF C (dAF d 20) m i).1)), (0, .ref (ad 0)), (1, .int (nI m))]) hl [0, 1, 2, 3, 4] rfl) (by simp [suAF_s, suSF, bI0, bI1, c_11, c_21])) kk
        · obtain ⟨k, hk⟩ := Option.isSome_iff_exists.mp c_21
          refine lv_iload_n hx hb dX1_sumF_24 rfl (lv_at hl 1 rfl) ?_
          refine bb_eq (tgt := 38) hx hb dX1_sumF_25 (by decide) (fun c_25 => ?_) (fun c_25 => ?_)
          · refine lv_fload_n hx hb dX1_sumF_38 rfl (lv_at hl 2 rfl) ?_
            refine lv_aload_n hx hb dX1_sumF_39 rfl (lv_at hl 3 rfl) ?_
            refine lv_iload_n hx hb dX1_sumF_40 rfl (lv_at hl 4 rfl) ?_
            refine lv_iload hx hb dX1_sumF_41 (lv_at hl 0 rfl) ?_
            refine mm_call (As := [.int (nI m), .int (nI i)]) (rest := [.float ((suAF C (dAF d 20) m i).1)]) S G (mt_X1_inputF l D dA ad C d m i hC (by omega) (by omega) (by assumption)) q1588 q1590 qs34 q1591 hd_X1_inputF ⟨Nat.le_of_ble_eq_true rfl, Nat.le_of_ble_eq_true rfl⟩ rfl hl.1 rfl (Nat.le_of_ble_eq_true rfl) dX1_sumF_43 ⟨Nat.zero_le _, Nat.zero_le _⟩ (fun H locs G => ?_)
            refine W.eq (g2 := F0 mid 46 ls [.float (inF C (dAF d 20) m i), .float ((suAF C (dAF d 20) m i).1)]) rfl ?_
            refine lv_fadd hx hb dX1_sumF_46 (nF_add (bF_n (suAF_b hg i (by omega))) (in_bF hg)) ?_
            refine lv_fstore_n (lv' := [(2, .float (FP.fadd ((suAF C (dAF d 20) m i).1) (inF C (dAF d 20) m i))), (4, .int (nI i)), (3, .int (bI ((suAF C (dAF d 20) m i).2))), (0, .ref (ad 0)), (1, .int (nI m))]) hx hb dX1_sumF_47 rfl hl (by decide) rfl (fun ls hl => ?_)
            refine lv_iconst (v := nI 0) hx hb dX1_sumF_48 (by decide) ?_
            refine lv_istore_n (lv' := [(3, .int (nI 0)), (2, .float (FP.fadd ((suAF C (dAF d 20) m i).1) (inF C (dAF d 20) m i))), (4, .int (nI i)), (0, .ref (ad 0)), (1, .int (nI m))]) hx hb dX1_sumF_49 rfl hl (by decide) rfl (fun ls hl => ?_)
            refine lv_iinc (v := nI (i + 1)) (lv' := [(4, .int (nI (i + 1))), (3, .int (nI 0)), (2, .float (FP.fadd ((suAF C (dAF d 20) m i).1) (inF C (dAF d 20) m i))), (0, .ref (ad 0)), (1, .int (nI m))]) hx hb dX1_sumF_50 hl (k := 2) rfl (nI_1 _) (by decide) rfl (fun ls hl => ?_)
            refine lv_goto (tgt := 7) hx hb dX1_sumF_53 (by decide) ?_
            exact ih (i + 1) (by omega) (by omega) H locs ls G (lv_eq (lv_sub (l' := [(4, .int (nI (i + 1))), (3, .int (nI 0)), (2, .float (FP.fadd ((suAF C (dAF d 20) m i).1) (inF C (dAF d 20) m i))), (0, .ref (ad 0)), (1, .int (nI m))]) hl [0, 1, 2, 3, 4] rfl) (by simp [suAF_s, suSF, bI0, bI1, c_11, c_21, c_25])) kk
          · refine lv_aload_n hx hb dX1_sumF_28 rfl (lv_at hl 3 rfl) ?_
            refine lv_iload_n hx hb dX1_sumF_29 rfl (lv_at hl 4 rfl) ?_
            refine lv_iload hx hb dX1_sumF_30 (lv_at hl 0 rfl) ?_
            refine mm_call (As := [.int (nI m), .int (nI i)]) (rest := []) S G (mt_X1_inputF l D dA ad C d m i hC (by omega) (by omega) (by assumption)) q1588 q1590 qs34 q1591 hd_X1_inputF ⟨Nat.le_of_ble_eq_true rfl, Nat.le_of_ble_eq_true rfl⟩ rfl hl.1 rfl (Nat.le_of_ble_eq_true rfl) dX1_sumF_32 ⟨Nat.zero_le _, Nat.zero_le _⟩ (fun H locs G => ?_)
            refine W.eq (g2 := F0 mid 35 ls [.float (inF C (dAF d 20) m i)]) rfl ?_
            refine lv_goto (tgt := 47) hx hb dX1_sumF_35 (by decide) ?_
            refine lv_fstore_n (lv' := [(2, .float (inF C (dAF d 20) m i)), (4, .int (nI i)), (3, .int (bI ((suAF C (dAF d 20) m i).2))), (0, .ref (ad 0)), (1, .int (nI m))]) hx hb dX1_sumF_47 rfl hl (by decide) rfl (fun ls hl => ?_)
            refine lv_iconst (v := nI 0) hx hb dX1_sumF_48 (by decide) ?_
            refine lv_istore_n (lv' := [(3, .int (nI 0)), (2, .float (inF C (dAF d 20) m i)), (4, .int (nI i)), (0, .ref (ad 0)), (1, .int (nI m))]) hx hb dX1_sumF_49 rfl hl (by decide) rfl (fun ls hl => ?_)
            refine lv_iinc (v := nI (i + 1)) (lv' := [(4, .int (nI (i + 1))), (3, .int (nI 0)), (2, .float (inF C (dAF d 20) m i)), (0, .ref (ad 0)), (1, .int (nI m))]) hx hb dX1_sumF_50 hl (k := 2) rfl (nI_1 _) (by decide) rfl (fun ls hl => ?_)
            refine lv_goto (tgt := 7) hx hb dX1_sumF_53 (by decide) ?_
            exact ih (i + 1) (by omega) (by omega) H locs ls G (lv_eq (lv_sub (l' := [(4, .int (nI (i + 1))), (3, .int (nI 0)), (2, .float (inF C (dAF d 20) m i)), (0, .ref (ad 0)), (1, .int (nI m))]) hl [0, 1, 2, 3, 4] rfl) (by simp [suAF_s, suSF, bI0, bI1, c_11, c_21, c_25])) kk
  refine lv_fconst0 hx hb dX1_sumF_0 ?_
  refine lv_fstore_n (lv' := [(2, .float FP.fconst0), (0, .ref (ad 0)), (1, .int (nI m))]) hx hb dX1_sumF_1 rfl hl (by decide) rfl (fun ls hl => ?_)
  refine lv_iconst (v := nI 1) hx hb dX1_sumF_2 (by decide) ?_
  refine lv_istore_n (lv' := [(3, .int (nI 1)), (2, .float FP.fconst0), (0, .ref (ad 0)), (1, .int (nI m))]) hx hb dX1_sumF_3 rfl hl (by decide) rfl (fun ls hl => ?_)
  refine lv_iconst (v := nI 0) hx hb dX1_sumF_4 (by decide) ?_
  refine lv_istore (lv' := [(4, .int (nI 0)), (3, .int (nI 1)), (2, .float FP.fconst0), (0, .ref (ad 0)), (1, .int (nI m))]) hx hb dX1_sumF_5 hl (by decide) rfl (fun ls hl => ?_)
  refine L1 7 0 (by omega) (by omega) _ [] ls G (lv_eq (lv_sub (l' := [(4, .int (nI 0)), (3, .int (nI 1)), (2, .float FP.fconst0), (0, .ref (ad 0)), (1, .int (nI m))]) hl [0, 1, 2, 3, 4] rfl) (by rfl)) (fun H locs ls G hl => ?_)
  refine lv_fload_n hx hb dX1_sumF_56 rfl (lv_at hl 2 rfl) ?_
  exact mm_fret S hr hlk G (by rfl) rfl rfl dX1_sumF_57
