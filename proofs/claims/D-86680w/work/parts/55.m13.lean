set_option maxRecDepth 100000
set_option maxHeartbeats 4000000
theorem dX1_run_0 : decode cX1_run 0 = .ok (.iload_n 1, 1) := by decide +kernel
theorem dX1_run_1 : decode cX1_run 1 = .ok (.iconst 1, 1) := by decide +kernel
theorem dX1_run_2 : decode cX1_run 2 = .ok (.bipush 100, 2) := by decide +kernel
theorem dX1_run_4 : decode cX1_run 4 = .ok (.invokestatic 161, 3) := by decide +kernel
theorem dX1_run_7 : decode cX1_run 7 = .ok (.ifCond .ne 6, 3) := by decide +kernel
theorem dX1_run_10 : decode cX1_run 10 = .ok (.bipush (-102), 2) := by decide +kernel
theorem dX1_run_12 : decode cX1_run 12 = .ok (.ireturn, 1) := by decide +kernel
theorem dX1_run_13 : decode cX1_run 13 = .ok (.aload_n 0, 1) := by decide +kernel
theorem dX1_run_14 : decode cX1_run 14 = .ok (.getfield 195, 3) := by decide +kernel
theorem dX1_run_17 : decode cX1_run 17 = .ok (.ifCond .ne 6, 3) := by decide +kernel
theorem dX1_run_20 : decode cX1_run 20 = .ok (.bipush (-103), 2) := by decide +kernel
theorem dX1_run_22 : decode cX1_run 22 = .ok (.ireturn, 1) := by decide +kernel
theorem dX1_run_23 : decode cX1_run 23 = .ok (.aload_n 0, 1) := by decide +kernel
theorem dX1_run_24 : decode cX1_run 24 = .ok (.getfield 322, 3) := by decide +kernel
theorem dX1_run_27 : decode cX1_run 27 = .ok (.iload_n 1, 1) := by decide +kernel
theorem dX1_run_28 : decode cX1_run 28 = .ok (.iadd, 1) := by decide +kernel
theorem dX1_run_29 : decode cX1_run 29 = .ok (.sipush 300, 3) := by decide +kernel
theorem dX1_run_32 : decode cX1_run 32 = .ok (.if_icmp .le 6, 3) := by decide +kernel
theorem dX1_run_35 : decode cX1_run 35 = .ok (.bipush (-104), 2) := by decide +kernel
theorem dX1_run_37 : decode cX1_run 37 = .ok (.ireturn, 1) := by decide +kernel
theorem dX1_run_38 : decode cX1_run 38 = .ok (.iconst 0, 1) := by decide +kernel
theorem dX1_run_39 : decode cX1_run 39 = .ok (.istore_n 2, 1) := by decide +kernel
theorem dX1_run_40 : decode cX1_run 40 = .ok (.iload_n 2, 1) := by decide +kernel
theorem dX1_run_41 : decode cX1_run 41 = .ok (.aload_n 0, 1) := by decide +kernel
theorem dX1_run_42 : decode cX1_run 42 = .ok (.getfield 332, 3) := by decide +kernel
theorem dX1_run_45 : decode cX1_run 45 = .ok (.if_icmp .ge 25, 3) := by decide +kernel
theorem dX1_run_48 : decode cX1_run 48 = .ok (.aload_n 0, 1) := by decide +kernel
theorem dX1_run_49 : decode cX1_run 49 = .ok (.getfield 110, 3) := by decide +kernel
theorem dX1_run_52 : decode cX1_run 52 = .ok (.iload_n 2, 1) := by decide +kernel
theorem dX1_run_53 : decode cX1_run 53 = .ok (.iaload, 1) := by decide +kernel
theorem dX1_run_54 : decode cX1_run 54 = .ok (.iload_n 1, 1) := by decide +kernel
theorem dX1_run_55 : decode cX1_run 55 = .ok (.iadd, 1) := by decide +kernel
theorem dX1_run_56 : decode cX1_run 56 = .ok (.bipush 120, 2) := by decide +kernel
theorem dX1_run_58 : decode cX1_run 58 = .ok (.if_icmp .le 6, 3) := by decide +kernel
theorem dX1_run_61 : decode cX1_run 61 = .ok (.bipush (-104), 2) := by decide +kernel
theorem dX1_run_63 : decode cX1_run 63 = .ok (.ireturn, 1) := by decide +kernel
theorem dX1_run_64 : decode cX1_run 64 = .ok (.iinc 2 1, 3) := by decide +kernel
theorem dX1_run_67 : decode cX1_run 67 = .ok (.goto (-27), 3) := by decide +kernel
theorem dX1_run_70 : decode cX1_run 70 = .ok (.aload_n 0, 1) := by decide +kernel
theorem dX1_run_71 : decode cX1_run 71 = .ok (.iconst 2, 1) := by decide +kernel
theorem dX1_run_72 : decode cX1_run 72 = .ok (.putfield 195, 3) := by decide +kernel
theorem dX1_run_75 : decode cX1_run 75 = .ok (.aload_n 0, 1) := by decide +kernel
theorem dX1_run_76 : decode cX1_run 76 = .ok (.aload_n 0, 1) := by decide +kernel
theorem dX1_run_77 : decode cX1_run 77 = .ok (.aload_n 0, 1) := by decide +kernel
theorem dX1_run_78 : decode cX1_run 78 = .ok (.getfield 42, 3) := by decide +kernel
theorem dX1_run_81 : decode cX1_run 81 = .ok (.invokevirtual 344, 3) := by decide +kernel
theorem dX1_run_84 : decode cX1_run 84 = .ok (.putfield 297, 3) := by decide +kernel
theorem dX1_run_87 : decode cX1_run 87 = .ok (.iconst 0, 1) := by decide +kernel
theorem dX1_run_88 : decode cX1_run 88 = .ok (.istore_n 2, 1) := by decide +kernel
theorem dX1_run_89 : decode cX1_run 89 = .ok (.iload_n 2, 1) := by decide +kernel
theorem dX1_run_90 : decode cX1_run 90 = .ok (.iload_n 1, 1) := by decide +kernel
theorem dX1_run_91 : decode cX1_run 91 = .ok (.if_icmp .ge 74, 3) := by decide +kernel
theorem dX1_run_94 : decode cX1_run 94 = .ok (.iconst 0, 1) := by decide +kernel
theorem dX1_run_95 : decode cX1_run 95 = .ok (.istore_n 3, 1) := by decide +kernel
theorem dX1_run_96 : decode cX1_run 96 = .ok (.iload_n 3, 1) := by decide +kernel
theorem dX1_run_97 : decode cX1_run 97 = .ok (.aload_n 0, 1) := by decide +kernel
theorem dX1_run_98 : decode cX1_run 98 = .ok (.getfield 158, 3) := by decide +kernel
theorem dX1_run_101 : decode cX1_run 101 = .ok (.if_icmp .ge 30, 3) := by decide +kernel
theorem dX1_run_104 : decode cX1_run 104 = .ok (.aload_n 0, 1) := by decide +kernel
theorem dX1_run_105 : decode cX1_run 105 = .ok (.getfield 36, 3) := by decide +kernel
theorem dX1_run_108 : decode cX1_run 108 = .ok (.iload_n 3, 1) := by decide +kernel
theorem dX1_run_109 : decode cX1_run 109 = .ok (.iaload, 1) := by decide +kernel
theorem dX1_run_110 : decode cX1_run 110 = .ok (.aload_n 0, 1) := by decide +kernel
theorem dX1_run_111 : decode cX1_run 111 = .ok (.getfield 322, 3) := by decide +kernel
theorem dX1_run_114 : decode cX1_run 114 = .ok (.iconst 1, 1) := by decide +kernel
theorem dX1_run_115 : decode cX1_run 115 = .ok (.iadd, 1) := by decide +kernel
theorem dX1_run_116 : decode cX1_run 116 = .ok (.if_icmp .ne 9, 3) := by decide +kernel
theorem dX1_run_119 : decode cX1_run 119 = .ok (.sipush (-1000), 3) := by decide +kernel
theorem dX1_run_122 : decode cX1_run 122 = .ok (.iload_n 3, 1) := by decide +kernel
theorem dX1_run_123 : decode cX1_run 123 = .ok (.isub, 1) := by decide +kernel
theorem dX1_run_124 : decode cX1_run 124 = .ok (.ireturn, 1) := by decide +kernel
theorem dX1_run_125 : decode cX1_run 125 = .ok (.iinc 3 1, 3) := by decide +kernel
theorem dX1_run_128 : decode cX1_run 128 = .ok (.goto (-32), 3) := by decide +kernel
theorem dX1_run_131 : decode cX1_run 131 = .ok (.aload_n 0, 1) := by decide +kernel
theorem dX1_run_132 : decode cX1_run 132 = .ok (.aload_n 0, 1) := by decide +kernel
theorem dX1_run_133 : decode cX1_run 133 = .ok (.getfield 322, 3) := by decide +kernel
theorem dX1_run_136 : decode cX1_run 136 = .ok (.iconst 1, 1) := by decide +kernel
theorem dX1_run_137 : decode cX1_run 137 = .ok (.iadd, 1) := by decide +kernel
theorem dX1_run_138 : decode cX1_run 138 = .ok (.putfield 233, 3) := by decide +kernel
theorem dX1_run_141 : decode cX1_run 141 = .ok (.aload_n 0, 1) := by decide +kernel
theorem dX1_run_142 : decode cX1_run 142 = .ok (.invokevirtual 347, 3) := by decide +kernel
theorem dX1_run_145 : decode cX1_run 145 = .ok (.aload_n 0, 1) := by decide +kernel
theorem dX1_run_146 : decode cX1_run 146 = .ok (.dup, 1) := by decide +kernel
theorem dX1_run_147 : decode cX1_run 147 = .ok (.getfield 350, 3) := by decide +kernel
theorem dX1_run_150 : decode cX1_run 150 = .ok (.iconst 1, 1) := by decide +kernel
theorem dX1_run_151 : decode cX1_run 151 = .ok (.iadd, 1) := by decide +kernel
theorem dX1_run_152 : decode cX1_run 152 = .ok (.putfield 350, 3) := by decide +kernel
theorem dX1_run_155 : decode cX1_run 155 = .ok (.aload_n 0, 1) := by decide +kernel
theorem dX1_run_156 : decode cX1_run 156 = .ok (.invokevirtual 341, 3) := by decide +kernel
theorem dX1_run_159 : decode cX1_run 159 = .ok (.iinc 2 1, 3) := by decide +kernel
theorem dX1_run_162 : decode cX1_run 162 = .ok (.goto (-73), 3) := by decide +kernel
theorem dX1_run_165 : decode cX1_run 165 = .ok (.iload_n 1, 1) := by decide +kernel
theorem dX1_run_166 : decode cX1_run 166 = .ok (.ireturn, 1) := by decide +kernel
theorem hd_X1_lengthOf : yX1_lengthOf.cls = RX1 ∧ yX1_lengthOf.cls ≠ "java/lang/invoke/MethodHandle" ∧ yX1_lengthOf.cls ≠ "java/lang/invoke/VarHandle" ∧ (parseMethodDescriptor yX1_lengthOf.desc).map (fun d => d.parameters.length) = some 1 := by decide +kernel
theorem mt_X1_run (l : Launch) (D : va_G) (dA : Nat → ClassId) (ad : Nat → Nat) (C : tp_C) (d : md_T) (n : Int32) (hC : mOK C) (hV : vOK C) (hA : (¬ cM C = 0 → aOK C)) (hDl : dlOK C) (hL : lvOK (dAI d 10)) (hI : iOK C (dAI d 10) d) (hSm : smOK d) : mC l D dA ad yX1_run cX1_run 4 (some .int) 6 [.int n] C d (some (.int (rnI C d n))) (rnC C d n) (rnD C d n) := by
  refine mm_start (by decide) rfl (Nat.le_of_ble_eq_true rfl) ?_
  intro p0 e0 s0 mid bl0 me0 co0 ls S hr hlk G hl
  have hx := S.1; have hb := S.2.1; have hml := S.2.2.1; have hown := S.2.2.2.1; have hts := S.2.2.2.2
  have hl : lv_has ls 4 [(0, .ref (ad 0)), (1, .int n)] := hl
  have hN := hC.n
  have hMo := hC.mo
  have hZ := hC.z
  have hH := hC.hv
  have L1 : ∀ (n1 : Nat) (hn : n = nI n1) (hn1 : n1 ≤ 100) (hix : ixN n = n1) (hb1 : inB n (nI 1) (nI 100) = true) (hb2 : ¬ cM C = 0) (hb3 : dI d 12 + n ≤ nI 300) (n_ s : Nat), s ≤ cZ C → cZ C < s + n_ → (∀ k, k < s → (fun s => !decide (cntN d s + n1 ≤ 120)) k = false) → ∀ (H : Heap) (locs : List Loc) (ls : Array Slot), mG D dA ad C d s0 H locs → lv_has ls 4 [(2, .int (nI s)), (0, .ref (ad 0)), (1, .int (nI n1))] → (∀ (H : Heap) (locs : List Loc) (ls : Array Slot), (∀ k, k < cZ C → (fun s => !decide (cntN d s + n1 ≤ 120)) k = false) → mG D dA ad C d s0 H locs → lv_has ls 4 [(2, .int (nI (cZ C))), (0, .ref (ad 0)), (1, .int (nI n1))] → W p0 l e0 (rm_ 6) s0 mid (Value.ref (ad 0) :: [.int n]).toArray bl0 me0 co0 H locs 0 0 (MQ bl0 (mQ D dA ad (some (.int (rnI C d n))) (rnC C d n) (rnD C d n)) (Value.ref (ad 0) :: [.int n]).toArray s0 0 0 (mA ad)) (F0 mid 70 ls [])) → W p0 l e0 (rm_ 6) s0 mid (Value.ref (ad 0) :: [.int n]).toArray bl0 me0 co0 H locs 0 0 (MQ bl0 (mQ D dA ad (some (.int (rnI C d n))) (rnC C d n) (rnD C d n)) (Value.ref (ad 0) :: [.int n]).toArray s0 0 0 (mA ad)) (F0 mid 40 ls []) := by
    intro n1 hn hn1 hix hb1 hb2 hb3 n_
    induction n_ with
    | zero => intro s h1_ h2_; exact absurd h2_ (by omega)
    | succ n_ ih =>
      intro s h1_ h2_ hh0 H locs ls G hl kk
      have hc := hSm.le s
      refine lv_iload_n hx hb dX1_run_40 rfl (lv_at hl 0 rfl) ?_
      refine lv_aload_n hx hb dX1_run_41 rfl (lv_at hl 1 rfl) ?_
      refine mm_get S G 37 (by decide) q1304 rfl (v := .int (nI (cZ C))) rfl dX1_run_42 ?_
      refine nn_cge (tgt := 70) hx hb (by omega) (by omega) dX1_run_45 (by decide) (fun c_45 => ?_) (fun c_45 => ?_)
      · have hiN : s = cZ C := by omega
        subst hiN
        exact kk H locs ls hh0 G (lv_sub hl [0, 1, 2] rfl)
      · refine lv_aload_n hx hb dX1_run_48 rfl (lv_at hl 1 rfl) ?_
        refine mm_get S G 39 (by decide) q1306 rfl (v := .ref (ad 40)) rfl dX1_run_49 ?_
        refine lv_iload_n hx hb dX1_run_52 rfl (lv_at hl 0 rfl) ?_
        refine mm_iald S G 39 0 (by decide) (n := 6) rfl rfl (by omega) (by decide) (v := nI (cntN d s)) (hSm.eq s) dX1_run_53 ?_
        refine lv_iload_n hx hb dX1_run_54 rfl (lv_at hl 2 rfl) ?_
        refine nn_add hx hb dX1_run_55 ?_
        refine lv_bipush (v := nI 120) hx hb dX1_run_56 (by decide) ?_
        refine nn_cle (tgt := 64) hx hb (by omega) (by omega) dX1_run_58 (by decide) (fun c_58 => ?_) (fun c_58 => ?_)
        · refine lv_iinc (v := nI (s + 1)) (lv' := [(2, .int (nI (s + 1))), (0, .ref (ad 0)), (1, .int (nI n1))]) hx hb dX1_run_64 hl (k := 0) rfl (nI_1 _) (by decide) rfl (fun ls hl => ?_)
          refine lv_goto (tgt := 40) hx hb dX1_run_67 (by decide) ?_
          exact ih (s + 1) (by omega) (by omega) (lt_sB hh0 (by simp [c_58])) H locs ls G (lv_sub hl [0, 1, 2] rfl) kk
        · have f1 : rnB C d n1 = some s := fi_some (by omega) (by simp [c_58]) hh0
          refine lv_bipush (v := (-104)) hx hb dX1_run_61 (by decide) ?_
          exact mm_iret S hr hlk G (by simp [rnI, rnC, rnD, hb1, hb2, hb3, hix, f1]) (by simp [rnI, rnC, rnD, hb1, hb2, hb3, hix, f1]) (by simp [rnI, rnC, rnD, hb1, hb2, hb3, hix, f1]) dX1_run_63
  have L2 : ∀ (n1 : Nat) (hn1 : n1 ≤ 100) (hC2 : rnC C d n = wM C 2) (k : Nat) (e : md_T) (hkn : k < n1) (hRes : rnR (wM C 2) n1 (n1 - k) e = (rnI C d n, rnD C d n)) (n_ i : Nat), i ≤ cN C → cN C < i + n_ → (∀ k, k < i → (fun m => decide (nI (cA C m) = dI e 12 + nI 1)) k = false) → ∀ (H : Heap) (locs : List Loc) (ls : Array Slot), mG D dA ad (wM C 2) e s0 H locs → lv_has ls 4 [(3, .int (nI i)), (2, .int (nI k)), (0, .ref (ad 0)), (1, .int (nI n1))] → (∀ (H : Heap) (locs : List Loc) (ls : Array Slot), (∀ k, k < cN C → (fun m => decide (nI (cA C m) = dI e 12 + nI 1)) k = false) → mG D dA ad (wM C 2) e s0 H locs → lv_has ls 4 [(3, .int (nI (cN C))), (2, .int (nI k)), (0, .ref (ad 0)), (1, .int (nI n1))] → W p0 l e0 (rm_ 6) s0 mid (Value.ref (ad 0) :: [.int n]).toArray bl0 me0 co0 H locs 0 0 (MQ bl0 (mQ D dA ad (some (.int (rnI C d n))) (rnC C d n) (rnD C d n)) (Value.ref (ad 0) :: [.int n]).toArray s0 0 0 (mA ad)) (F0 mid 131 ls [])) → W p0 l e0 (rm_ 6) s0 mid (Value.ref (ad 0) :: [.int n]).toArray bl0 me0 co0 H locs 0 0 (MQ bl0 (mQ D dA ad (some (.int (rnI C d n))) (rnC C d n) (rnD C d n)) (Value.ref (ad 0) :: [.int n]).toArray s0 0 0 (mA ad)) (F0 mid 96 ls []) := by
    intro n1 hn1 hC2 k e hkn hRes n_
    induction n_ with
    | zero => intro i h1_ h2_; exact absurd h2_ (by omega)
    | succ n_ ih =>
      intro i h1_ h2_ hh0 H locs ls G hl kk
      refine lv_iload_n hx hb dX1_run_96 rfl (lv_at hl 0 rfl) ?_
      refine lv_aload_n hx hb dX1_run_97 rfl (lv_at hl 2 rfl) ?_
      refine mm_get S G 0 (by decide) q1267 rfl (v := .int (nI (cN C))) rfl dX1_run_98 ?_
      refine nn_cge (tgt := 131) hx hb (by omega) (by omega) dX1_run_101 (by decide) (fun c_101 => ?_) (fun c_101 => ?_)
      · have hiN : i = cN C := by omega
        subst hiN
        exact kk H locs ls hh0 G (lv_sub hl [0, 1, 2, 3] rfl)
      · refine lv_aload_n hx hb dX1_run_104 rfl (lv_at hl 2 rfl) ?_
        refine mm_get S G 9 (by decide) q1276 rfl (v := .ref (ad 10)) rfl dX1_run_105 ?_
        refine lv_iload_n hx hb dX1_run_108 rfl (lv_at hl 0 rfl) ?_
        refine mm_iald S G 9 0 (by decide) (n := 20) rfl rfl (by omega) (by decide) (v := nI (cA C i)) rfl dX1_run_109 ?_
        refine lv_aload_n hx hb dX1_run_110 rfl (lv_at hl 2 rfl) ?_
        refine mm_get S G 12 (by decide) q1279 rfl (v := .int (dI e 12)) rfl dX1_run_111 ?_
        refine lv_iconst (v := nI 1) hx hb dX1_run_114 (by decide) ?_
        refine lv_iadd hx hb dX1_run_115 ?_
        refine lv_icmp_ne (tgt := 125) hx hb dX1_run_116 (by decide) (fun c_116 => ?_) (fun c_116 => ?_)
        · refine lv_iinc (v := nI (i + 1)) (lv' := [(3, .int (nI (i + 1))), (2, .int (nI k)), (0, .ref (ad 0)), (1, .int (nI n1))]) hx hb dX1_run_125 hl (k := 0) rfl (nI_1 _) (by decide) rfl (fun ls hl => ?_)
          refine lv_goto (tgt := 96) hx hb dX1_run_128 (by decide) ?_
          exact ih (i + 1) (by omega) (by omega) (lt_sB hh0 (by simp [c_116])) H locs ls G (lv_sub hl [0, 1, 2, 3] rfl) kk
        · have f2 : flN (wM C 2) e = some i := fi_some (p := fun m => decide (nI (cA C m) = dI e 12 + nI 1)) (by show i < cN C; omega) (by simp [c_116]) hh0
          have hR2 := hRes
          rw [show n1 - k = (n1 - k - 1) + 1 by omega] at hR2
          simp only [rnR, f2] at hR2
          obtain ⟨g1, g2⟩ := Prod.mk.inj hR2
          refine lv_sipush (v := (-1000)) hx hb dX1_run_119 (by decide) ?_
          refine lv_iload_n hx hb dX1_run_122 rfl (lv_at hl 0 rfl) ?_
          refine lv_isub hx hb dX1_run_123 ?_
          exact mm_iret S hr hlk G (by exact g1) (by exact hC2.symm) (by exact g2) dX1_run_124
  have L3 : ∀ (n1 : Nat) (hn1 : n1 ≤ 100) (hAA : aOK C) (hC2 : rnC C d n = wM C 2) (n_ : Nat) (k : Nat) (e : md_T), (n1 < k + n_) → (k ≤ n1) → (rnR (wM C 2) n1 (n1 - k) e = (rnI C d n, rnD C d n)) → (iOK (wM C 2) (dAI d 10) e) → (smOK e) → (∀ s, s < cZ C → cntN e s + (n1 - k) ≤ 120) → (dD e 45 = hvT (cH C)) → ∀ (H : Heap) (locs : List Loc) (ls : Array Slot), mG D dA ad (wM C 2) e s0 H locs → lv_has ls 4 [(2, .int (nI k)), (0, .ref (ad 0)), (1, .int (nI n1))] → W p0 l e0 (rm_ 6) s0 mid (Value.ref (ad 0) :: [.int n]).toArray bl0 me0 co0 H locs 0 0 (MQ bl0 (mQ D dA ad (some (.int (rnI C d n))) (rnC C d n) (rnD C d n)) (Value.ref (ad 0) :: [.int n]).toArray s0 0 0 (mA ad)) (F0 mid 89 ls []) := by
    intro n1 hn1 hAA hC2 n_
    induction n_ with
    | zero => intro k e h2_ h3_ hRes hie hse hce hde; exfalso; omega
    | succ n_ ih =>
      intro k e h2_ h3_ hRes hie hse hce hde H locs ls G hl
      refine lv_iload_n hx hb dX1_run_89 rfl (lv_at hl 0 rfl) ?_
      refine lv_iload_n hx hb dX1_run_90 rfl (lv_at hl 2 rfl) ?_
      refine nn_cge (tgt := 165) hx hb (by omega) (by omega) dX1_run_91 (by decide) (fun c_91 => ?_) (fun c_91 => ?_)
      · have e0 : n1 - k = 0 := by omega
        rw [e0] at hRes
        obtain ⟨g1, g2⟩ := Prod.mk.inj hRes
        refine lv_iload_n hx hb dX1_run_165 rfl (lv_at hl 2 rfl) ?_
        exact mm_iret S hr hlk G (by exact g1) (by exact hC2.symm) (by exact g2) dX1_run_166
      · refine lv_iconst (v := nI 0) hx hb dX1_run_94 (by decide) ?_
        refine lv_istore_n (lv' := [(3, .int (nI 0)), (2, .int (nI k)), (0, .ref (ad 0)), (1, .int (nI n1))]) hx hb dX1_run_95 rfl hl (by decide) rfl (fun ls hl => ?_)
        refine L2 n1 hn1 hC2 k e (by omega) hRes (cN C + 1) 0 (by omega) (by omega) (fun k hk => by omega) _ _ ls G (lv_sub hl [0, 1, 2, 3] rfl) (fun H locs ls hh1 G hl => ?_)
        have f2 : flN (wM C 2) e = none := fi_none hh1
        have hce1 : ∀ s, s < cZ (wM C 2) → cntN e s < 120 := fun s hs => by have := hce s hs; omega
        refine lv_aload_n hx hb dX1_run_131 rfl (lv_at hl 2 rfl) ?_
        refine lv_aload_n hx hb dX1_run_132 rfl (lv_at hl 2 rfl) ?_
        refine mm_get S G 12 (by decide) q1279 rfl (v := .int (dI e 12)) rfl dX1_run_133 ?_
        refine lv_iconst (v := nI 1) hx hb dX1_run_136 (by decide) ?_
        refine lv_iadd hx hb dX1_run_137 ?_
        refine mm_puti S G 44 rfl (by decide) q1311 rfl rfl rfl dX1_run_138 (fun H locs G => ?_)
        refine lv_aload_n hx hb dX1_run_141 rfl (lv_at hl 2 rfl) ?_
        refine mm_call (As := []) (rest := []) S G (mt_X1_step l D dA ad (wM C 2) (uI e 44 ((dI e 12) + (nI 1))) (mOK_wM hC (by decide)) (vOK_w C 2 hV) (aOK_w C 2 hAA) (show lvOK (dAI e 10) from by rw [hie.l]; exact hL) hDl (show iOK (wM C 2) (dAI e 10) (uI e 44 ((dI e 12) + (nI 1))) from by rw [hie.l]; exact (iOK_mv hie rfl rfl rfl)) (show dD e 45 = hvT (cH C) from hde) (hv_ok (by omega)) (hv_ok (k := cH C + 1) (by omega))) q1628 q1630 qs41 q1631 hd_X1_step ⟨Nat.le_of_ble_eq_true rfl, Nat.le_of_ble_eq_true rfl⟩ rfl hl.1 rfl (Nat.le_of_ble_eq_true rfl) dX1_run_142 ⟨Nat.zero_le _, Nat.zero_le _⟩ (fun H locs G => ?_)
        refine W.eq (g2 := F0 mid 145 ls []) rfl ?_
        have G : mG D dA ad (wM C 2) (rn1 (wM C 2) e) s0 H locs := G
        refine lv_aload_n hx hb dX1_run_145 rfl (lv_at hl 2 rfl) ?_
        refine lv_dup hx hb dX1_run_146 rfl ?_
        refine mm_get S G 15 (by decide) q1282 rfl (v := .int (dI (rn1 (wM C 2) e) 15)) rfl dX1_run_147 ?_
        refine lv_iconst (v := nI 1) hx hb dX1_run_150 (by decide) ?_
        refine lv_iadd hx hb dX1_run_151 ?_
        refine mm_puti S G 15 rfl (by decide) q1282 rfl rfl rfl dX1_run_152 (fun H locs G => ?_)
        refine lv_aload_n hx hb dX1_run_155 rfl (lv_at hl 2 rfl) ?_
        refine mm_call (As := []) (rest := []) S G (mt_X1_toStrips l D dA ad (wM C 2) (uI (rn1 (wM C 2) e) 15 ((dI (rn1 (wM C 2) e) 15) + (nI 1))) (mOK_wM hC (by decide)) (sm_mv hse (st_A _ _ _ (by decide) (by decide))) (fun s hs => by show ixN (dAI (stD _ _ _) 39 s) < 120; rw [st_A _ _ _ (by decide) (by decide)]; exact hce1 s hs)) q1611 q1613 qs39 q1614 hd_X1_toStrips ⟨Nat.le_of_ble_eq_true rfl, Nat.le_of_ble_eq_true rfl⟩ rfl hl.1 rfl (Nat.le_of_ble_eq_true rfl) dX1_run_156 ⟨Nat.zero_le _, Nat.zero_le _⟩ (fun H locs G => ?_)
        refine W.eq (g2 := F0 mid 159 ls []) rfl ?_
        have G : mG D dA ad (wM C 2) (rnS (wM C 2) e) s0 H locs := G
        obtain ⟨u1, u2, u3, u4⟩ := rnS_ok (mOK_wM hC (by decide)) (vOK_w C 2 hV) (aOK_w C 2 hAA) hie hse hce1
        refine lv_iinc (v := nI (k + 1)) (lv' := [(2, .int (nI (k + 1))), (3, .int (nI (cN C))), (0, .ref (ad 0)), (1, .int (nI n1))]) hx hb dX1_run_159 hl (k := 1) rfl (nI_1 _) (by decide) rfl (fun ls hl => ?_)
        refine lv_goto (tgt := 89) hx hb dX1_run_162 (by decide) ?_
        exact ih (k + 1) (rnS (wM C 2) e) (by omega) (by omega) (by rw [← hRes, show n1 - k = n1 - (k + 1) + 1 by omega]; simp only [rnR, f2]) u1 u2 (fun s hs => by rw [u3 s hs]; have := hce s hs; omega) (by rw [u4]; exact hde) H locs ls G (lv_sub hl [0, 2, 3] rfl)
  refine lv_iload_n hx hb dX1_run_0 rfl (lv_at hl 1 rfl) ?_
  refine lv_iconst (v := nI 1) hx hb dX1_run_1 (by decide) ?_
  refine lv_bipush (v := nI 100) hx hb dX1_run_2 (by decide) ?_
  refine sC_call (As := [.int n, .int (nI 1), .int (nI 100)]) (rest := []) S (st_X1_in l n (nI 1) (nI 100)) q1455 q1456 q53 q1457 hd_X1_in ⟨Nat.le_of_ble_eq_true rfl, Nat.le_of_ble_eq_true rfl⟩ rfl hl.1 rfl (Nat.le_of_ble_eq_true rfl) dX1_run_4 ⟨Nat.zero_le _, Nat.zero_le _⟩ ?_
  refine W.eq (g2 := F0 mid 7 ls [.int (bI (inB n (nI 1) (nI 100)))]) rfl ?_
  refine bb_ne (tgt := 13) hx hb dX1_run_7 (by decide) (fun c_7 => ?_) (fun c_7 => ?_)
  · obtain ⟨n1, hn0, hn1, rfl⟩ := in_nat c_7 (by decide) (by decide)
    have ij_n1 : ixN (nI n1) = n1 := ixN_nI (by omega)
    refine lv_aload_n hx hb dX1_run_13 rfl (lv_at hl 0 rfl) ?_
    refine mm_get S G 11 (by decide) q1278 rfl (v := .int (nI (cM C))) rfl dX1_run_14 ?_
    refine nz_ne (tgt := 23) hx hb (by omega) dX1_run_17 (by decide) (fun c_17 => ?_) (fun c_17 => ?_)
    · refine lv_aload_n hx hb dX1_run_23 rfl (lv_at hl 0 rfl) ?_
      refine mm_get S G 12 (by decide) q1279 rfl (v := .int (dI d 12)) rfl dX1_run_24 ?_
      refine lv_iload_n hx hb dX1_run_27 rfl (lv_at hl 1 rfl) ?_
      refine lv_iadd hx hb dX1_run_28 ?_
      refine lv_sipush (v := nI 300) hx hb dX1_run_29 (by decide) ?_
      refine lv_icmp_le (tgt := 38) hx hb dX1_run_32 (by decide) (fun c_32 => ?_) (fun c_32 => ?_)
      · refine lv_iconst (v := nI 0) hx hb dX1_run_38 (by decide) ?_
        refine lv_istore_n (lv' := [(2, .int (nI 0)), (0, .ref (ad 0)), (1, .int (nI n1))]) hx hb dX1_run_39 rfl hl (by decide) rfl (fun ls hl => ?_)
        refine L1 n1 rfl hn1 ij_n1 c_7 c_17 c_32 (cZ C + 1) 0 (by omega) (by omega) (fun k hk => by omega) _ _ ls G (lv_sub hl [0, 1, 2] rfl) (fun H locs ls hh1 G hl => ?_)
        have f1 : rnB C d n1 = none := fi_none hh1
        refine lv_aload_n hx hb dX1_run_70 rfl (lv_at hl 1 rfl) ?_
        refine lv_iconst (v := nI 2) hx hb dX1_run_71 (by decide) ?_
        refine mm_putM S G q1278 dX1_run_72 (fun H locs G => ?_)
        refine lv_aload_n hx hb dX1_run_75 rfl (lv_at hl 1 rfl) ?_
        refine lv_aload_n hx hb dX1_run_76 rfl (lv_at hl 1 rfl) ?_
        refine lv_aload_n hx hb dX1_run_77 rfl (lv_at hl 1 rfl) ?_
        refine mm_get S G 14 (by decide) q1281 rfl (v := .int (nI (cH C))) rfl dX1_run_78 ?_
        refine mm_call (As := [.int (nI (cH C))]) (rest := [.ref (ad 0)]) S G (mt_X1_lengthOf l D dA ad (wM C 2) d (cH C) (by omega)) q1623 q1625 qs40 q1626 hd_X1_lengthOf ⟨Nat.le_of_ble_eq_true rfl, Nat.le_of_ble_eq_true rfl⟩ rfl hl.1 rfl (Nat.le_of_ble_eq_true rfl) dX1_run_81 ⟨Nat.zero_le _, Nat.zero_le _⟩ (fun H locs G => ?_)
        refine W.eq (g2 := F0 mid 84 ls [.double (hvT (cH C)), .ref (ad 0)]) rfl ?_
        refine mm_putd S G 45 rfl (by decide) q1312 rfl rfl rfl dX1_run_84 (fun H locs G => ?_)
        have G : mG D dA ad (wM C 2) (rn0 C d) s0 H locs := G
        refine lv_iconst (v := nI 0) hx hb dX1_run_87 (by decide) ?_
        refine lv_istore_n (lv' := [(2, .int (nI 0)), (0, .ref (ad 0)), (1, .int (nI n1))]) hx hb dX1_run_88 rfl hl (by decide) rfl (fun ls hl => ?_)
        have hOk : inB (nI n1) (nI 1) (nI 100) = true ∧ ¬ cM C = 0 ∧ dI d 12 + nI n1 ≤ nI 300 ∧ rnB C d (ixN (nI n1)) = none := ⟨c_7, c_17, c_32, by rw [ij_n1]; exact f1⟩
        have hC2 : rnC C d (nI n1) = wM C 2 := by unfold rnC; rw [if_pos hOk]
        have hRes : rnR (wM C 2) n1 (n1 - 0) (rn0 C d) = (rnI C d (nI n1), rnD C d (nI n1)) := by unfold rnI rnD; rw [if_pos hOk, if_pos hOk.1, if_neg hOk.2.1, if_pos hOk.2.2, ij_n1]; rfl
        have hcn := fi_inv0 f1
        exact L3 n1 hn1 (hA c_17) hC2 (n1 + 1) 0 (rn0 C d) (by omega) (by omega) hRes (iOK_mv hI rfl rfl rfl) (sm_mv hSm rfl) (fun s hs => by have := hcn s hs; simp at this; show cntN d s + _ ≤ 120; omega) (by simp [rn0, uD, dD, va_up]) _ _ ls G (lv_sub hl [0, 1, 2] rfl)
      · refine lv_bipush (v := (-104)) hx hb dX1_run_35 (by decide) ?_
        exact mm_iret S hr hlk G (by simp [rnI, rnC, rnD, c_7, ij_n1, c_17, c_32]) (by simp [rnI, rnC, rnD, c_7, ij_n1, c_17, c_32]) (by simp [rnI, rnC, rnD, c_7, ij_n1, c_17, c_32]) dX1_run_37
    · refine lv_bipush (v := (-103)) hx hb dX1_run_20 (by decide) ?_
      exact mm_iret S hr hlk G (by simp [rnI, rnC, rnD, c_7, ij_n1, c_17]) (by simp [rnI, rnC, rnD, c_7, ij_n1, c_17]) (by simp [rnI, rnC, rnD, c_7, ij_n1, c_17]) dX1_run_22
  · refine lv_bipush (v := (-102)) hx hb dX1_run_10 (by decide) ?_
    exact mm_iret S hr hlk G (by simp [rnI, rnC, rnD, c_7]) (by simp [rnI, rnC, rnD, c_7]) (by simp [rnI, rnC, rnD, c_7]) dX1_run_12
