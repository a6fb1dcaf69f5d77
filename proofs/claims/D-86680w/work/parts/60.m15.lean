set_option maxRecDepth 100000
set_option maxHeartbeats 4000000
theorem dX1_sweep_0 : decode cX1_sweep 0 = .ok (.aload_n 0, 1) := by decide +kernel
theorem dX1_sweep_1 : decode cX1_sweep 1 = .ok (.iload_n 1, 1) := by decide +kernel
theorem dX1_sweep_2 : decode cX1_sweep 2 = .ok (.invokevirtual 198, 3) := by decide +kernel
theorem dX1_sweep_5 : decode cX1_sweep 5 = .ok (.ifCond .eq 12, 3) := by decide +kernel
theorem dX1_sweep_8 : decode cX1_sweep 8 = .ok (.aload_n 0, 1) := by decide +kernel
theorem dX1_sweep_9 : decode cX1_sweep 9 = .ok (.iload 8, 2) := by decide +kernel
theorem dX1_sweep_11 : decode cX1_sweep 11 = .ok (.invokevirtual 198, 3) := by decide +kernel
theorem dX1_sweep_14 : decode cX1_sweep 14 = .ok (.ifCond .ne 6, 3) := by decide +kernel
theorem dX1_sweep_17 : decode cX1_sweep 17 = .ok (.bipush (-101), 2) := by decide +kernel
theorem dX1_sweep_19 : decode cX1_sweep 19 = .ok (.ireturn, 1) := by decide +kernel
theorem dX1_sweep_20 : decode cX1_sweep 20 = .ok (.iload 6, 2) := by decide +kernel
theorem dX1_sweep_22 : decode cX1_sweep 22 = .ok (.iconst 1, 1) := by decide +kernel
theorem dX1_sweep_23 : decode cX1_sweep 23 = .ok (.bipush 6, 2) := by decide +kernel
theorem dX1_sweep_25 : decode cX1_sweep 25 = .ok (.invokestatic 161, 3) := by decide +kernel
theorem dX1_sweep_28 : decode cX1_sweep 28 = .ok (.ifCond .eq 29, 3) := by decide +kernel
theorem dX1_sweep_31 : decode cX1_sweep 31 = .ok (.iload 7, 2) := by decide +kernel
theorem dX1_sweep_33 : decode cX1_sweep 33 = .ok (.iconst 1, 1) := by decide +kernel
theorem dX1_sweep_34 : decode cX1_sweep 34 = .ok (.bipush 40, 2) := by decide +kernel
theorem dX1_sweep_36 : decode cX1_sweep 36 = .ok (.invokestatic 161, 3) := by decide +kernel
theorem dX1_sweep_39 : decode cX1_sweep 39 = .ok (.ifCond .eq 18, 3) := by decide +kernel
theorem dX1_sweep_42 : decode cX1_sweep 42 = .ok (.lload_n 2, 1) := by decide +kernel
theorem dX1_sweep_43 : decode cX1_sweep 43 = .ok (.invokestatic 181, 3) := by decide +kernel
theorem dX1_sweep_46 : decode cX1_sweep 46 = .ok (.ifCond .eq 11, 3) := by decide +kernel
theorem dX1_sweep_49 : decode cX1_sweep 49 = .ok (.lload 4, 2) := by decide +kernel
theorem dX1_sweep_51 : decode cX1_sweep 51 = .ok (.invokestatic 181, 3) := by decide +kernel
theorem dX1_sweep_54 : decode cX1_sweep 54 = .ok (.ifCond .ne 6, 3) := by decide +kernel
theorem dX1_sweep_57 : decode cX1_sweep 57 = .ok (.bipush (-102), 2) := by decide +kernel
theorem dX1_sweep_59 : decode cX1_sweep 59 = .ok (.ireturn, 1) := by decide +kernel
theorem dX1_sweep_60 : decode cX1_sweep 60 = .ok (.lload_n 2, 1) := by decide +kernel
theorem dX1_sweep_61 : decode cX1_sweep 61 = .ok (.invokestatic 185, 3) := by decide +kernel
theorem dX1_sweep_64 : decode cX1_sweep 64 = .ok (.dstore 9, 2) := by decide +kernel
theorem dX1_sweep_66 : decode cX1_sweep 66 = .ok (.lload 4, 2) := by decide +kernel
theorem dX1_sweep_68 : decode cX1_sweep 68 = .ok (.invokestatic 185, 3) := by decide +kernel
theorem dX1_sweep_71 : decode cX1_sweep 71 = .ok (.dstore 11, 2) := by decide +kernel
theorem dX1_sweep_73 : decode cX1_sweep 73 = .ok (.lload_n 2, 1) := by decide +kernel
theorem dX1_sweep_74 : decode cX1_sweep 74 = .ok (.ldc2_w 165, 3) := by decide +kernel
theorem dX1_sweep_77 : decode cX1_sweep 77 = .ok (.land, 1) := by decide +kernel
theorem dX1_sweep_78 : decode cX1_sweep 78 = .ok (.ldc2_w 167, 3) := by decide +kernel
theorem dX1_sweep_81 : decode cX1_sweep 81 = .ok (.lcmp, 1) := by decide +kernel
theorem dX1_sweep_82 : decode cX1_sweep 82 = .ok (.ifCond .ge 20, 3) := by decide +kernel
theorem dX1_sweep_85 : decode cX1_sweep 85 = .ok (.lload 4, 2) := by decide +kernel
theorem dX1_sweep_87 : decode cX1_sweep 87 = .ok (.ldc2_w 165, 3) := by decide +kernel
theorem dX1_sweep_90 : decode cX1_sweep 90 = .ok (.land, 1) := by decide +kernel
theorem dX1_sweep_91 : decode cX1_sweep 91 = .ok (.ldc2_w 167, 3) := by decide +kernel
theorem dX1_sweep_94 : decode cX1_sweep 94 = .ok (.lcmp, 1) := by decide +kernel
theorem dX1_sweep_95 : decode cX1_sweep 95 = .ok (.ifCond .ge 7, 3) := by decide +kernel
theorem dX1_sweep_98 : decode cX1_sweep 98 = .ok (.iconst 1, 1) := by decide +kernel
theorem dX1_sweep_99 : decode cX1_sweep 99 = .ok (.goto 4, 3) := by decide +kernel
theorem dX1_sweep_102 : decode cX1_sweep 102 = .ok (.iconst 0, 1) := by decide +kernel
theorem dX1_sweep_103 : decode cX1_sweep 103 = .ok (.istore 13, 2) := by decide +kernel
theorem dX1_sweep_105 : decode cX1_sweep 105 = .ok (.iconst 0, 1) := by decide +kernel
theorem dX1_sweep_106 : decode cX1_sweep 106 = .ok (.istore 14, 2) := by decide +kernel
theorem dX1_sweep_108 : decode cX1_sweep 108 = .ok (.iload 14, 2) := by decide +kernel
theorem dX1_sweep_110 : decode cX1_sweep 110 = .ok (.iload 6, 2) := by decide +kernel
theorem dX1_sweep_112 : decode cX1_sweep 112 = .ok (.if_icmp .ge 42, 3) := by decide +kernel
theorem dX1_sweep_115 : decode cX1_sweep 115 = .ok (.iload 13, 2) := by decide +kernel
theorem dX1_sweep_117 : decode cX1_sweep 117 = .ok (.ifCond .eq 28, 3) := by decide +kernel
theorem dX1_sweep_120 : decode cX1_sweep 120 = .ok (.aload_n 0, 1) := by decide +kernel
theorem dX1_sweep_121 : decode cX1_sweep 121 = .ok (.getfield 7, 3) := by decide +kernel
theorem dX1_sweep_124 : decode cX1_sweep 124 = .ok (.iload_n 1, 1) := by decide +kernel
theorem dX1_sweep_125 : decode cX1_sweep 125 = .ok (.iaload, 1) := by decide +kernel
theorem dX1_sweep_126 : decode cX1_sweep 126 = .ok (.dload 9, 2) := by decide +kernel
theorem dX1_sweep_128 : decode cX1_sweep 128 = .ok (.iload 14, 2) := by decide +kernel
theorem dX1_sweep_130 : decode cX1_sweep 130 = .ok (.i2d, 1) := by decide +kernel
theorem dX1_sweep_131 : decode cX1_sweep 131 = .ok (.dload 11, 2) := by decide +kernel
theorem dX1_sweep_133 : decode cX1_sweep 133 = .ok (.dmul, 1) := by decide +kernel
theorem dX1_sweep_134 : decode cX1_sweep 134 = .ok (.dadd, 1) := by decide +kernel
theorem dX1_sweep_135 : decode cX1_sweep 135 = .ok (.invokestatic 191, 3) := by decide +kernel
theorem dX1_sweep_138 : decode cX1_sweep 138 = .ok (.ifCond .eq 7, 3) := by decide +kernel
theorem dX1_sweep_141 : decode cX1_sweep 141 = .ok (.iconst 1, 1) := by decide +kernel
theorem dX1_sweep_142 : decode cX1_sweep 142 = .ok (.goto 4, 3) := by decide +kernel
theorem dX1_sweep_145 : decode cX1_sweep 145 = .ok (.iconst 0, 1) := by decide +kernel
theorem dX1_sweep_146 : decode cX1_sweep 146 = .ok (.istore 13, 2) := by decide +kernel
theorem dX1_sweep_148 : decode cX1_sweep 148 = .ok (.iinc 14 1, 3) := by decide +kernel
theorem dX1_sweep_151 : decode cX1_sweep 151 = .ok (.goto (-43), 3) := by decide +kernel
theorem dX1_sweep_154 : decode cX1_sweep 154 = .ok (.iload 13, 2) := by decide +kernel
theorem dX1_sweep_156 : decode cX1_sweep 156 = .ok (.ifCond .ne 6, 3) := by decide +kernel
theorem dX1_sweep_159 : decode cX1_sweep 159 = .ok (.bipush (-102), 2) := by decide +kernel
theorem dX1_sweep_161 : decode cX1_sweep 161 = .ok (.ireturn, 1) := by decide +kernel
theorem dX1_sweep_162 : decode cX1_sweep 162 = .ok (.aload_n 0, 1) := by decide +kernel
theorem dX1_sweep_163 : decode cX1_sweep 163 = .ok (.getfield 195, 3) := by decide +kernel
theorem dX1_sweep_166 : decode cX1_sweep 166 = .ok (.ifCond .ne 6, 3) := by decide +kernel
theorem dX1_sweep_169 : decode cX1_sweep 169 = .ok (.bipush (-103), 2) := by decide +kernel
theorem dX1_sweep_171 : decode cX1_sweep 171 = .ok (.ireturn, 1) := by decide +kernel
theorem dX1_sweep_172 : decode cX1_sweep 172 = .ok (.aload_n 0, 1) := by decide +kernel
theorem dX1_sweep_173 : decode cX1_sweep 173 = .ok (.invokevirtual 365, 3) := by decide +kernel
theorem dX1_sweep_176 : decode cX1_sweep 176 = .ok (.aload_n 0, 1) := by decide +kernel
theorem dX1_sweep_177 : decode cX1_sweep 177 = .ok (.aload_n 0, 1) := by decide +kernel
theorem dX1_sweep_178 : decode cX1_sweep 178 = .ok (.getfield 13, 3) := by decide +kernel
theorem dX1_sweep_181 : decode cX1_sweep 181 = .ok (.iload_n 1, 1) := by decide +kernel
theorem dX1_sweep_182 : decode cX1_sweep 182 = .ok (.daload, 1) := by decide +kernel
theorem dX1_sweep_183 : decode cX1_sweep 183 = .ok (.putfield 368, 3) := by decide +kernel
theorem dX1_sweep_186 : decode cX1_sweep 186 = .ok (.iconst 0, 1) := by decide +kernel
theorem dX1_sweep_187 : decode cX1_sweep 187 = .ok (.istore 14, 2) := by decide +kernel
theorem dX1_sweep_189 : decode cX1_sweep 189 = .ok (.iload 14, 2) := by decide +kernel
theorem dX1_sweep_191 : decode cX1_sweep 191 = .ok (.iload 6, 2) := by decide +kernel
theorem dX1_sweep_193 : decode cX1_sweep 193 = .ok (.if_icmp .ge 47, 3) := by decide +kernel
theorem dX1_sweep_196 : decode cX1_sweep 196 = .ok (.aload_n 0, 1) := by decide +kernel
theorem dX1_sweep_197 : decode cX1_sweep 197 = .ok (.getfield 13, 3) := by decide +kernel
theorem dX1_sweep_200 : decode cX1_sweep 200 = .ok (.iload_n 1, 1) := by decide +kernel
theorem dX1_sweep_201 : decode cX1_sweep 201 = .ok (.dload 9, 2) := by decide +kernel
theorem dX1_sweep_203 : decode cX1_sweep 203 = .ok (.iload 14, 2) := by decide +kernel
theorem dX1_sweep_205 : decode cX1_sweep 205 = .ok (.i2d, 1) := by decide +kernel
theorem dX1_sweep_206 : decode cX1_sweep 206 = .ok (.dload 11, 2) := by decide +kernel
theorem dX1_sweep_208 : decode cX1_sweep 208 = .ok (.dmul, 1) := by decide +kernel
theorem dX1_sweep_209 : decode cX1_sweep 209 = .ok (.dadd, 1) := by decide +kernel
theorem dX1_sweep_210 : decode cX1_sweep 210 = .ok (.dastore, 1) := by decide +kernel
theorem dX1_sweep_211 : decode cX1_sweep 211 = .ok (.aload_n 0, 1) := by decide +kernel
theorem dX1_sweep_212 : decode cX1_sweep 212 = .ok (.getfield 116, 3) := by decide +kernel
theorem dX1_sweep_215 : decode cX1_sweep 215 = .ok (.iload 14, 2) := by decide +kernel
theorem dX1_sweep_217 : decode cX1_sweep 217 = .ok (.aload_n 0, 1) := by decide +kernel
theorem dX1_sweep_218 : decode cX1_sweep 218 = .ok (.iload 8, 2) := by decide +kernel
theorem dX1_sweep_220 : decode cX1_sweep 220 = .ok (.iload 7, 2) := by decide +kernel
theorem dX1_sweep_222 : decode cX1_sweep 222 = .ok (.aload_n 0, 1) := by decide +kernel
theorem dX1_sweep_223 : decode cX1_sweep 223 = .ok (.aload_n 0, 1) := by decide +kernel
theorem dX1_sweep_224 : decode cX1_sweep 224 = .ok (.getfield 42, 3) := by decide +kernel
theorem dX1_sweep_227 : decode cX1_sweep 227 = .ok (.invokevirtual 344, 3) := by decide +kernel
theorem dX1_sweep_230 : decode cX1_sweep 230 = .ok (.invokevirtual 371, 3) := by decide +kernel
theorem dX1_sweep_233 : decode cX1_sweep 233 = .ok (.dastore, 1) := by decide +kernel
theorem dX1_sweep_234 : decode cX1_sweep 234 = .ok (.iinc 14 1, 3) := by decide +kernel
theorem dX1_sweep_237 : decode cX1_sweep 237 = .ok (.goto (-48), 3) := by decide +kernel
theorem dX1_sweep_240 : decode cX1_sweep 240 = .ok (.aload_n 0, 1) := by decide +kernel
theorem dX1_sweep_241 : decode cX1_sweep 241 = .ok (.getfield 13, 3) := by decide +kernel
theorem dX1_sweep_244 : decode cX1_sweep 244 = .ok (.iload_n 1, 1) := by decide +kernel
theorem dX1_sweep_245 : decode cX1_sweep 245 = .ok (.aload_n 0, 1) := by decide +kernel
theorem dX1_sweep_246 : decode cX1_sweep 246 = .ok (.getfield 368, 3) := by decide +kernel
theorem dX1_sweep_249 : decode cX1_sweep 249 = .ok (.dastore, 1) := by decide +kernel
theorem dX1_sweep_250 : decode cX1_sweep 250 = .ok (.aload_n 0, 1) := by decide +kernel
theorem dX1_sweep_251 : decode cX1_sweep 251 = .ok (.invokevirtual 375, 3) := by decide +kernel
theorem dX1_sweep_254 : decode cX1_sweep 254 = .ok (.aload_n 0, 1) := by decide +kernel
theorem dX1_sweep_255 : decode cX1_sweep 255 = .ok (.iload 6, 2) := by decide +kernel
theorem dX1_sweep_257 : decode cX1_sweep 257 = .ok (.putfield 378, 3) := by decide +kernel
theorem dX1_sweep_260 : decode cX1_sweep 260 = .ok (.iload 6, 2) := by decide +kernel
theorem dX1_sweep_262 : decode cX1_sweep 262 = .ok (.ireturn, 1) := by decide +kernel
theorem mt_X1_sweep (l : Launch) (D : va_G) (dA : Nat → ClassId) (ad : Nat → Nat) (C : tp_C) (d : md_T) (m : Int32) (a : Int64) (b : Int64) (c : Int32) (n : Int32) (q : Int32) (hC : mOK C) (hV : vOK C) (hW : vfOK C) (hA : (¬ cM C = 0 → aOK C)) (hDl : dlOK C) (hL : lvOK (dAI d 10)) (hI : iOK C (dAI d 10) d) : mC l D dA ad yX1_sweep cX1_sweep 15 (some .int) 7 [.int m, .long a, .long b, .int c, .int n, .int q] C d (some (.int (swI C m a b c n q))) (swCC C m a b c n q) (swD C d m a b c n q) := by
  refine mm_start (by decide) rfl (Nat.le_of_ble_eq_true rfl) ?_
  intro p0 e0 s0 mid bl0 me0 co0 ls S hr hlk G hl
  have hx := S.1; have hb := S.2.1; have hml := S.2.2.1; have hown := S.2.2.2.1; have hts := S.2.2.2.2
  have hl : lv_has ls 15 [(0, .ref (ad 0)), (1, .int m), (2, .long a), (4, .long b), (6, .int c), (7, .int n), (8, .int q)] := hl
  have hN := hC.n
  have hMo := hC.mo
  have hH := hC.hv
  have hw6 := hC.w
  have L1 : ∀ (m1 q1 n1 c1 : Nat) (hm1 : m1 < cN C) (hq1 : q1 < cN C) (hn1 : n1 ≤ 40) (hn0 : 1 ≤ n1) (hc1 : c1 ≤ 6) (hc0 : 1 ≤ c1) (n_ j : Nat), j ≤ c1 → c1 < j + n_ → ∀ (H : Heap) (locs : List Loc) (ls : Array Slot), mG D dA ad C d s0 H locs → lv_has ls 15 [(14, .int (nI j)), (13, .int (bI (swA C m1 a b j))), (11, .double ((b).toUInt64)), (9, .double ((a).toUInt64)), (8, .int (nI q1)), (7, .int (nI n1)), (6, .int (nI c1)), (4, .long b), (2, .long a), (0, .ref (ad 0)), (1, .int (nI m1))] → (∀ (H : Heap) (locs : List Loc) (ls : Array Slot), mG D dA ad C d s0 H locs → lv_has ls 15 [(14, .int (nI c1)), (13, .int (bI (swA C m1 a b c1))), (11, .double ((b).toUInt64)), (9, .double ((a).toUInt64)), (8, .int (nI q1)), (7, .int (nI n1)), (6, .int (nI c1)), (4, .long b), (2, .long a), (0, .ref (ad 0)), (1, .int (nI m1))] → W p0 l e0 (rm_ 7) s0 mid (Value.ref (ad 0) :: [.int m, .long a, .long b, .int c, .int n, .int q]).toArray bl0 me0 co0 H locs 0 0 (MQ bl0 (mQ D dA ad (some (.int (swI C m a b c n q))) (swCC C m a b c n q) (swD C d m a b c n q)) (Value.ref (ad 0) :: [.int m, .long a, .long b, .int c, .int n, .int q]).toArray s0 0 0 (mA ad)) (F0 mid 154 ls [])) → W p0 l e0 (rm_ 7) s0 mid (Value.ref (ad 0) :: [.int m, .long a, .long b, .int c, .int n, .int q]).toArray bl0 me0 co0 H locs 0 0 (MQ bl0 (mQ D dA ad (some (.int (swI C m a b c n q))) (swCC C m a b c n q) (swD C d m a b c n q)) (Value.ref (ad 0) :: [.int m, .long a, .long b, .int c, .int n, .int q]).toArray s0 0 0 (mA ad)) (F0 mid 108 ls []) := by
    intro m1 q1 n1 c1 hm1 hq1 hn1 hn0 hc1 hc0 n_
    induction n_ with
    | zero => intro j h1_ h2_; exact absurd h2_ (by omega)
    | succ n_ ih =>
      intro j h1_ h2_ H locs ls G hl kk
      refine lv_iload hx hb dX1_sweep_108 (lv_at hl 0 rfl) ?_
      refine lv_iload hx hb dX1_sweep_110 (lv_at hl 6 rfl) ?_
      refine nn_cge (tgt := 154) hx hb (by omega) (by omega) dX1_sweep_112 (by decide) (fun c_112 => ?_) (fun c_112 => ?_)
      · have hiN : j = c1 := by omega
        subst hiN
        exact kk H locs ls G (lv_sub hl [0, 1, 2, 3, 4, 5, 6, 7, 8, 9, 10] rfl)
      · refine lv_iload hx hb dX1_sweep_115 (lv_at hl 1 rfl) ?_
        refine bb_eq (tgt := 145) hx hb dX1_sweep_117 (by decide) (fun c_117 => ?_) (fun c_117 => ?_)
        · refine lv_iconst (v := nI 0) hx hb dX1_sweep_145 (by decide) ?_
          refine lv_istore (lv' := [(13, .int (nI 0)), (14, .int (nI j)), (11, .double ((b).toUInt64)), (9, .double ((a).toUInt64)), (8, .int (nI q1)), (7, .int (nI n1)), (6, .int (nI c1)), (4, .long b), (2, .long a), (0, .ref (ad 0)), (1, .int (nI m1))]) hx hb dX1_sweep_146 hl (by decide) rfl (fun ls hl => ?_)
          refine lv_iinc (v := nI (j + 1)) (lv' := [(14, .int (nI (j + 1))), (13, .int (nI 0)), (11, .double ((b).toUInt64)), (9, .double ((a).toUInt64)), (8, .int (nI q1)), (7, .int (nI n1)), (6, .int (nI c1)), (4, .long b), (2, .long a), (0, .ref (ad 0)), (1, .int (nI m1))]) hx hb dX1_sweep_148 hl (k := 1) rfl (nI_1 _) (by decide) rfl (fun ls hl => ?_)
          refine lv_goto (tgt := 108) hx hb dX1_sweep_151 (by decide) ?_
          exact ih (j + 1) (by omega) (by omega) H locs ls G (lv_eq (lv_sub (l' := [(14, .int (nI (j + 1))), (13, .int (nI 0)), (11, .double ((b).toUInt64)), (9, .double ((a).toUInt64)), (8, .int (nI q1)), (7, .int (nI n1)), (6, .int (nI c1)), (4, .long b), (2, .long a), (0, .ref (ad 0)), (1, .int (nI m1))]) hl [0, 1, 2, 3, 4, 5, 6, 7, 8, 9, 10] rfl) (by simp [swA_s, bI0, bI1, c_112, c_117])) kk
        · obtain ⟨fa, fb⟩ := swF_f (swA_f c_117)
          refine lv_aload_n hx hb dX1_sweep_120 rfl (lv_at hl 9 rfl) ?_
          refine mm_get S G 1 (by decide) q1268 rfl (v := .ref (ad 2)) rfl dX1_sweep_121 ?_
          refine lv_iload_n hx hb dX1_sweep_124 rfl (lv_at hl 10 rfl) ?_
          refine mm_iald S G 1 0 (by decide) (n := 20) rfl rfl (by omega) (by decide) (v := nI (cK C m1)) rfl dX1_sweep_125 ?_
          refine lv_dload hx hb dX1_sweep_126 (lv_at hl 3 rfl) ?_
          refine lv_iload hx hb dX1_sweep_128 (lv_at hl 0 rfl) ?_
          refine lv_i2d hx hb dX1_sweep_130 ?_
          refine lv_dload hx hb dX1_sweep_131 (lv_at hl 2 rfl) ?_
          refine lv_dmul hx hb dX1_sweep_133 (sw_n1 fb) ?_
          refine lv_dadd hx hb dX1_sweep_134 (sw_n2 fa fb) ?_
          refine w_st (st' := [.double (swV a b j), .int (nI (cK C m1))]) (by rfl) ?_
          refine sC_call (As := [.int (nI (cK C m1)), .double (swV a b j)]) (rest := []) S (st_X1_isSetting l (cK C m1) (swV a b j) (hC.k _)) q1464 q1465 q53 q1466 hd_X1_isSetting ⟨Nat.le_of_ble_eq_true rfl, Nat.le_of_ble_eq_true rfl⟩ rfl hl.1 rfl (Nat.le_of_ble_eq_true rfl) dX1_sweep_135 ⟨Nat.zero_le _, Nat.zero_le _⟩ ?_
          refine W.eq (g2 := F0 mid 138 ls [.int (bI (stB (cK C m1) (swV a b j)))]) rfl ?_
          refine bb_eq (tgt := 145) hx hb dX1_sweep_138 (by decide) (fun c_138 => ?_) (fun c_138 => ?_)
          · refine lv_iconst (v := nI 0) hx hb dX1_sweep_145 (by decide) ?_
            refine lv_istore (lv' := [(13, .int (nI 0)), (14, .int (nI j)), (11, .double ((b).toUInt64)), (9, .double ((a).toUInt64)), (8, .int (nI q1)), (7, .int (nI n1)), (6, .int (nI c1)), (4, .long b), (2, .long a), (0, .ref (ad 0)), (1, .int (nI m1))]) hx hb dX1_sweep_146 hl (by decide) rfl (fun ls hl => ?_)
            refine lv_iinc (v := nI (j + 1)) (lv' := [(14, .int (nI (j + 1))), (13, .int (nI 0)), (11, .double ((b).toUInt64)), (9, .double ((a).toUInt64)), (8, .int (nI q1)), (7, .int (nI n1)), (6, .int (nI c1)), (4, .long b), (2, .long a), (0, .ref (ad 0)), (1, .int (nI m1))]) hx hb dX1_sweep_148 hl (k := 1) rfl (nI_1 _) (by decide) rfl (fun ls hl => ?_)
            refine lv_goto (tgt := 108) hx hb dX1_sweep_151 (by decide) ?_
            exact ih (j + 1) (by omega) (by omega) H locs ls G (lv_eq (lv_sub (l' := [(14, .int (nI (j + 1))), (13, .int (nI 0)), (11, .double ((b).toUInt64)), (9, .double ((a).toUInt64)), (8, .int (nI q1)), (7, .int (nI n1)), (6, .int (nI c1)), (4, .long b), (2, .long a), (0, .ref (ad 0)), (1, .int (nI m1))]) hl [0, 1, 2, 3, 4, 5, 6, 7, 8, 9, 10] rfl) (by simp [swA_s, bI0, bI1, c_112, c_117, c_138])) kk
          · refine lv_iconst (v := nI 1) hx hb dX1_sweep_141 (by decide) ?_
            refine lv_goto (tgt := 146) hx hb dX1_sweep_142 (by decide) ?_
            refine lv_istore (lv' := [(13, .int (nI 1)), (14, .int (nI j)), (11, .double ((b).toUInt64)), (9, .double ((a).toUInt64)), (8, .int (nI q1)), (7, .int (nI n1)), (6, .int (nI c1)), (4, .long b), (2, .long a), (0, .ref (ad 0)), (1, .int (nI m1))]) hx hb dX1_sweep_146 hl (by decide) rfl (fun ls hl => ?_)
            refine lv_iinc (v := nI (j + 1)) (lv' := [(14, .int (nI (j + 1))), (13, .int (nI 1)), (11, .double ((b).toUInt64)), (9, .double ((a).toUInt64)), (8, .int (nI q1)), (7, .int (nI n1)), (6, .int (nI c1)), (4, .long b), (2, .long a), (0, .ref (ad 0)), (1, .int (nI m1))]) hx hb dX1_sweep_148 hl (k := 1) rfl (nI_1 _) (by decide) rfl (fun ls hl => ?_)
            refine lv_goto (tgt := 108) hx hb dX1_sweep_151 (by decide) ?_
            exact ih (j + 1) (by omega) (by omega) H locs ls G (lv_eq (lv_sub (l' := [(14, .int (nI (j + 1))), (13, .int (nI 1)), (11, .double ((b).toUInt64)), (9, .double ((a).toUInt64)), (8, .int (nI q1)), (7, .int (nI n1)), (6, .int (nI c1)), (4, .long b), (2, .long a), (0, .ref (ad 0)), (1, .int (nI m1))]) hl [0, 1, 2, 3, 4, 5, 6, 7, 8, 9, 10] rfl) (by simp [swA_s, bI0, bI1, c_112, c_117, c_138])) kk
  have L2 : ∀ (m1 q1 n1 c1 : Nat) (hm1 : m1 < cN C) (hq1 : q1 < cN C) (hn1 : n1 ≤ 40) (hn0 : 1 ≤ n1) (hc1 : c1 ≤ 6) (hc0 : 1 ≤ c1) (fa : fD (a).toUInt64) (fb : fD (b).toUInt64) (hst : ∀ j, j < c1 → stB (cK C m1) (swV a b j) = true) (hAA : aOK C) (n_ j : Nat), j ≤ c1 → c1 < j + n_ → ∀ (H : Heap) (locs : List Loc) (ls : Array Slot), mG D dA ad (cjS C m1 a b j) (swN C m1 q1 n1 a b j d) s0 H locs → lv_has ls 15 [(14, .int (nI j)), (6, .int (nI c1)), (7, .int (nI n1)), (8, .int (nI q1)), (9, .double ((a).toUInt64)), (11, .double ((b).toUInt64)), (0, .ref (ad 0)), (1, .int (nI m1))] → (∀ (H : Heap) (locs : List Loc) (ls : Array Slot), mG D dA ad (cjS C m1 a b c1) (swN C m1 q1 n1 a b c1 d) s0 H locs → lv_has ls 15 [(14, .int (nI c1)), (6, .int (nI c1)), (7, .int (nI n1)), (8, .int (nI q1)), (9, .double ((a).toUInt64)), (11, .double ((b).toUInt64)), (0, .ref (ad 0)), (1, .int (nI m1))] → W p0 l e0 (rm_ 7) s0 mid (Value.ref (ad 0) :: [.int m, .long a, .long b, .int c, .int n, .int q]).toArray bl0 me0 co0 H locs 0 0 (MQ bl0 (mQ D dA ad (some (.int (swI C m a b c n q))) (swCC C m a b c n q) (swD C d m a b c n q)) (Value.ref (ad 0) :: [.int m, .long a, .long b, .int c, .int n, .int q]).toArray s0 0 0 (mA ad)) (F0 mid 240 ls [])) → W p0 l e0 (rm_ 7) s0 mid (Value.ref (ad 0) :: [.int m, .long a, .long b, .int c, .int n, .int q]).toArray bl0 me0 co0 H locs 0 0 (MQ bl0 (mQ D dA ad (some (.int (swI C m a b c n q))) (swCC C m a b c n q) (swD C d m a b c n q)) (Value.ref (ad 0) :: [.int m, .long a, .long b, .int c, .int n, .int q]).toArray s0 0 0 (mA ad)) (F0 mid 189 ls []) := by
    intro m1 q1 n1 c1 hm1 hq1 hn1 hn0 hc1 hc0 fa fb hst hAA n_
    induction n_ with
    | zero => intro j h1_ h2_; exact absurd h2_ (by omega)
    | succ n_ ih =>
      intro j h1_ h2_ H locs ls G hl kk
      obtain ⟨i1, l1⟩ := swN_ok (q := q1) (n := n1) hC hV hW hAA hL hI hst j h1_
      refine lv_iload hx hb dX1_sweep_189 (lv_at hl 0 rfl) ?_
      refine lv_iload hx hb dX1_sweep_191 (lv_at hl 1 rfl) ?_
      refine nn_cge (tgt := 240) hx hb (by omega) (by omega) dX1_sweep_193 (by decide) (fun c_193 => ?_) (fun c_193 => ?_)
      · have hiN : j = c1 := by omega
        subst hiN
        exact kk H locs ls G (lv_sub hl [0, 1, 2, 3, 4, 5, 6, 7] rfl)
      · refine lv_aload_n hx hb dX1_sweep_196 rfl (lv_at hl 6 rfl) ?_
        refine mm_get S G 2 (by decide) q1269 rfl (v := .ref (ad 3)) rfl dX1_sweep_197 ?_
        refine lv_iload_n hx hb dX1_sweep_200 rfl (lv_at hl 7 rfl) ?_
        refine lv_dload hx hb dX1_sweep_201 (lv_at hl 4 rfl) ?_
        refine lv_iload hx hb dX1_sweep_203 (lv_at hl 0 rfl) ?_
        refine lv_i2d hx hb dX1_sweep_205 ?_
        refine lv_dload hx hb dX1_sweep_206 (lv_at hl 5 rfl) ?_
        refine lv_dmul hx hb dX1_sweep_208 (sw_n1 fb) ?_
        refine lv_dadd hx hb dX1_sweep_209 (sw_n2 fa fb) ?_
        refine w_st (st' := [.double (swV a b j), .int (nI m1), .ref (ad 3)]) (by rfl) ?_
        refine mm_astS (v := swV a b j) S G (by omega) dX1_sweep_210 (fun H locs G => ?_)
        have G := mG_e (cjS_n C m1 a b j) G
        refine lv_aload_n hx hb dX1_sweep_211 rfl (lv_at hl 6 rfl) ?_
        refine mm_get S G 42 (by decide) q1309 rfl (v := .ref (ad 43)) rfl dX1_sweep_212 ?_
        refine lv_iload hx hb dX1_sweep_215 (lv_at hl 0 rfl) ?_
        refine lv_aload_n hx hb dX1_sweep_217 rfl (lv_at hl 6 rfl) ?_
        refine lv_iload hx hb dX1_sweep_218 (lv_at hl 3 rfl) ?_
        refine lv_iload hx hb dX1_sweep_220 (lv_at hl 2 rfl) ?_
        refine lv_aload_n hx hb dX1_sweep_222 rfl (lv_at hl 6 rfl) ?_
        refine lv_aload_n hx hb dX1_sweep_223 rfl (lv_at hl 6 rfl) ?_
        refine mm_get S G 14 (by decide) q1281 rfl (v := .int (nI (cH C))) rfl dX1_sweep_224 ?_
        refine mm_call (As := [.int (nI (cH C))]) (rest := [.int (nI n1), .int (nI q1), .ref (ad 0), .int (nI j), .ref (ad 43)]) S G (mt_X1_lengthOf l D dA ad (swC C m1 (swV a b j)) (swN C m1 q1 n1 a b j d) (cH C) (by omega)) q1623 q1625 qs40 q1626 hd_X1_lengthOf ⟨Nat.le_of_ble_eq_true rfl, Nat.le_of_ble_eq_true rfl⟩ rfl hl.1 rfl (Nat.le_of_ble_eq_true rfl) dX1_sweep_227 ⟨Nat.zero_le _, Nat.zero_le _⟩ (fun H locs G => ?_)
        refine W.eq (g2 := F0 mid 230 ls [.double (hvT (cH C)), .int (nI n1), .int (nI q1), .ref (ad 0), .int (nI j), .ref (ad 43)]) rfl ?_
        refine mm_call (As := [.int (nI q1), .int (nI n1), .double (hvT (cH C))]) (rest := [.int (nI j), .ref (ad 43)]) S G (mt_X1_tried l D dA ad (swC C m1 (swV a b j)) (swN C m1 q1 n1 a b j d) q1 n1 (hvT (cH C)) (show mOK (swC C m1 (swV a b j)) from hC) (sw_v hV (st_b (hst j (by omega)))) (show vfOK (swC C m1 (swV a b j)) from hW) (show aOK (swC C m1 (swV a b j)) from hAA) (sw_dl hDl (hst j (by omega))) l1 (show iOK (swC C m1 (swV a b j)) (dAI (swN C m1 q1 n1 a b j d) 10) (swN C m1 q1 n1 a b j d) from i1) (by omega) (by omega) (hv_ok (k := cH C) (by omega)) (hv_ok (k := cH C + 1) (by omega))) q1714 q1716 qs48 q1717 hd_X1_tried ⟨Nat.le_of_ble_eq_true rfl, Nat.le_of_ble_eq_true rfl⟩ rfl hl.1 rfl (Nat.le_of_ble_eq_true rfl) dX1_sweep_230 ⟨Nat.zero_le _, Nat.zero_le _⟩ (fun H locs G => ?_)
        refine W.eq (g2 := F0 mid 233 ls [.double (dAD (trN (swC C m1 (swV a b j)) (hvT (cH C)) n1 (swN C m1 q1 n1 a b j d)) 19 q1), .int (nI j), .ref (ad 43)]) rfl ?_
        refine w_st (st' := [.double (dAD (trN (swC C m1 (swV a b j)) (hvT (cH C)) n1 (swN C m1 q1 n1 a b j d)) 19 q1), .int (nI j), .ref (ad 43)]) (by rfl) ?_
        refine mm_dast S G 42 rfl (by decide) (n := 6) rfl (by omega) dX1_sweep_233 (fun H locs G => ?_)
        refine lv_iinc (v := nI (j + 1)) (lv' := [(14, .int (nI (j + 1))), (6, .int (nI c1)), (7, .int (nI n1)), (8, .int (nI q1)), (9, .double ((a).toUInt64)), (11, .double ((b).toUInt64)), (0, .ref (ad 0)), (1, .int (nI m1))]) hx hb dX1_sweep_234 hl (k := 0) rfl (nI_1 _) (by decide) rfl (fun ls hl => ?_)
        refine lv_goto (tgt := 189) hx hb dX1_sweep_237 (by decide) ?_
        exact ih (j + 1) (by omega) (by omega) H locs ls (mG_C (by exact (cjS_p C m1 a b j).symm) (by rfl) G) (lv_sub hl [0, 1, 2, 3, 4, 5, 6, 7] rfl) kk
  have J1 : ∀ (m1 q1 n1 c1 : Nat) (hm1 : m1 < cN C) (hq1 : q1 < cN C) (hn1 : n1 ≤ 40) (hn0 : 1 ≤ n1) (hc1 : c1 ≤ 6) (hc0 : 1 ≤ c1) (e1 : m = nI m1) (e2 : q = nI q1) (e3 : c = nI c1) (e4 : n = nI n1) (k1 : imB C m = true) (k2 : imB C q = true) (k3 : swG C m a b c n q = true) (x1 : ixN m = m1) (x2 : ixN q = q1) (x3 : ixN c = c1) (x4 : ixN n = n1) (H : Heap) (locs : List Loc) (ls : Array Slot), mG D dA ad C d s0 H locs → lv_has ls 15 [(13, .int (bI (swF a b))), (11, .double ((b).toUInt64)), (9, .double ((a).toUInt64)), (8, .int (nI q1)), (7, .int (nI n1)), (6, .int (nI c1)), (4, .long b), (2, .long a), (0, .ref (ad 0)), (1, .int (nI m1))] → W p0 l e0 (rm_ 7) s0 mid (Value.ref (ad 0) :: [.int m, .long a, .long b, .int c, .int n, .int q]).toArray bl0 me0 co0 H locs 0 0 (MQ bl0 (mQ D dA ad (some (.int (swI C m a b c n q))) (swCC C m a b c n q) (swD C d m a b c n q)) (Value.ref (ad 0) :: [.int m, .long a, .long b, .int c, .int n, .int q]).toArray s0 0 0 (mA ad)) (F0 mid 105 ls []) := by
    intro m1 q1 n1 c1 hm1 hq1 hn1 hn0 hc1 hc0 e1 e2 e3 e4 k1 k2 k3 x1 x2 x3 x4 H locs ls G hl
    refine lv_iconst (v := nI 0) hx hb dX1_sweep_105 (by decide) ?_
    refine lv_istore (lv' := [(14, .int (nI 0)), (13, .int (bI (swF a b))), (11, .double ((b).toUInt64)), (9, .double ((a).toUInt64)), (8, .int (nI q1)), (7, .int (nI n1)), (6, .int (nI c1)), (4, .long b), (2, .long a), (0, .ref (ad 0)), (1, .int (nI m1))]) hx hb dX1_sweep_106 hl (by decide) rfl (fun ls hl => ?_)
    refine L1 m1 q1 n1 c1 hm1 hq1 hn1 hn0 hc1 hc0 (c1 + 1) 0 (by omega) (by omega) _ _ ls G (lv_eq (lv_sub (l' := [(14, .int (nI 0)), (13, .int (bI (swF a b))), (11, .double ((b).toUInt64)), (9, .double ((a).toUInt64)), (8, .int (nI q1)), (7, .int (nI n1)), (6, .int (nI c1)), (4, .long b), (2, .long a), (0, .ref (ad 0)), (1, .int (nI m1))]) hl [0, 1, 2, 3, 4, 5, 6, 7, 8, 9, 10] rfl) (by rfl)) (fun H locs ls G hl => ?_)
    refine lv_iload hx hb dX1_sweep_154 (lv_at hl 1 rfl) ?_
    refine bb_ne (tgt := 162) hx hb dX1_sweep_156 (by decide) (fun c_156 => ?_) (fun c_156 => ?_)
    · have hst := swA_at c_156
      obtain ⟨fa, fb⟩ := swF_f (swA_f c_156)
      refine lv_aload_n hx hb dX1_sweep_162 rfl (lv_at hl 9 rfl) ?_
      refine mm_get S G 11 (by decide) q1278 rfl (v := .int (nI (cM C))) rfl dX1_sweep_163 ?_
      refine nz_ne (tgt := 172) hx hb (by omega) dX1_sweep_166 (by decide) (fun c_166 => ?_) (fun c_166 => ?_)
      · refine lv_aload_n hx hb dX1_sweep_172 rfl (lv_at hl 9 rfl) ?_
        refine mm_call (As := []) (rest := []) S G (mt_X1_keep l D dA ad C d ) q1710 q1712 qs47 q1713 hd_X1_keep ⟨Nat.le_of_ble_eq_true rfl, Nat.le_of_ble_eq_true rfl⟩ rfl hl.1 rfl (Nat.le_of_ble_eq_true rfl) dX1_sweep_173 ⟨Nat.zero_le _, Nat.zero_le _⟩ (fun H locs G => ?_)
        refine W.eq (g2 := F0 mid 176 ls []) rfl ?_
        refine lv_aload_n hx hb dX1_sweep_176 rfl (lv_at hl 9 rfl) ?_
        refine lv_aload_n hx hb dX1_sweep_177 rfl (lv_at hl 9 rfl) ?_
        refine mm_get S G 2 (by decide) q1269 rfl (v := .ref (ad 3)) rfl dX1_sweep_178 ?_
        refine lv_iload_n hx hb dX1_sweep_181 rfl (lv_at hl 10 rfl) ?_
        refine mm_dald S G 2 2 (by decide) (n := 20) rfl rfl (by omega) (by decide) (v := cS C m1) rfl dX1_sweep_182 ?_
        refine mm_putd S G 59 rfl (by decide) q1326 rfl rfl rfl dX1_sweep_183 (fun H locs G => ?_)
        have G : mG D dA ad C (sw0 C m1 d) s0 H locs := G
        refine lv_iconst (v := nI 0) hx hb dX1_sweep_186 (by decide) ?_
        refine lv_istore (lv' := [(14, .int (nI 0)), (13, .int (bI (swA C m1 a b c1))), (11, .double ((b).toUInt64)), (9, .double ((a).toUInt64)), (8, .int (nI q1)), (7, .int (nI n1)), (6, .int (nI c1)), (4, .long b), (2, .long a), (0, .ref (ad 0)), (1, .int (nI m1))]) hx hb dX1_sweep_187 hl (by decide) rfl (fun ls hl => ?_)
        refine L2 m1 q1 n1 c1 hm1 hq1 hn1 hn0 hc1 hc0 fa fb hst (hA c_166) (c1 + 1) 0 (by omega) (by omega) _ _ ls (mG_C (by rfl) (by rfl) G) (lv_sub hl [0, 6, 5, 4, 3, 2, 9, 10] rfl) (fun H locs ls G hl => ?_)
        refine lv_aload_n hx hb dX1_sweep_240 rfl (lv_at hl 6 rfl) ?_
        refine mm_get S G 2 (by decide) q1269 rfl (v := .ref (ad 3)) rfl dX1_sweep_241 ?_
        refine lv_iload_n hx hb dX1_sweep_244 rfl (lv_at hl 7 rfl) ?_
        refine lv_aload_n hx hb dX1_sweep_245 rfl (lv_at hl 6 rfl) ?_
        refine mm_get S G 59 (by decide) q1326 rfl (v := .double (cS C m1)) (show Value.double (dD (swN C m1 q1 n1 a b c1 d) 59) = _ by rw [swN_59]) dX1_sweep_246 ?_
        refine mm_astS (v := cS C m1) S G (by omega) dX1_sweep_249 (fun H locs G => ?_)
        have G := mG_e (cjS_e C m1 a b c1 (by omega)) G
        refine lv_aload_n hx hb dX1_sweep_250 rfl (lv_at hl 6 rfl) ?_
        refine mm_call (As := []) (rest := []) S G (mt_X1_back l D dA ad C (swN C m1 q1 n1 a b c1 d) ) q1718 q1720 qs49 q1721 hd_X1_back ⟨Nat.le_of_ble_eq_true rfl, Nat.le_of_ble_eq_true rfl⟩ rfl hl.1 rfl (Nat.le_of_ble_eq_true rfl) dX1_sweep_251 ⟨Nat.zero_le _, Nat.zero_le _⟩ (fun H locs G => ?_)
        refine W.eq (g2 := F0 mid 254 ls []) rfl ?_
        refine lv_aload_n hx hb dX1_sweep_254 rfl (lv_at hl 6 rfl) ?_
        refine lv_iload hx hb dX1_sweep_255 (lv_at hl 1 rfl) ?_
        refine mm_putW S G q1308 dX1_sweep_257 (fun H locs G => ?_)
        refine lv_iload hx hb dX1_sweep_260 (lv_at hl 1 rfl) ?_
        exact mm_iret S hr hlk G (by simp [swI, swCC, swD, swO, k1, k2, k3, x1, x2, x3, x4, c_156, c_166] <;> exact e3.symm) (by simp [swI, swCC, swD, swO, k1, k2, k3, x1, x2, x3, x4, c_156, c_166] <;> exact e3.symm) (by simp [swI, swCC, swD, swO, k1, k2, k3, x1, x2, x3, x4, c_156, c_166] <;> exact e3.symm) dX1_sweep_262
      · refine lv_bipush (v := (-103)) hx hb dX1_sweep_169 (by decide) ?_
        exact mm_iret S hr hlk G (by simp [swI, swCC, swD, swO, k1, k2, k3, x1, x2, x3, x4, c_156, c_166] <;> exact e3.symm) (by simp [swI, swCC, swD, swO, k1, k2, k3, x1, x2, x3, x4, c_156, c_166] <;> exact e3.symm) (by simp [swI, swCC, swD, swO, k1, k2, k3, x1, x2, x3, x4, c_156, c_166] <;> exact e3.symm) dX1_sweep_171
    · refine lv_bipush (v := (-102)) hx hb dX1_sweep_159 (by decide) ?_
      exact mm_iret S hr hlk G (by simp [swI, swCC, swD, swO, k1, k2, k3, x1, x2, x3, x4, c_156] <;> exact e3.symm) (by simp [swI, swCC, swD, swO, k1, k2, k3, x1, x2, x3, x4, c_156] <;> exact e3.symm) (by simp [swI, swCC, swD, swO, k1, k2, k3, x1, x2, x3, x4, c_156] <;> exact e3.symm) dX1_sweep_161
  refine lv_aload_n hx hb dX1_sweep_0 rfl (lv_at hl 0 rfl) ?_
  refine lv_iload_n hx hb dX1_sweep_1 rfl (lv_at hl 1 rfl) ?_
  refine mm_call (As := [.int m]) (rest := []) S G (mt_X1_isModule l D dA ad C d m) q1478 q1480 qs19 q1481 hd_X1_isModule ⟨Nat.le_of_ble_eq_true rfl, Nat.le_of_ble_eq_true rfl⟩ rfl hl.1 rfl (Nat.le_of_ble_eq_true rfl) dX1_sweep_2 ⟨Nat.zero_le _, Nat.zero_le _⟩ (fun H locs G => ?_)
  refine W.eq (g2 := F0 mid 5 ls [.int (bI (inB m (nI 0) (nI (cN C) - nI 1)))]) rfl ?_
  refine bb_eq (tgt := 17) hx hb dX1_sweep_5 (by decide) (fun c_5 => ?_) (fun c_5 => ?_)
  · refine lv_bipush (v := (-101)) hx hb dX1_sweep_17 (by decide) ?_
    exact mm_iret S hr hlk G (by simp [swI, swCC, swD, swO, swG, imB, c_5]) (by simp [swI, swCC, swD, swO, swG, imB, c_5]) (by simp [swI, swCC, swD, swO, swG, imB, c_5]) dX1_sweep_19
  · obtain ⟨m1, hm1, rfl⟩ := im_nat c_5 hN
    have ij_m1 : ixN (nI m1) = m1 := ixN_nI (by omega)
    refine lv_aload_n hx hb dX1_sweep_8 rfl (lv_at hl 0 rfl) ?_
    refine lv_iload hx hb dX1_sweep_9 (lv_at hl 6 rfl) ?_
    refine mm_call (As := [.int q]) (rest := []) S G (mt_X1_isModule l D dA ad C d q) q1478 q1480 qs19 q1481 hd_X1_isModule ⟨Nat.le_of_ble_eq_true rfl, Nat.le_of_ble_eq_true rfl⟩ rfl hl.1 rfl (Nat.le_of_ble_eq_true rfl) dX1_sweep_11 ⟨Nat.zero_le _, Nat.zero_le _⟩ (fun H locs G => ?_)
    refine W.eq (g2 := F0 mid 14 ls [.int (bI (inB q (nI 0) (nI (cN C) - nI 1)))]) rfl ?_
    refine bb_ne (tgt := 20) hx hb dX1_sweep_14 (by decide) (fun c_14 => ?_) (fun c_14 => ?_)
    · obtain ⟨q1, hq1, rfl⟩ := im_nat c_14 hN
      have ij_q1 : ixN (nI q1) = q1 := ixN_nI (by omega)
      refine lv_iload hx hb dX1_sweep_20 (lv_at hl 4 rfl) ?_
      refine lv_iconst (v := nI 1) hx hb dX1_sweep_22 (by decide) ?_
      refine lv_bipush (v := nI 6) hx hb dX1_sweep_23 (by decide) ?_
      refine sC_call (As := [.int c, .int (nI 1), .int (nI 6)]) (rest := []) S (st_X1_in l c (nI 1) (nI 6)) q1455 q1456 q53 q1457 hd_X1_in ⟨Nat.le_of_ble_eq_true rfl, Nat.le_of_ble_eq_true rfl⟩ rfl hl.1 rfl (Nat.le_of_ble_eq_true rfl) dX1_sweep_25 ⟨Nat.zero_le _, Nat.zero_le _⟩ ?_
      refine W.eq (g2 := F0 mid 28 ls [.int (bI (inB c (nI 1) (nI 6)))]) rfl ?_
      refine bb_eq (tgt := 57) hx hb dX1_sweep_28 (by decide) (fun c_28 => ?_) (fun c_28 => ?_)
      · refine lv_bipush (v := (-102)) hx hb dX1_sweep_57 (by decide) ?_
        exact mm_iret S hr hlk G (by simp [swI, swCC, swD, swO, swG, imB, c_5, ij_m1, c_14, ij_q1, c_28]) (by simp [swI, swCC, swD, swO, swG, imB, c_5, ij_m1, c_14, ij_q1, c_28]) (by simp [swI, swCC, swD, swO, swG, imB, c_5, ij_m1, c_14, ij_q1, c_28]) dX1_sweep_59
      · obtain ⟨c1, hc0, hc1, rfl⟩ := in_nat c_28 (by decide) (by decide)
        have ij_c1 : ixN (nI c1) = c1 := ixN_nI (by omega)
        refine lv_iload hx hb dX1_sweep_31 (lv_at hl 5 rfl) ?_
        refine lv_iconst (v := nI 1) hx hb dX1_sweep_33 (by decide) ?_
        refine lv_bipush (v := nI 40) hx hb dX1_sweep_34 (by decide) ?_
        refine sC_call (As := [.int n, .int (nI 1), .int (nI 40)]) (rest := []) S (st_X1_in l n (nI 1) (nI 40)) q1455 q1456 q53 q1457 hd_X1_in ⟨Nat.le_of_ble_eq_true rfl, Nat.le_of_ble_eq_true rfl⟩ rfl hl.1 rfl (Nat.le_of_ble_eq_true rfl) dX1_sweep_36 ⟨Nat.zero_le _, Nat.zero_le _⟩ ?_
        refine W.eq (g2 := F0 mid 39 ls [.int (bI (inB n (nI 1) (nI 40)))]) rfl ?_
        refine bb_eq (tgt := 57) hx hb dX1_sweep_39 (by decide) (fun c_39 => ?_) (fun c_39 => ?_)
        · refine lv_bipush (v := (-102)) hx hb dX1_sweep_57 (by decide) ?_
          exact mm_iret S hr hlk G (by simp [swI, swCC, swD, swO, swG, imB, c_5, ij_m1, c_14, ij_q1, c_28, ij_c1, c_39]) (by simp [swI, swCC, swD, swO, swG, imB, c_5, ij_m1, c_14, ij_q1, c_28, ij_c1, c_39]) (by simp [swI, swCC, swD, swO, swG, imB, c_5, ij_m1, c_14, ij_q1, c_28, ij_c1, c_39]) dX1_sweep_59
        · obtain ⟨n1, hn0, hn1, rfl⟩ := in_nat c_39 (by decide) (by decide)
          have ij_n1 : ixN (nI n1) = n1 := ixN_nI (by omega)
          refine lv_lload_n hx hb dX1_sweep_42 rfl (lv_at hl 2 rfl) ?_
          refine sC_call (As := [.long a]) (rest := []) S (st_X1_isNumber l a) q1458 q1459 q53 q1460 hd_X1_isNumber ⟨Nat.le_of_ble_eq_true rfl, Nat.le_of_ble_eq_true rfl⟩ rfl hl.1 rfl (Nat.le_of_ble_eq_true rfl) dX1_sweep_43 ⟨Nat.zero_le _, Nat.zero_le _⟩ ?_
          refine W.eq (g2 := F0 mid 46 ls [.int (bI (nbB a))]) rfl ?_
          refine bb_eq (tgt := 57) hx hb dX1_sweep_46 (by decide) (fun c_46 => ?_) (fun c_46 => ?_)
          · refine lv_bipush (v := (-102)) hx hb dX1_sweep_57 (by decide) ?_
            exact mm_iret S hr hlk G (by simp [swI, swCC, swD, swO, swG, imB, c_5, ij_m1, c_14, ij_q1, c_28, ij_c1, c_39, ij_n1, c_46]) (by simp [swI, swCC, swD, swO, swG, imB, c_5, ij_m1, c_14, ij_q1, c_28, ij_c1, c_39, ij_n1, c_46]) (by simp [swI, swCC, swD, swO, swG, imB, c_5, ij_m1, c_14, ij_q1, c_28, ij_c1, c_39, ij_n1, c_46]) dX1_sweep_59
          · refine lv_lload hx hb dX1_sweep_49 (lv_at hl 3 rfl) ?_
            refine sC_call (As := [.long b]) (rest := []) S (st_X1_isNumber l b) q1458 q1459 q53 q1460 hd_X1_isNumber ⟨Nat.le_of_ble_eq_true rfl, Nat.le_of_ble_eq_true rfl⟩ rfl hl.1 rfl (Nat.le_of_ble_eq_true rfl) dX1_sweep_51 ⟨Nat.zero_le _, Nat.zero_le _⟩ ?_
            refine W.eq (g2 := F0 mid 54 ls [.int (bI (nbB b))]) rfl ?_
            refine bb_ne (tgt := 60) hx hb dX1_sweep_54 (by decide) (fun c_54 => ?_) (fun c_54 => ?_)
            · refine lv_lload_n hx hb dX1_sweep_60 rfl (lv_at hl 2 rfl) ?_
              refine vn_l2d hx hb (hml.trans hl.1.symm) hown (hts _ q1463) (hts _ q166) (hts _ q165) (hts _ q55) (nb_sn (nb_n c_46)) (Nat.le_of_ble_eq_true rfl) (Nat.le_of_ble_eq_true rfl) dX1_sweep_61 ?_
              refine lv_dstore (lv' := [(9, .double ((a).toUInt64)), (0, .ref (ad 0)), (1, .int (nI m1)), (2, .long a), (4, .long b), (6, .int (nI c1)), (7, .int (nI n1)), (8, .int (nI q1))]) hx hb dX1_sweep_64 hl (by decide) rfl (fun ls hl => ?_)
              refine lv_lload hx hb dX1_sweep_66 (lv_at hl 4 rfl) ?_
              refine vn_l2d hx hb (hml.trans hl.1.symm) hown (hts _ q1463) (hts _ q166) (hts _ q165) (hts _ q55) (nb_sn (nb_n c_54)) (Nat.le_of_ble_eq_true rfl) (Nat.le_of_ble_eq_true rfl) dX1_sweep_68 ?_
              refine lv_dstore (lv' := [(11, .double ((b).toUInt64)), (9, .double ((a).toUInt64)), (0, .ref (ad 0)), (1, .int (nI m1)), (2, .long a), (4, .long b), (6, .int (nI c1)), (7, .int (nI n1)), (8, .int (nI q1))]) hx hb dX1_sweep_71 hl (by decide) rfl (fun ls hl => ?_)
              refine lv_lload_n hx hb dX1_sweep_73 rfl (lv_at hl 4 rfl) ?_
              refine lv_ldc2 hx hb hown (hts _ q1461) dX1_sweep_74 ?_
              refine lv_land hx hb dX1_sweep_77 ?_
              refine lv_ldc2 hx hb hown (hts _ q1462) dX1_sweep_78 ?_
              refine ll_ge (tgt := 102) hx hb dX1_sweep_81 dX1_sweep_82 (by decide) (fun c_82 => ?_) (fun c_82 => ?_)
              · refine lv_iconst (v := nI 0) hx hb dX1_sweep_102 (by decide) ?_
                refine w_st (st' := [.int (bI (swF a b))]) (by simp [swF, bI0, c_5, ij_m1, c_14, ij_q1, c_28, ij_c1, c_39, ij_n1, c_46, c_54, c_82]) ?_
                refine lv_istore (lv' := [(13, .int (bI (swF a b))), (11, .double ((b).toUInt64)), (9, .double ((a).toUInt64)), (0, .ref (ad 0)), (1, .int (nI m1)), (2, .long a), (4, .long b), (6, .int (nI c1)), (7, .int (nI n1)), (8, .int (nI q1))]) hx hb dX1_sweep_103 hl (by decide) rfl (fun ls hl => ?_)
                exact J1 m1 q1 n1 c1 hm1 hq1 hn1 hn0 hc1 hc0 rfl rfl rfl rfl c_5 c_14 (by simp [swG, c_28, c_39, c_46, c_54]) ij_m1 ij_q1 ij_c1 ij_n1 _ _ ls G (lv_sub hl [0, 1, 2, 9, 8, 7, 6, 5, 3, 4] rfl)
              · refine lv_lload hx hb dX1_sweep_85 (lv_at hl 5 rfl) ?_
                refine lv_ldc2 hx hb hown (hts _ q1461) dX1_sweep_87 ?_
                refine lv_land hx hb dX1_sweep_90 ?_
                refine lv_ldc2 hx hb hown (hts _ q1462) dX1_sweep_91 ?_
                refine ll_ge (tgt := 102) hx hb dX1_sweep_94 dX1_sweep_95 (by decide) (fun c_95 => ?_) (fun c_95 => ?_)
                · refine lv_iconst (v := nI 0) hx hb dX1_sweep_102 (by decide) ?_
                  refine w_st (st' := [.int (bI (swF a b))]) (by simp [swF, bI0, c_5, ij_m1, c_14, ij_q1, c_28, ij_c1, c_39, ij_n1, c_46, c_54, c_82, c_95]) ?_
                  refine lv_istore (lv' := [(13, .int (bI (swF a b))), (11, .double ((b).toUInt64)), (9, .double ((a).toUInt64)), (0, .ref (ad 0)), (1, .int (nI m1)), (2, .long a), (4, .long b), (6, .int (nI c1)), (7, .int (nI n1)), (8, .int (nI q1))]) hx hb dX1_sweep_103 hl (by decide) rfl (fun ls hl => ?_)
                  exact J1 m1 q1 n1 c1 hm1 hq1 hn1 hn0 hc1 hc0 rfl rfl rfl rfl c_5 c_14 (by simp [swG, c_28, c_39, c_46, c_54]) ij_m1 ij_q1 ij_c1 ij_n1 _ _ ls G (lv_sub hl [0, 1, 2, 9, 8, 7, 6, 5, 3, 4] rfl)
                · refine lv_iconst (v := nI 1) hx hb dX1_sweep_98 (by decide) ?_
                  refine w_st (st' := [.int (bI (swF a b))]) (by simp [swF, bI1, c_5, ij_m1, c_14, ij_q1, c_28, ij_c1, c_39, ij_n1, c_46, c_54, c_82, c_95]) ?_
                  refine lv_goto (tgt := 103) hx hb dX1_sweep_99 (by decide) ?_
                  refine lv_istore (lv' := [(13, .int (bI (swF a b))), (11, .double ((b).toUInt64)), (9, .double ((a).toUInt64)), (0, .ref (ad 0)), (1, .int (nI m1)), (2, .long a), (4, .long b), (6, .int (nI c1)), (7, .int (nI n1)), (8, .int (nI q1))]) hx hb dX1_sweep_103 hl (by decide) rfl (fun ls hl => ?_)
                  exact J1 m1 q1 n1 c1 hm1 hq1 hn1 hn0 hc1 hc0 rfl rfl rfl rfl c_5 c_14 (by simp [swG, c_28, c_39, c_46, c_54]) ij_m1 ij_q1 ij_c1 ij_n1 _ _ ls G (lv_sub hl [0, 1, 2, 9, 8, 7, 6, 5, 3, 4] rfl)
            · refine lv_bipush (v := (-102)) hx hb dX1_sweep_57 (by decide) ?_
              exact mm_iret S hr hlk G (by simp [swI, swCC, swD, swO, swG, imB, c_5, ij_m1, c_14, ij_q1, c_28, ij_c1, c_39, ij_n1, c_46, c_54]) (by simp [swI, swCC, swD, swO, swG, imB, c_5, ij_m1, c_14, ij_q1, c_28, ij_c1, c_39, ij_n1, c_46, c_54]) (by simp [swI, swCC, swD, swO, swG, imB, c_5, ij_m1, c_14, ij_q1, c_28, ij_c1, c_39, ij_n1, c_46, c_54]) dX1_sweep_59
    · refine lv_bipush (v := (-101)) hx hb dX1_sweep_17 (by decide) ?_
      exact mm_iret S hr hlk G (by simp [swI, swCC, swD, swO, swG, imB, c_5, ij_m1, c_14]) (by simp [swI, swCC, swD, swO, swG, imB, c_5, ij_m1, c_14]) (by simp [swI, swCC, swD, swO, swG, imB, c_5, ij_m1, c_14]) dX1_sweep_19
