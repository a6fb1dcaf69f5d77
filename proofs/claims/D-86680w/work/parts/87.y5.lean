set_option maxRecDepth 100000
set_option maxHeartbeats 4000000
theorem dX0_step_100 : decode cX0_step 100 = .ok (.aload_n 0, 1) := by decide +kernel
theorem dX0_step_101 : decode cX0_step 101 = .ok (.iconst 1, 1) := by decide +kernel
theorem dX0_step_102 : decode cX0_step 102 = .ok (.dload_n 1, 1) := by decide +kernel
theorem dX0_step_103 : decode cX0_step 103 = .ok (.ldc2_w 237, 3) := by decide +kernel
theorem dX0_step_106 : decode cX0_step 106 = .ok (.ddiv, 1) := by decide +kernel
theorem dX0_step_107 : decode cX0_step 107 = .ok (.invokevirtual 234, 3) := by decide +kernel
theorem dX0_step_110 : decode cX0_step 110 = .ok (.aload_n 0, 1) := by decide +kernel
theorem dX0_step_111 : decode cX0_step 111 = .ok (.iconst 2, 1) := by decide +kernel
theorem dX0_step_112 : decode cX0_step 112 = .ok (.invokevirtual 231, 3) := by decide +kernel
theorem dX0_step_115 : decode cX0_step 115 = .ok (.aload_n 0, 1) := by decide +kernel
theorem dX0_step_116 : decode cX0_step 116 = .ok (.iconst 2, 1) := by decide +kernel
theorem dX0_step_117 : decode cX0_step 117 = .ok (.dload_n 1, 1) := by decide +kernel
theorem dX0_step_118 : decode cX0_step 118 = .ok (.invokevirtual 234, 3) := by decide +kernel
theorem dX0_step_121 : decode cX0_step 121 = .ok (.aload_n 0, 1) := by decide +kernel
theorem dX0_step_122 : decode cX0_step 122 = .ok (.iconst 3, 1) := by decide +kernel
theorem dX0_step_123 : decode cX0_step 123 = .ok (.invokevirtual 231, 3) := by decide +kernel
theorem dX0_step_126 : decode cX0_step 126 = .ok (.iconst 0, 1) := by decide +kernel
theorem dX0_step_127 : decode cX0_step 127 = .ok (.istore_n 3, 1) := by decide +kernel
theorem dX0_step_128 : decode cX0_step 128 = .ok (.iload_n 3, 1) := by decide +kernel
theorem dX0_step_129 : decode cX0_step 129 = .ok (.aload_n 0, 1) := by decide +kernel
theorem dX0_step_130 : decode cX0_step 130 = .ok (.getfield 91, 3) := by decide +kernel
theorem dX0_step_133 : decode cX0_step 133 = .ok (.if_icmp .ge 100, 3) := by decide +kernel
theorem dX0_step_136 : decode cX0_step 136 = .ok (.aload_n 0, 1) := by decide +kernel
theorem dX0_step_137 : decode cX0_step 137 = .ok (.getfield 55, 3) := by decide +kernel
theorem dX0_step_140 : decode cX0_step 140 = .ok (.iload_n 3, 1) := by decide +kernel
theorem dX0_step_141 : decode cX0_step 141 = .ok (.aaload, 1) := by decide +kernel
theorem dX0_step_142 : decode cX0_step 142 = .ok (.getfield 151, 3) := by decide +kernel
theorem dX0_step_145 : decode cX0_step 145 = .ok (.iconst 2, 1) := by decide +kernel
theorem dX0_step_146 : decode cX0_step 146 = .ok (.if_icmp .ne 72, 3) := by decide +kernel
theorem dX0_step_149 : decode cX0_step 149 = .ok (.aload_n 0, 1) := by decide +kernel
theorem dX0_step_150 : decode cX0_step 150 = .ok (.getfield 55, 3) := by decide +kernel
theorem dX0_step_153 : decode cX0_step 153 = .ok (.iload_n 3, 1) := by decide +kernel
theorem dX0_step_154 : decode cX0_step 154 = .ok (.aaload, 1) := by decide +kernel
theorem dX0_step_155 : decode cX0_step 155 = .ok (.checkcast 10, 3) := by decide +kernel
theorem dX0_step_158 : decode cX0_step 158 = .ok (.astore 4, 2) := by decide +kernel
theorem dX0_step_160 : decode cX0_step 160 = .ok (.aload_n 0, 1) := by decide +kernel
theorem dX0_step_161 : decode cX0_step 161 = .ok (.getfield 174, 3) := by decide +kernel
theorem dX0_step_164 : decode cX0_step 164 = .ok (.ifCond .ne 19, 3) := by decide +kernel
theorem dX0_step_167 : decode cX0_step 167 = .ok (.aload 4, 2) := by decide +kernel
theorem dX0_step_169 : decode cX0_step 169 = .ok (.iconst 0, 1) := by decide +kernel
theorem dX0_step_170 : decode cX0_step 170 = .ok (.dload_n 1, 1) := by decide +kernel
theorem dX0_step_171 : decode cX0_step 171 = .ok (.aload_n 0, 1) := by decide +kernel
theorem dX0_step_172 : decode cX0_step 172 = .ok (.getfield 208, 3) := by decide +kernel
theorem dX0_step_175 : decode cX0_step 175 = .ok (.iconst 1, 1) := by decide +kernel
theorem dX0_step_176 : decode cX0_step 176 = .ok (.iadd, 1) := by decide +kernel
theorem dX0_step_177 : decode cX0_step 177 = .ok (.invokevirtual 221, 3) := by decide +kernel
theorem dX0_step_180 : decode cX0_step 180 = .ok (.goto 38, 3) := by decide +kernel
theorem dX0_step_183 : decode cX0_step 183 = .ok (.aload_n 0, 1) := by decide +kernel
theorem dX0_step_184 : decode cX0_step 184 = .ok (.getfield 174, 3) := by decide +kernel
theorem dX0_step_187 : decode cX0_step 187 = .ok (.iconst 1, 1) := by decide +kernel
theorem dX0_step_188 : decode cX0_step 188 = .ok (.if_icmp .ne 18, 3) := by decide +kernel
theorem dX0_step_191 : decode cX0_step 191 = .ok (.aload 4, 2) := by decide +kernel
theorem dX0_step_193 : decode cX0_step 193 = .ok (.dload_n 1, 1) := by decide +kernel
theorem dX0_step_194 : decode cX0_step 194 = .ok (.aload_n 0, 1) := by decide +kernel
theorem dX0_step_195 : decode cX0_step 195 = .ok (.getfield 208, 3) := by decide +kernel
theorem dX0_step_198 : decode cX0_step 198 = .ok (.iconst 1, 1) := by decide +kernel
theorem dX0_step_199 : decode cX0_step 199 = .ok (.iadd, 1) := by decide +kernel
theorem dX0_step_200 : decode cX0_step 200 = .ok (.invokevirtual 239, 3) := by decide +kernel
theorem dX0_step_203 : decode cX0_step 203 = .ok (.goto 15, 3) := by decide +kernel
theorem dX0_step_206 : decode cX0_step 206 = .ok (.aload 4, 2) := by decide +kernel
theorem dX0_step_208 : decode cX0_step 208 = .ok (.dload_n 1, 1) := by decide +kernel
theorem dX0_step_209 : decode cX0_step 209 = .ok (.aload_n 0, 1) := by decide +kernel
theorem dX0_step_210 : decode cX0_step 210 = .ok (.getfield 208, 3) := by decide +kernel
theorem dX0_step_213 : decode cX0_step 213 = .ok (.iconst 1, 1) := by decide +kernel
theorem dX0_step_214 : decode cX0_step 214 = .ok (.iadd, 1) := by decide +kernel
theorem dX0_step_215 : decode cX0_step 215 = .ok (.invokevirtual 243, 3) := by decide +kernel
theorem dX0_step_218 : decode cX0_step 218 = .ok (.aload_n 0, 1) := by decide +kernel
theorem dX0_step_219 : decode cX0_step 219 = .ok (.getfield 55, 3) := by decide +kernel
theorem dX0_step_222 : decode cX0_step 222 = .ok (.iload_n 3, 1) := by decide +kernel
theorem dX0_step_223 : decode cX0_step 223 = .ok (.aaload, 1) := by decide +kernel
theorem dX0_step_224 : decode cX0_step 224 = .ok (.invokevirtual 246, 3) := by decide +kernel
theorem dX0_step_227 : decode cX0_step 227 = .ok (.iinc 3 1, 3) := by decide +kernel
theorem dX0_step_230 : decode cX0_step 230 = .ok (.goto (-102), 3) := by decide +kernel
theorem dX0_step_233 : decode cX0_step 233 = .ok (.aload_n 0, 1) := by decide +kernel
theorem dX0_step_234 : decode cX0_step 234 = .ok (.dup, 1) := by decide +kernel
theorem dX0_step_235 : decode cX0_step 235 = .ok (.getfield 208, 3) := by decide +kernel
theorem dX0_step_238 : decode cX0_step 238 = .ok (.iconst 1, 1) := by decide +kernel
theorem dX0_step_239 : decode cX0_step 239 = .ok (.iadd, 1) := by decide +kernel
theorem dX0_step_240 : decode cX0_step 240 = .ok (.putfield 208, 3) := by decide +kernel
theorem dX0_step_243 : decode cX0_step 243 = .ok (.aload_n 0, 1) := by decide +kernel
theorem dX0_step_244 : decode cX0_step 244 = .ok (.aload_n 0, 1) := by decide +kernel
theorem dX0_step_245 : decode cX0_step 245 = .ok (.getfield 208, 3) := by decide +kernel
theorem dX0_step_248 : decode cX0_step 248 = .ok (.invokevirtual 214, 3) := by decide +kernel
theorem dX0_step_251 : decode cX0_step 251 = .ok (.iconst 0, 1) := by decide +kernel
theorem dX0_step_252 : decode cX0_step 252 = .ok (.istore_n 3, 1) := by decide +kernel
theorem dX0_step_253 : decode cX0_step 253 = .ok (.iload_n 3, 1) := by decide +kernel
theorem dX0_step_254 : decode cX0_step 254 = .ok (.aload_n 0, 1) := by decide +kernel
theorem dX0_step_255 : decode cX0_step 255 = .ok (.getfield 91, 3) := by decide +kernel
theorem dX0_step_258 : decode cX0_step 258 = .ok (.if_icmp .ge 18, 3) := by decide +kernel
theorem dX0_step_261 : decode cX0_step 261 = .ok (.aload_n 0, 1) := by decide +kernel
theorem dX0_step_262 : decode cX0_step 262 = .ok (.getfield 55, 3) := by decide +kernel
theorem dX0_step_265 : decode cX0_step 265 = .ok (.iload_n 3, 1) := by decide +kernel
theorem dX0_step_266 : decode cX0_step 266 = .ok (.aaload, 1) := by decide +kernel
theorem dX0_step_267 : decode cX0_step 267 = .ok (.invokevirtual 215, 3) := by decide +kernel
theorem dX0_step_270 : decode cX0_step 270 = .ok (.iinc 3 1, 3) := by decide +kernel
theorem dX0_step_273 : decode cX0_step 273 = .ok (.goto (-20), 3) := by decide +kernel
theorem dX0_step_276 : decode cX0_step 276 = .ok (.return_, 1) := by decide +kernel
theorem dX0_step_0 : decode cX0_step 0 = .ok (.iconst 0, 1) := by decide +kernel
theorem dX0_step_1 : decode cX0_step 1 = .ok (.istore_n 3, 1) := by decide +kernel
theorem dX0_step_2 : decode cX0_step 2 = .ok (.iload_n 3, 1) := by decide +kernel
theorem dX0_step_3 : decode cX0_step 3 = .ok (.aload_n 0, 1) := by decide +kernel
theorem dX0_step_4 : decode cX0_step 4 = .ok (.getfield 91, 3) := by decide +kernel
theorem dX0_step_7 : decode cX0_step 7 = .ok (.if_icmp .ge 43, 3) := by decide +kernel
theorem dX0_step_10 : decode cX0_step 10 = .ok (.aload_n 0, 1) := by decide +kernel
theorem dX0_step_11 : decode cX0_step 11 = .ok (.getfield 55, 3) := by decide +kernel
theorem dX0_step_14 : decode cX0_step 14 = .ok (.iload_n 3, 1) := by decide +kernel
theorem dX0_step_15 : decode cX0_step 15 = .ok (.aaload, 1) := by decide +kernel
theorem dX0_step_16 : decode cX0_step 16 = .ok (.invokevirtual 225, 3) := by decide +kernel
theorem dX0_step_19 : decode cX0_step 19 = .ok (.aload_n 0, 1) := by decide +kernel
theorem dX0_step_20 : decode cX0_step 20 = .ok (.getfield 55, 3) := by decide +kernel
theorem dX0_step_23 : decode cX0_step 23 = .ok (.iload_n 3, 1) := by decide +kernel
theorem dX0_step_24 : decode cX0_step 24 = .ok (.aaload, 1) := by decide +kernel
theorem dX0_step_25 : decode cX0_step 25 = .ok (.getfield 151, 3) := by decide +kernel
theorem dX0_step_28 : decode cX0_step 28 = .ok (.iconst 2, 1) := by decide +kernel
theorem dX0_step_29 : decode cX0_step 29 = .ok (.if_icmp .ne 15, 3) := by decide +kernel
theorem dX0_step_32 : decode cX0_step 32 = .ok (.aload_n 0, 1) := by decide +kernel
theorem dX0_step_33 : decode cX0_step 33 = .ok (.getfield 55, 3) := by decide +kernel
theorem dX0_step_36 : decode cX0_step 36 = .ok (.iload_n 3, 1) := by decide +kernel
theorem dX0_step_37 : decode cX0_step 37 = .ok (.aaload, 1) := by decide +kernel
theorem dX0_step_38 : decode cX0_step 38 = .ok (.checkcast 10, 3) := by decide +kernel
theorem dX0_step_41 : decode cX0_step 41 = .ok (.invokevirtual 228, 3) := by decide +kernel
theorem dX0_step_44 : decode cX0_step 44 = .ok (.iinc 3 1, 3) := by decide +kernel
theorem dX0_step_47 : decode cX0_step 47 = .ok (.goto (-45), 3) := by decide +kernel
theorem dX0_step_50 : decode cX0_step 50 = .ok (.aload_n 0, 1) := by decide +kernel
theorem dX0_step_51 : decode cX0_step 51 = .ok (.iconst 0, 1) := by decide +kernel
theorem dX0_step_52 : decode cX0_step 52 = .ok (.invokevirtual 231, 3) := by decide +kernel
theorem dX0_step_55 : decode cX0_step 55 = .ok (.aload_n 0, 1) := by decide +kernel
theorem dX0_step_56 : decode cX0_step 56 = .ok (.getfield 174, 3) := by decide +kernel
theorem dX0_step_59 : decode cX0_step 59 = .ok (.iconst 1, 1) := by decide +kernel
theorem dX0_step_60 : decode cX0_step 60 = .ok (.if_icmp .ne 17, 3) := by decide +kernel
theorem dX0_step_63 : decode cX0_step 63 = .ok (.aload_n 0, 1) := by decide +kernel
theorem dX0_step_64 : decode cX0_step 64 = .ok (.iconst 0, 1) := by decide +kernel
theorem dX0_step_65 : decode cX0_step 65 = .ok (.dload_n 1, 1) := by decide +kernel
theorem dX0_step_66 : decode cX0_step 66 = .ok (.invokevirtual 234, 3) := by decide +kernel
theorem dX0_step_69 : decode cX0_step 69 = .ok (.aload_n 0, 1) := by decide +kernel
theorem dX0_step_70 : decode cX0_step 70 = .ok (.iconst 1, 1) := by decide +kernel
theorem dX0_step_71 : decode cX0_step 71 = .ok (.invokevirtual 231, 3) := by decide +kernel
theorem dX0_step_74 : decode cX0_step 74 = .ok (.goto 52, 3) := by decide +kernel
theorem dX0_step_77 : decode cX0_step 77 = .ok (.aload_n 0, 1) := by decide +kernel
theorem dX0_step_78 : decode cX0_step 78 = .ok (.getfield 174, 3) := by decide +kernel
theorem dX0_step_81 : decode cX0_step 81 = .ok (.iconst 2, 1) := by decide +kernel
theorem dX0_step_82 : decode cX0_step 82 = .ok (.if_icmp .ne 44, 3) := by decide +kernel
theorem dX0_step_85 : decode cX0_step 85 = .ok (.aload_n 0, 1) := by decide +kernel
theorem dX0_step_86 : decode cX0_step 86 = .ok (.iconst 0, 1) := by decide +kernel
theorem dX0_step_87 : decode cX0_step 87 = .ok (.dload_n 1, 1) := by decide +kernel
theorem dX0_step_88 : decode cX0_step 88 = .ok (.ldc2_w 237, 3) := by decide +kernel
theorem dX0_step_91 : decode cX0_step 91 = .ok (.ddiv, 1) := by decide +kernel
theorem dX0_step_92 : decode cX0_step 92 = .ok (.invokevirtual 234, 3) := by decide +kernel
theorem dX0_step_95 : decode cX0_step 95 = .ok (.aload_n 0, 1) := by decide +kernel
theorem dX0_step_96 : decode cX0_step 96 = .ok (.iconst 1, 1) := by decide +kernel
theorem dX0_step_97 : decode cX0_step 97 = .ok (.invokevirtual 231, 3) := by decide +kernel
theorem hd_X0_rates : yX0_rates.cls = RX0 ∧ yX0_rates.cls ≠ "java/lang/invoke/MethodHandle" ∧ yX0_rates.cls ≠ "java/lang/invoke/VarHandle" ∧ (parseMethodDescriptor yX0_rates.desc).map (fun d => d.parameters.length) = some 1 := by decide +kernel
theorem hd_X0_stage : yX0_stage.cls = RX0 ∧ yX0_stage.cls ≠ "java/lang/invoke/MethodHandle" ∧ yX0_stage.cls ≠ "java/lang/invoke/VarHandle" ∧ (parseMethodDescriptor yX0_stage.desc).map (fun d => d.parameters.length) = some 2 := by decide +kernel
theorem hd_X6_goFour : yX6_goFour.cls = RX6 ∧ yX6_goFour.cls ≠ "java/lang/invoke/MethodHandle" ∧ yX6_goFour.cls ≠ "java/lang/invoke/VarHandle" ∧ (parseMethodDescriptor yX6_goFour.desc).map (fun d => d.parameters.length) = some 2 := by decide +kernel
theorem hd_X6_goTwo : yX6_goTwo.cls = RX6 ∧ yX6_goTwo.cls ≠ "java/lang/invoke/MethodHandle" ∧ yX6_goTwo.cls ≠ "java/lang/invoke/VarHandle" ∧ (parseMethodDescriptor yX6_goTwo.desc).map (fun d => d.parameters.length) = some 2 := by decide +kernel
theorem hd_X6_open : yX6_open.cls = RX6 ∧ yX6_open.cls ≠ "java/lang/invoke/MethodHandle" ∧ yX6_open.cls ≠ "java/lang/invoke/VarHandle" ∧ (parseMethodDescriptor yX6_open.desc).map (fun d => d.parameters.length) = some 0 := by decide +kernel
theorem hu_Module_compare : "TwinPanel$Module" ≠ "java/lang/invoke/MethodHandle" ∧ "TwinPanel$Module" ≠ "java/lang/invoke/VarHandle" ∧ (parseMethodDescriptor "()V").map (fun d => d.parameters.length) = some 0 := by decide +kernel
theorem xt_X0_step_T0 (l : Launch) (D : va_G) (dA : Nat → ClassId) (C : tp_C) (d : md_T) (j : xj_T) (t : UInt64) (hC : mOK C) (hV : vOK C) (hA : aOK C) (hDl : dlOK C) (hI : iOK C (dAI d 10) d) (ht : tOK t) (ht2 : tOK (hf_ t)) (hh : FP.fdiv (FP.d2f t) FP.fconst2 = FP.d2f (hf_ t)) (hJ : jOK C d j) (hO : orOK C (dAI d 10) j) (h44 : dI d 44 = dI d 12 + nI 1) (hw : wrOK j) (hDj : ∀ m, m < cN C → cK C m = 11 → jDn j m = some (dlN C m) ∧ 1 ≤ dlN C m ∧ dlN C m ≤ 16) (hDn : dnOK j) (hap : apOK d) (h11 : ∀ m, cK C m = 11 → m < cN C) (p0 : Program) (e0 : Env) (s0 : State) (mid : MethodId) (bl0 : List Frame) (me0 : Method) (co0 : Code) (S : CallFix p0 mid co0 cX0_step 5 s0 ([.ref (jA j 0), .double t] : List Value).toArray lw_all RX0) (hr : me0.sig.returnType = none) (hlk : me0.locks = false) : ∀ (e : md_T) (jj : xj_T), cR C = 0 → lpOK C (dAI d 10) d j t e jj → (∀ m, m < cN C → cK C m = 2 → FP.dadd (jWf jj m) (FP.dmul t (jWr jj m 0)) = sgV e t m ∧ FP.fadd (jNf jj m) (FP.fmul (FP.d2f t) (jNr jj m 0)) = sgW e t m) → gbN C t (cN C) e = otD C (ruD C t (s1D C d)) → (∀ m, m < cN C → cK C m = 11 → jDn jj m = some (dlN C m) ∧ 1 ≤ dlN C m ∧ dlN C m ≤ 16) → dnOK jj → orOK C (dAI d 10) jj → fbJ C t e jj (cN C) = stJ C t d j → ∀ (H : Heap) (locs : List Loc) (ls : Array Slot), xG D dA (xA dA C d j) C e jj s0 H locs → lv_has ls 5 [(1, .double t), (0, .ref (jA jj 0))] → W p0 l e0 (rm_ 9) s0 mid ([.ref (jA j 0), .double t] : List Value).toArray bl0 me0 co0 H locs 0 0 (MQ bl0 (xQ D dA C d j none C (stD C t d) (stJ C t d j)) ([.ref (jA j 0), .double t] : List Value).toArray s0 0 0 (xA dA C d j)) (F0 mid 126 ls []) := by
  have hx := S.1; have hb := S.2.1; have hml := S.2.2.1; have hown := S.2.2.2.1; have hts := S.2.2.2.2; have hN := hC.n
  have hR := hI.r
  have hCr := hC.r
  obtain ⟨pz, r0, r0b⟩ := sp_0 hI hw
  have z0 := (iOK_s1 hI).2.2
  have iX : iOK C (dAI d 10) (otD C (ruD C t (s1D C d))) := iOK_otN (iOK_ru hC hV hA ht ht2 pz.2.2.2.1 pz.2.2.2.2.1 z0) (cN C)
  have iY : iOK C (dAI d 10) (raD C (tmU (otD C (ruD C t (s1D C d))))) := iOK_ra hC hV hA (iOK_tm iX)
  intro e jj hr_ lp go hgb hDj hDn hO hfin H locs ls G hl
  have hXI : dI (otD C (ruD C t (s1D C d))) = dI d := by rw [← hgb, gbN_dI]; exact lp.2.2.2.2.2.1
  have hX25 : dAD (otD C (ruD C t (s1D C d))) 25 = dAD d 25 := by rw [← hgb, gbN_D (by decide) (by decide)]; exact lp.2.2.2.2.2.2
  have hJX : jOK C (otD C (ruD C t (s1D C d))) (fbJ C t e jj (cN C)) := by rw [← hgb]; exact jOK_fb hDl h11
  have hap4 : apOK (raD C (tmU (otD C (ruD C t (s1D C d))))) := apOK_mv (show dAD (raD C (tmU (otD C (ruD C t (s1D C d))))) 25 = dAD d 25 from (raN_D (by decide)).trans hX25) hap
  have L3 : ∀ (n_ m : Nat), m ≤ cN C → cN C < m + n_ → ∀ (H : Heap) (locs : List Loc) (ls : Array Slot), xG D dA (xA dA C d j) C (gbN C t m e) (fbJ C t e jj m) s0 H locs → lv_has ls 5 [(3, .int (nI m)), (1, .double t), (0, .ref (jA jj 0))] → (∀ (H : Heap) (locs : List Loc) (ls : Array Slot), xG D dA (xA dA C d j) C (gbN C t (cN C) e) (fbJ C t e jj (cN C)) s0 H locs → lv_has ls 5 [(3, .int (nI (cN C))), (1, .double t), (0, .ref (jA jj 0))] → W p0 l e0 (rm_ 9) s0 mid ([.ref (jA j 0), .double t] : List Value).toArray bl0 me0 co0 H locs 0 0 (MQ bl0 (xQ D dA C d j none C (stD C t d) (stJ C t d j)) ([.ref (jA j 0), .double t] : List Value).toArray s0 0 0 (xA dA C d j)) (F0 mid 233 ls [])) → W p0 l e0 (rm_ 9) s0 mid ([.ref (jA j 0), .double t] : List Value).toArray bl0 me0 co0 H locs 0 0 (MQ bl0 (xQ D dA C d j none C (stD C t d) (stJ C t d j)) ([.ref (jA j 0), .double t] : List Value).toArray s0 0 0 (xA dA C d j)) (F0 mid 128 ls []) := by
    intro n_
    induction n_ with
    | zero => intro m h1_ h2_; exact absurd h2_ (by omega)
    | succ n_ ih =>
      intro m h1_ h2_ H locs ls G hl kk
      have hk14 := hC.k m
      refine lv_iload_n hx hb dX0_step_128 rfl (lv_at hl 0 rfl) ?_
      refine lv_aload_n hx hb dX0_step_129 rfl (lv_at hl 2 rfl) ?_
      refine xx_getP (j := (fbJ C t e jj m)) S G 1 (by decide) q90 rfl (v := .int (nI (cN C))) rfl dX0_step_130 ?_
      refine nn_cge (tgt := 233) hx hb (by omega) (by omega) dX0_step_133 (by decide) (fun c_133 => ?_) (fun c_133 => ?_)
      · have hiN : m = cN C := by omega
        subst hiN
        exact kk H locs ls G (lv_sub hl [0, 1, 2] rfl)
      · refine lv_aload_n hx hb dX0_step_136 rfl (lv_at hl 2 rfl) ?_
        refine xx_getP (j := (fbJ C t e jj m)) S G 0 (by decide) q89 rfl (v := .ref (jA jj 1)) rfl dX0_step_137 ?_
        refine lv_iload_n hx hb dX0_step_140 rfl (lv_at hl 0 rfl) ?_
        refine xx_aald (j := (fbJ C t e jj m)) S G (r := 1) (by decide) (xW_p (by decide) rfl) (i := m) (by omega) (by decide) (o := some (jA jj (xr m 0))) (if_pos (by omega)) dX0_step_141 ?_
        refine W.eq (g2 := F0 mid 142 ls [.ref (jA jj (xr m 0))]) rfl ?_
        refine xx_get11 (j := (fbJ C t e jj m)) S G (mm := m) (by omega) hN (hC.k _) 0 (by decide) q203 rfl (v := .int (nI (cK C m))) rfl dX0_step_142 ?_
        refine lv_iconst (v := nI 2) hx hb dX0_step_145 (by decide) ?_
        refine nn_cne (tgt := 218) hx hb (by omega) (by omega) dX0_step_146 (by decide) (fun c_146 => ?_) (fun c_146 => ?_)
        · have G : xG D dA (xA dA C d j) C (sgS C t m (gbN C t m e)) (fbJ C t e jj m) s0 H locs := xG_d (xL_e rfl (gb_no c_146) rfl) G
          refine lv_aload_n hx hb dX0_step_218 rfl (lv_at hl 2 rfl) ?_
          refine xx_getP (j := (fbJ C t e jj m)) S G 0 (by decide) q89 rfl (v := .ref (jA jj 1)) rfl dX0_step_219 ?_
          refine lv_iload_n hx hb dX0_step_222 rfl (lv_at hl 0 rfl) ?_
          refine xx_aald (j := (fbJ C t e jj m)) S G (r := 1) (by decide) (xW_p (by decide) rfl) (i := m) (by omega) (by decide) (o := some (jA jj (xr m 0))) (if_pos (by omega)) dX0_step_223 ?_
          refine W.eq (g2 := F0 mid 224 ls [.ref (jA jj (xr m 0))]) rfl ?_
          refine xo_become (j := (fbJ C t e jj m)) (mm := m) (rest := []) S G hC (by omega) (fun h => gb_n lp.1 (by omega) h) (fun h => hDj m (by omega) h) hDn ⟨Nat.le_of_ble_eq_true rfl, Nat.le_of_ble_eq_true rfl⟩ ⟨Nat.zero_le _, Nat.zero_le _⟩ hl.1 (Nat.le_of_ble_eq_true rfl) dX0_step_224 (fun H locs G => ?_)
          refine W.eq (g2 := F0 mid 227 ls []) rfl ?_
          refine lv_iinc (v := nI (m + 1)) (lv' := [(3, .int (nI (m + 1))), (1, .double t), (0, .ref (jA jj 0))]) hx hb dX0_step_227 hl (k := 0) rfl (nI_1 _) (by decide) rfl (fun ls hl => ?_)
          refine lv_goto (tgt := 128) hx hb dX0_step_230 (by decide) ?_
          exact ih (m + 1) (by omega) (by omega) H locs ls (xG_d (by exact xL_e rfl rfl (fbJ_s C t e jj m)) G) (lv_sub hl [0, 1, 2] rfl) kk
        · have hn11 : ¬ cK C m = 11 := by omega
          refine lv_aload_n hx hb dX0_step_149 rfl (lv_at hl 2 rfl) ?_
          refine xx_getP (j := (fbJ C t e jj m)) S G 0 (by decide) q89 rfl (v := .ref (jA jj 1)) rfl dX0_step_150 ?_
          refine lv_iload_n hx hb dX0_step_153 rfl (lv_at hl 0 rfl) ?_
          refine xx_aald (j := (fbJ C t e jj m)) S G (r := 1) (by decide) (xW_p (by decide) rfl) (i := m) (by omega) (by decide) (o := some (jA jj (xr m 0))) (if_pos (by omega)) dX0_step_154 ?_
          refine W.eq (g2 := F0 mid 155 ls [.ref (jA jj (xr m 0))]) rfl ?_
          refine xx_cast (j := (fbJ C t e jj m)) S G (mm := m) (by omega) hN (hC.k _) (by rw [c_146]; exact q275) dX0_step_155 ?_
          refine lv_astore (lv' := [(4, .ref (jA jj (xr m 0))), (3, .int (nI m)), (1, .double t), (0, .ref (jA jj 0))]) hx hb dX0_step_158 hl (by decide) rfl (fun ls hl => ?_)
          refine lv_aload_n hx hb dX0_step_160 rfl (lv_at hl 3 rfl) ?_
          refine xx_getP (j := (fbJ C t e jj m)) S G 3 (by decide) q92 rfl (v := .int (nI (cR C))) rfl dX0_step_161 ?_
          refine nz_ne (tgt := 183) hx hb (by omega) dX0_step_164 (by decide) (fun c_164 => by exfalso; exact c_164 hr_) (fun c_164 => ?_)
          refine lv_aload hx hb dX0_step_167 (lv_at hl 0 rfl) ?_
          refine lv_iconst (v := nI 0) hx hb dX0_step_169 (by decide) ?_
          refine lv_dload_n hx hb dX0_step_170 rfl (lv_at hl 2 rfl) ?_
          refine lv_aload_n hx hb dX0_step_171 rfl (lv_at hl 3 rfl) ?_
          refine xx_getP (j := (fbJ C t e jj m)) S G 5 (by decide) q94 rfl (v := .int (dI (gbN C t m e) 12)) rfl dX0_step_172 ?_
          refine lv_iconst (v := nI 1) hx hb dX0_step_175 (by decide) ?_
          refine lv_iadd hx hb dX0_step_176 ?_
          refine xx_callK (j := (fbJ C t e jj m)) (mm := m) (As := [.int (nI 0), .double t, .int ((dI (gbN C t m e) 12) + (nI 1))]) (rest := []) S G (by omega) hN c_146 (by decide) (xt_X6_go l D dA C (gbN C t m e) (fbJ C t e jj m) m 0 t ((dI (gbN C t m e) 12) + (nI 1)) hC (by omega) c_146 (by omega) (fb_gr lp.2.1 (by omega) c_146) ht (by rw [gbN_dI, lp.2.2.2.2.2.1]; exact h44)) q1086 q1087 q1088 q62 q1089 hd_X6_go ⟨Nat.le_of_ble_eq_true rfl, Nat.le_of_ble_eq_true rfl⟩ rfl hl.1 rfl (Nat.le_of_ble_eq_true rfl) dX0_step_177 ⟨Nat.zero_le _, Nat.zero_le _⟩ (fun H locs G => ?_)
          refine W.eq (g2 := F0 mid 180 ls []) rfl ?_
          refine lv_goto (tgt := 218) hx hb dX0_step_180 (by decide) ?_
          have G : xG D dA (xA dA C d j) C (sgS C t m (gbN C t m e)) ((fbJ C t e jj m)) s0 H locs := xG_d (xL_e rfl (gb_go c_146 (by rw [(fb_ne hn11).1]; try rfl) (by rw [(fb_ne hn11).2]; try rfl) (go m (by omega) c_146).1 (go m (by omega) c_146).2) rfl) G
          refine lv_aload_n hx hb dX0_step_218 rfl (lv_at hl 3 rfl) ?_
          refine xx_getP (j := (fbJ C t e jj m)) S G 0 (by decide) q89 rfl (v := .ref (jA jj 1)) rfl dX0_step_219 ?_
          refine lv_iload_n hx hb dX0_step_222 rfl (lv_at hl 1 rfl) ?_
          refine xx_aald (j := (fbJ C t e jj m)) S G (r := 1) (by decide) (xW_p (by decide) rfl) (i := m) (by omega) (by decide) (o := some (jA jj (xr m 0))) (if_pos (by omega)) dX0_step_223 ?_
          refine W.eq (g2 := F0 mid 224 ls [.ref (jA jj (xr m 0))]) rfl ?_
          refine xo_become (j := (fbJ C t e jj m)) (mm := m) (rest := []) S G hC (by omega) (fun h => gb_n lp.1 (by omega) h) (fun h => hDj m (by omega) h) hDn ⟨Nat.le_of_ble_eq_true rfl, Nat.le_of_ble_eq_true rfl⟩ ⟨Nat.zero_le _, Nat.zero_le _⟩ hl.1 (Nat.le_of_ble_eq_true rfl) dX0_step_224 (fun H locs G => ?_)
          refine W.eq (g2 := F0 mid 227 ls []) rfl ?_
          refine lv_iinc (v := nI (m + 1)) (lv' := [(3, .int (nI (m + 1))), (4, .ref (jA jj (xr m 0))), (1, .double t), (0, .ref (jA jj 0))]) hx hb dX0_step_227 hl (k := 1) rfl (nI_1 _) (by decide) rfl (fun ls hl => ?_)
          refine lv_goto (tgt := 128) hx hb dX0_step_230 (by decide) ?_
          exact ih (m + 1) (by omega) (by omega) H locs ls (xG_d (by exact xL_e rfl rfl (fbJ_s C t e jj m)) G) (lv_sub hl [0, 2, 3] rfl) kk
  have L4 : ∀ (n_ m : Nat), m ≤ cN C → cN C < m + n_ → ∀ (H : Heap) (locs : List Loc) (ls : Array Slot), xG D dA (xA dA C d j) C (dfN m (raD C (tmU (otD C (ruD C t (s1D C d)))))) (fbJ C t e jj (cN C)) s0 H locs → lv_has ls 5 [(3, .int (nI m)), (1, .double t), (0, .ref (jA jj 0))] → (∀ (H : Heap) (locs : List Loc) (ls : Array Slot), xG D dA (xA dA C d j) C (dfN (cN C) (raD C (tmU (otD C (ruD C t (s1D C d)))))) (fbJ C t e jj (cN C)) s0 H locs → lv_has ls 5 [(3, .int (nI (cN C))), (1, .double t), (0, .ref (jA jj 0))] → W p0 l e0 (rm_ 9) s0 mid ([.ref (jA j 0), .double t] : List Value).toArray bl0 me0 co0 H locs 0 0 (MQ bl0 (xQ D dA C d j none C (stD C t d) (stJ C t d j)) ([.ref (jA j 0), .double t] : List Value).toArray s0 0 0 (xA dA C d j)) (F0 mid 276 ls [])) → W p0 l e0 (rm_ 9) s0 mid ([.ref (jA j 0), .double t] : List Value).toArray bl0 me0 co0 H locs 0 0 (MQ bl0 (xQ D dA C d j none C (stD C t d) (stJ C t d j)) ([.ref (jA j 0), .double t] : List Value).toArray s0 0 0 (xA dA C d j)) (F0 mid 253 ls []) := by
    intro n_
    induction n_ with
    | zero => intro m h1_ h2_; exact absurd h2_ (by omega)
    | succ n_ ih =>
      intro m h1_ h2_ H locs ls G hl kk
      refine lv_iload_n hx hb dX0_step_253 rfl (lv_at hl 0 rfl) ?_
      refine lv_aload_n hx hb dX0_step_254 rfl (lv_at hl 2 rfl) ?_
      refine xx_getP (j := (fbJ C t e jj (cN C))) S G 1 (by decide) q90 rfl (v := .int (nI (cN C))) rfl dX0_step_255 ?_
      refine nn_cge (tgt := 276) hx hb (by omega) (by omega) dX0_step_258 (by decide) (fun c_258 => ?_) (fun c_258 => ?_)
      · have hiN : m = cN C := by omega
        subst hiN
        exact kk H locs ls G (lv_sub hl [0, 1, 2] rfl)
      · refine lv_aload_n hx hb dX0_step_261 rfl (lv_at hl 2 rfl) ?_
        refine xx_getP (j := (fbJ C t e jj (cN C))) S G 0 (by decide) q89 rfl (v := .ref (jA jj 1)) rfl dX0_step_262 ?_
        refine lv_iload_n hx hb dX0_step_265 rfl (lv_at hl 0 rfl) ?_
        refine xx_aald (j := (fbJ C t e jj (cN C))) S G (r := 1) (by decide) (xW_p (by decide) rfl) (i := m) (by omega) (by decide) (o := some (jA jj (xr m 0))) (if_pos (by omega)) dX0_step_266 ?_
        refine W.eq (g2 := F0 mid 267 ls [.ref (jA jj (xr m 0))]) rfl ?_
        refine xx_callM (j := (fbJ C t e jj (cN C))) (mm := m) (As := []) (rest := []) S G (by omega) hN (hC.k _) (xt_X2_compare l D dA C (dfN m (raD C (tmU (otD C (ruD C t (s1D C d)))))) (fbJ C t e jj (cN C)) m hC (by omega) (iOK_dfN iY m).r (apOK_dfN iY hap4 m)) (xx_cw hts q981 q983 (se_compare (hC.k _)) q982 q58 q998 rfl hu_Module_compare ⟨Nat.le_of_ble_eq_true rfl, Nat.le_of_ble_eq_true rfl⟩) rfl hl.1 rfl (Nat.le_of_ble_eq_true rfl) dX0_step_267 ⟨Nat.zero_le _, Nat.zero_le _⟩ (fun H locs G => ?_)
        refine W.eq (g2 := F0 mid 270 ls []) rfl ?_
        refine lv_iinc (v := nI (m + 1)) (lv' := [(3, .int (nI (m + 1))), (1, .double t), (0, .ref (jA jj 0))]) hx hb dX0_step_270 hl (k := 0) rfl (nI_1 _) (by decide) rfl (fun ls hl => ?_)
        refine lv_goto (tgt := 253) hx hb dX0_step_273 (by decide) ?_
        exact ih (m + 1) (by omega) (by omega) H locs ls (xG_d (xL_e rfl (by rfl) rfl) G) (lv_sub hl [0, 1, 2] rfl) kk
  refine lv_iconst (v := nI 0) hx hb dX0_step_126 (by decide) ?_
  refine lv_istore_n (lv' := [(3, .int (nI 0)), (1, .double t), (0, .ref (jA jj 0))]) hx hb dX0_step_127 rfl hl (by decide) rfl (fun ls hl => ?_)
  refine L3 (cN C + 1) 0 (by omega) (by omega) _ _ ls (xG_d (by exact xL_e rfl rfl (fbJ_0 C t e jj)) G) (lv_sub hl [0, 1, 2] rfl) (fun H locs ls G hl => ?_)
  have G : xG D dA (xA dA C d j) C (otD C (ruD C t (s1D C d))) (fbJ C t e jj (cN C)) s0 H locs := xG_d (xL_e rfl hgb rfl) G
  refine lv_aload_n hx hb dX0_step_233 rfl (lv_at hl 2 rfl) ?_
  refine lv_dup hx hb dX0_step_234 rfl ?_
  refine xx_getP (j := (fbJ C t e jj (cN C))) S G 5 (by decide) q94 rfl (v := .int (dI (otD C (ruD C t (s1D C d))) 12)) rfl dX0_step_235 ?_
  refine lv_iconst (v := nI 1) hx hb dX0_step_238 (by decide) ?_
  refine lv_iadd hx hb dX0_step_239 ?_
  refine xx_putP (j := (fbJ C t e jj (cN C))) S G 5 (by decide) q94 rfl rfl rfl rfl xs_P5 dX0_step_240 (fun H locs G => ?_)
  have G : xG D dA (xA dA C d j) C (tmU (otD C (ruD C t (s1D C d)))) (fbJ C t e jj (cN C)) s0 H locs := G
  refine lv_aload_n hx hb dX0_step_243 rfl (lv_at hl 2 rfl) ?_
  refine lv_aload_n hx hb dX0_step_244 rfl (lv_at hl 2 rfl) ?_
  refine xx_getP (j := (fbJ C t e jj (cN C))) S G 5 (by decide) q94 rfl (v := .int (dI d 12 + nI 1)) (by show Value.int (dI (otD C (ruD C t (s1D C d))) 12 + nI 1) = _; rw [hXI]) dX0_step_245 ?_
  refine xx_callP (j := (fbJ C t e jj (cN C))) (As := [.int (dI d 12 + nI 1)]) (rest := []) S G (xt_X0_read l D dA C (tmU (otD C (ruD C t (s1D C d)))) (fbJ C t e jj (cN C)) (dI d 12 + nI 1) hC hV iX.r hA (show dI (otD C (ruD C t (s1D C d))) 44 = dI d 12 + nI 1 by rw [hXI]; exact h44) hJX (by rw [show dAI (tmU (otD C (ruD C t (s1D C d)))) 10 = dAI d 10 from iX.l]; exact hO)) q717 q719 qs7 q720 hd_X0_read ⟨Nat.le_of_ble_eq_true rfl, Nat.le_of_ble_eq_true rfl⟩ rfl hl.1 rfl (Nat.le_of_ble_eq_true rfl) dX0_step_248 ⟨Nat.zero_le _, Nat.zero_le _⟩ (fun H locs G => ?_)
  refine W.eq (g2 := F0 mid 251 ls []) rfl ?_
  refine lv_iconst (v := nI 0) hx hb dX0_step_251 (by decide) ?_
  refine lv_istore_n (lv' := [(3, .int (nI 0)), (1, .double t), (0, .ref (jA jj 0))]) hx hb dX0_step_252 rfl hl (by decide) rfl (fun ls hl => ?_)
  refine L4 (cN C + 1) 0 (by omega) (by omega) _ _ ls (xG_d (xL_e rfl (by rfl) rfl) G) (lv_sub hl [0, 1, 2] rfl) (fun H locs ls G hl => ?_)
  exact xx_vret S hr hlk G (xL_e rfl (by rfl) (by exact hfin)) dX0_step_276
theorem xt_X0_step_T1 (l : Launch) (D : va_G) (dA : Nat → ClassId) (C : tp_C) (d : md_T) (j : xj_T) (t : UInt64) (hC : mOK C) (hV : vOK C) (hA : aOK C) (hDl : dlOK C) (hI : iOK C (dAI d 10) d) (ht : tOK t) (ht2 : tOK (hf_ t)) (hh : FP.fdiv (FP.d2f t) FP.fconst2 = FP.d2f (hf_ t)) (hJ : jOK C d j) (hO : orOK C (dAI d 10) j) (h44 : dI d 44 = dI d 12 + nI 1) (hw : wrOK j) (hDj : ∀ m, m < cN C → cK C m = 11 → jDn j m = some (dlN C m) ∧ 1 ≤ dlN C m ∧ dlN C m ≤ 16) (hDn : dnOK j) (hap : apOK d) (h11 : ∀ m, cK C m = 11 → m < cN C) (p0 : Program) (e0 : Env) (s0 : State) (mid : MethodId) (bl0 : List Frame) (me0 : Method) (co0 : Code) (S : CallFix p0 mid co0 cX0_step 5 s0 ([.ref (jA j 0), .double t] : List Value).toArray lw_all RX0) (hr : me0.sig.returnType = none) (hlk : me0.locks = false) : ∀ (e : md_T) (jj : xj_T), cR C = 1 → lpOK C (dAI d 10) d j (hf_ t) e jj → (∀ m, m < cN C → cK C m = 2 → FP.dadd (jWf jj m) (FP.dmul (FP.ddiv t 4611686018427387904) (FP.dadd (jWr jj m 0) (jWr jj m 1))) = sgV e (hf_ t) m ∧ FP.fadd (jNf jj m) (FP.fmul (FP.fdiv (FP.d2f t) FP.fconst2) (FP.fadd (jNr jj m 0) (jNr jj m 1))) = sgW e (hf_ t) m) → gbN C (hf_ t) (cN C) e = otD C (ruD C t (s1D C d)) → (∀ m, m < cN C → cK C m = 11 → jDn jj m = some (dlN C m) ∧ 1 ≤ dlN C m ∧ dlN C m ≤ 16) → dnOK jj → orOK C (dAI d 10) jj → fbJ C (hf_ t) e jj (cN C) = stJ C t d j → ∀ (H : Heap) (locs : List Loc) (ls : Array Slot), xG D dA (xA dA C d j) C e jj s0 H locs → lv_has ls 5 [(1, .double t), (0, .ref (jA jj 0))] → W p0 l e0 (rm_ 9) s0 mid ([.ref (jA j 0), .double t] : List Value).toArray bl0 me0 co0 H locs 0 0 (MQ bl0 (xQ D dA C d j none C (stD C t d) (stJ C t d j)) ([.ref (jA j 0), .double t] : List Value).toArray s0 0 0 (xA dA C d j)) (F0 mid 126 ls []) := by
  have hx := S.1; have hb := S.2.1; have hml := S.2.2.1; have hown := S.2.2.2.1; have hts := S.2.2.2.2; have hN := hC.n
  have hR := hI.r
  have hCr := hC.r
  obtain ⟨pz, r0, r0b⟩ := sp_0 hI hw
  have z0 := (iOK_s1 hI).2.2
  have iX : iOK C (dAI d 10) (otD C (ruD C t (s1D C d))) := iOK_otN (iOK_ru hC hV hA ht ht2 pz.2.2.2.1 pz.2.2.2.2.1 z0) (cN C)
  have iY : iOK C (dAI d 10) (raD C (tmU (otD C (ruD C t (s1D C d))))) := iOK_ra hC hV hA (iOK_tm iX)
  intro e jj hr_ lp go hgb hDj hDn hO hfin H locs ls G hl
  have hXI : dI (otD C (ruD C t (s1D C d))) = dI d := by rw [← hgb, gbN_dI]; exact lp.2.2.2.2.2.1
  have hX25 : dAD (otD C (ruD C t (s1D C d))) 25 = dAD d 25 := by rw [← hgb, gbN_D (by decide) (by decide)]; exact lp.2.2.2.2.2.2
  have hJX : jOK C (otD C (ruD C t (s1D C d))) (fbJ C (hf_ t) e jj (cN C)) := by rw [← hgb]; exact jOK_fb hDl h11
  have hap4 : apOK (raD C (tmU (otD C (ruD C t (s1D C d))))) := apOK_mv (show dAD (raD C (tmU (otD C (ruD C t (s1D C d))))) 25 = dAD d 25 from (raN_D (by decide)).trans hX25) hap
  have L3 : ∀ (n_ m : Nat), m ≤ cN C → cN C < m + n_ → ∀ (H : Heap) (locs : List Loc) (ls : Array Slot), xG D dA (xA dA C d j) C (gbN C (hf_ t) m e) (fbJ C (hf_ t) e jj m) s0 H locs → lv_has ls 5 [(3, .int (nI m)), (1, .double t), (0, .ref (jA jj 0))] → (∀ (H : Heap) (locs : List Loc) (ls : Array Slot), xG D dA (xA dA C d j) C (gbN C (hf_ t) (cN C) e) (fbJ C (hf_ t) e jj (cN C)) s0 H locs → lv_has ls 5 [(3, .int (nI (cN C))), (1, .double t), (0, .ref (jA jj 0))] → W p0 l e0 (rm_ 9) s0 mid ([.ref (jA j 0), .double t] : List Value).toArray bl0 me0 co0 H locs 0 0 (MQ bl0 (xQ D dA C d j none C (stD C t d) (stJ C t d j)) ([.ref (jA j 0), .double t] : List Value).toArray s0 0 0 (xA dA C d j)) (F0 mid 233 ls [])) → W p0 l e0 (rm_ 9) s0 mid ([.ref (jA j 0), .double t] : List Value).toArray bl0 me0 co0 H locs 0 0 (MQ bl0 (xQ D dA C d j none C (stD C t d) (stJ C t d j)) ([.ref (jA j 0), .double t] : List Value).toArray s0 0 0 (xA dA C d j)) (F0 mid 128 ls []) := by
    intro n_
    induction n_ with
    | zero => intro m h1_ h2_; exact absurd h2_ (by omega)
    | succ n_ ih =>
      intro m h1_ h2_ H locs ls G hl kk
      have hk14 := hC.k m
      refine lv_iload_n hx hb dX0_step_128 rfl (lv_at hl 0 rfl) ?_
      refine lv_aload_n hx hb dX0_step_129 rfl (lv_at hl 2 rfl) ?_
      refine xx_getP (j := (fbJ C (hf_ t) e jj m)) S G 1 (by decide) q90 rfl (v := .int (nI (cN C))) rfl dX0_step_130 ?_
      refine nn_cge (tgt := 233) hx hb (by omega) (by omega) dX0_step_133 (by decide) (fun c_133 => ?_) (fun c_133 => ?_)
      · have hiN : m = cN C := by omega
        subst hiN
        exact kk H locs ls G (lv_sub hl [0, 1, 2] rfl)
      · refine lv_aload_n hx hb dX0_step_136 rfl (lv_at hl 2 rfl) ?_
        refine xx_getP (j := (fbJ C (hf_ t) e jj m)) S G 0 (by decide) q89 rfl (v := .ref (jA jj 1)) rfl dX0_step_137 ?_
        refine lv_iload_n hx hb dX0_step_140 rfl (lv_at hl 0 rfl) ?_
        refine xx_aald (j := (fbJ C (hf_ t) e jj m)) S G (r := 1) (by decide) (xW_p (by decide) rfl) (i := m) (by omega) (by decide) (o := some (jA jj (xr m 0))) (if_pos (by omega)) dX0_step_141 ?_
        refine W.eq (g2 := F0 mid 142 ls [.ref (jA jj (xr m 0))]) rfl ?_
        refine xx_get11 (j := (fbJ C (hf_ t) e jj m)) S G (mm := m) (by omega) hN (hC.k _) 0 (by decide) q203 rfl (v := .int (nI (cK C m))) rfl dX0_step_142 ?_
        refine lv_iconst (v := nI 2) hx hb dX0_step_145 (by decide) ?_
        refine nn_cne (tgt := 218) hx hb (by omega) (by omega) dX0_step_146 (by decide) (fun c_146 => ?_) (fun c_146 => ?_)
        · have G : xG D dA (xA dA C d j) C (sgS C (hf_ t) m (gbN C (hf_ t) m e)) (fbJ C (hf_ t) e jj m) s0 H locs := xG_d (xL_e rfl (gb_no c_146) rfl) G
          refine lv_aload_n hx hb dX0_step_218 rfl (lv_at hl 2 rfl) ?_
          refine xx_getP (j := (fbJ C (hf_ t) e jj m)) S G 0 (by decide) q89 rfl (v := .ref (jA jj 1)) rfl dX0_step_219 ?_
          refine lv_iload_n hx hb dX0_step_222 rfl (lv_at hl 0 rfl) ?_
          refine xx_aald (j := (fbJ C (hf_ t) e jj m)) S G (r := 1) (by decide) (xW_p (by decide) rfl) (i := m) (by omega) (by decide) (o := some (jA jj (xr m 0))) (if_pos (by omega)) dX0_step_223 ?_
          refine W.eq (g2 := F0 mid 224 ls [.ref (jA jj (xr m 0))]) rfl ?_
          refine xo_become (j := (fbJ C (hf_ t) e jj m)) (mm := m) (rest := []) S G hC (by omega) (fun h => gb_n lp.1 (by omega) h) (fun h => hDj m (by omega) h) hDn ⟨Nat.le_of_ble_eq_true rfl, Nat.le_of_ble_eq_true rfl⟩ ⟨Nat.zero_le _, Nat.zero_le _⟩ hl.1 (Nat.le_of_ble_eq_true rfl) dX0_step_224 (fun H locs G => ?_)
          refine W.eq (g2 := F0 mid 227 ls []) rfl ?_
          refine lv_iinc (v := nI (m + 1)) (lv' := [(3, .int (nI (m + 1))), (1, .double t), (0, .ref (jA jj 0))]) hx hb dX0_step_227 hl (k := 0) rfl (nI_1 _) (by decide) rfl (fun ls hl => ?_)
          refine lv_goto (tgt := 128) hx hb dX0_step_230 (by decide) ?_
          exact ih (m + 1) (by omega) (by omega) H locs ls (xG_d (by exact xL_e rfl rfl (fbJ_s C (hf_ t) e jj m)) G) (lv_sub hl [0, 1, 2] rfl) kk
        · have hn11 : ¬ cK C m = 11 := by omega
          refine lv_aload_n hx hb dX0_step_149 rfl (lv_at hl 2 rfl) ?_
          refine xx_getP (j := (fbJ C (hf_ t) e jj m)) S G 0 (by decide) q89 rfl (v := .ref (jA jj 1)) rfl dX0_step_150 ?_
          refine lv_iload_n hx hb dX0_step_153 rfl (lv_at hl 0 rfl) ?_
          refine xx_aald (j := (fbJ C (hf_ t) e jj m)) S G (r := 1) (by decide) (xW_p (by decide) rfl) (i := m) (by omega) (by decide) (o := some (jA jj (xr m 0))) (if_pos (by omega)) dX0_step_154 ?_
          refine W.eq (g2 := F0 mid 155 ls [.ref (jA jj (xr m 0))]) rfl ?_
          refine xx_cast (j := (fbJ C (hf_ t) e jj m)) S G (mm := m) (by omega) hN (hC.k _) (by rw [c_146]; exact q275) dX0_step_155 ?_
          refine lv_astore (lv' := [(4, .ref (jA jj (xr m 0))), (3, .int (nI m)), (1, .double t), (0, .ref (jA jj 0))]) hx hb dX0_step_158 hl (by decide) rfl (fun ls hl => ?_)
          refine lv_aload_n hx hb dX0_step_160 rfl (lv_at hl 3 rfl) ?_
          refine xx_getP (j := (fbJ C (hf_ t) e jj m)) S G 3 (by decide) q92 rfl (v := .int (nI (cR C))) rfl dX0_step_161 ?_
          refine nz_ne (tgt := 183) hx hb (by omega) dX0_step_164 (by decide) (fun c_164 => ?_) (fun c_164 => by exfalso; omega)
          refine lv_aload_n hx hb dX0_step_183 rfl (lv_at hl 3 rfl) ?_
          refine xx_getP (j := (fbJ C (hf_ t) e jj m)) S G 3 (by decide) q92 rfl (v := .int (nI (cR C))) rfl dX0_step_184 ?_
          refine lv_iconst (v := nI 1) hx hb dX0_step_187 (by decide) ?_
          refine nn_cne (tgt := 206) hx hb (by omega) (by omega) dX0_step_188 (by decide) (fun c_188 => by exfalso; exact c_188 hr_) (fun c_188 => ?_)
          refine lv_aload hx hb dX0_step_191 (lv_at hl 0 rfl) ?_
          refine lv_dload_n hx hb dX0_step_193 rfl (lv_at hl 2 rfl) ?_
          refine lv_aload_n hx hb dX0_step_194 rfl (lv_at hl 3 rfl) ?_
          refine xx_getP (j := (fbJ C (hf_ t) e jj m)) S G 5 (by decide) q94 rfl (v := .int (dI (gbN C (hf_ t) m e) 12)) rfl dX0_step_195 ?_
          refine lv_iconst (v := nI 1) hx hb dX0_step_198 (by decide) ?_
          refine lv_iadd hx hb dX0_step_199 ?_
          refine xx_callK (j := (fbJ C (hf_ t) e jj m)) (mm := m) (As := [.double t, .int ((dI (gbN C (hf_ t) m e) 12) + (nI 1))]) (rest := []) S G (by omega) hN c_146 (by decide) (xt_X6_goTwo l D dA C (gbN C (hf_ t) m e) (fbJ C (hf_ t) e jj m) m t ((dI (gbN C (hf_ t) m e) 12) + (nI 1)) hC (by omega) c_146 (fb_gr lp.2.1 (by omega) c_146) ht ht2 hh (by rw [gbN_dI, lp.2.2.2.2.2.1]; exact h44)) q1098 q1099 q1100 q62 q1101 hd_X6_goTwo ⟨Nat.le_of_ble_eq_true rfl, Nat.le_of_ble_eq_true rfl⟩ rfl hl.1 rfl (Nat.le_of_ble_eq_true rfl) dX0_step_200 ⟨Nat.zero_le _, Nat.zero_le _⟩ (fun H locs G => ?_)
          refine W.eq (g2 := F0 mid 203 ls []) rfl ?_
          refine lv_goto (tgt := 218) hx hb dX0_step_203 (by decide) ?_
          have G : xG D dA (xA dA C d j) C (sgS C (hf_ t) m (gbN C (hf_ t) m e)) ((fbJ C (hf_ t) e jj m)) s0 H locs := xG_d (xL_e rfl (gb_go c_146 (by rw [(fb_ne hn11).1]; try rfl) (by rw [(fb_ne hn11).2]; try rfl) (go m (by omega) c_146).1 (go m (by omega) c_146).2) rfl) G
          refine lv_aload_n hx hb dX0_step_218 rfl (lv_at hl 3 rfl) ?_
          refine xx_getP (j := (fbJ C (hf_ t) e jj m)) S G 0 (by decide) q89 rfl (v := .ref (jA jj 1)) rfl dX0_step_219 ?_
          refine lv_iload_n hx hb dX0_step_222 rfl (lv_at hl 1 rfl) ?_
          refine xx_aald (j := (fbJ C (hf_ t) e jj m)) S G (r := 1) (by decide) (xW_p (by decide) rfl) (i := m) (by omega) (by decide) (o := some (jA jj (xr m 0))) (if_pos (by omega)) dX0_step_223 ?_
          refine W.eq (g2 := F0 mid 224 ls [.ref (jA jj (xr m 0))]) rfl ?_
          refine xo_become (j := (fbJ C (hf_ t) e jj m)) (mm := m) (rest := []) S G hC (by omega) (fun h => gb_n lp.1 (by omega) h) (fun h => hDj m (by omega) h) hDn ⟨Nat.le_of_ble_eq_true rfl, Nat.le_of_ble_eq_true rfl⟩ ⟨Nat.zero_le _, Nat.zero_le _⟩ hl.1 (Nat.le_of_ble_eq_true rfl) dX0_step_224 (fun H locs G => ?_)
          refine W.eq (g2 := F0 mid 227 ls []) rfl ?_
          refine lv_iinc (v := nI (m + 1)) (lv' := [(3, .int (nI (m + 1))), (4, .ref (jA jj (xr m 0))), (1, .double t), (0, .ref (jA jj 0))]) hx hb dX0_step_227 hl (k := 1) rfl (nI_1 _) (by decide) rfl (fun ls hl => ?_)
          refine lv_goto (tgt := 128) hx hb dX0_step_230 (by decide) ?_
          exact ih (m + 1) (by omega) (by omega) H locs ls (xG_d (by exact xL_e rfl rfl (fbJ_s C (hf_ t) e jj m)) G) (lv_sub hl [0, 2, 3] rfl) kk
  have L4 : ∀ (n_ m : Nat), m ≤ cN C → cN C < m + n_ → ∀ (H : Heap) (locs : List Loc) (ls : Array Slot), xG D dA (xA dA C d j) C (dfN m (raD C (tmU (otD C (ruD C t (s1D C d)))))) (fbJ C (hf_ t) e jj (cN C)) s0 H locs → lv_has ls 5 [(3, .int (nI m)), (1, .double t), (0, .ref (jA jj 0))] → (∀ (H : Heap) (locs : List Loc) (ls : Array Slot), xG D dA (xA dA C d j) C (dfN (cN C) (raD C (tmU (otD C (ruD C t (s1D C d)))))) (fbJ C (hf_ t) e jj (cN C)) s0 H locs → lv_has ls 5 [(3, .int (nI (cN C))), (1, .double t), (0, .ref (jA jj 0))] → W p0 l e0 (rm_ 9) s0 mid ([.ref (jA j 0), .double t] : List Value).toArray bl0 me0 co0 H locs 0 0 (MQ bl0 (xQ D dA C d j none C (stD C t d) (stJ C t d j)) ([.ref (jA j 0), .double t] : List Value).toArray s0 0 0 (xA dA C d j)) (F0 mid 276 ls [])) → W p0 l e0 (rm_ 9) s0 mid ([.ref (jA j 0), .double t] : List Value).toArray bl0 me0 co0 H locs 0 0 (MQ bl0 (xQ D dA C d j none C (stD C t d) (stJ C t d j)) ([.ref (jA j 0), .double t] : List Value).toArray s0 0 0 (xA dA C d j)) (F0 mid 253 ls []) := by
    intro n_
    induction n_ with
    | zero => intro m h1_ h2_; exact absurd h2_ (by omega)
    | succ n_ ih =>
      intro m h1_ h2_ H locs ls G hl kk
      refine lv_iload_n hx hb dX0_step_253 rfl (lv_at hl 0 rfl) ?_
      refine lv_aload_n hx hb dX0_step_254 rfl (lv_at hl 2 rfl) ?_
      refine xx_getP (j := (fbJ C (hf_ t) e jj (cN C))) S G 1 (by decide) q90 rfl (v := .int (nI (cN C))) rfl dX0_step_255 ?_
      refine nn_cge (tgt := 276) hx hb (by omega) (by omega) dX0_step_258 (by decide) (fun c_258 => ?_) (fun c_258 => ?_)
      · have hiN : m = cN C := by omega
        subst hiN
        exact kk H locs ls G (lv_sub hl [0, 1, 2] rfl)
      · refine lv_aload_n hx hb dX0_step_261 rfl (lv_at hl 2 rfl) ?_
        refine xx_getP (j := (fbJ C (hf_ t) e jj (cN C))) S G 0 (by decide) q89 rfl (v := .ref (jA jj 1)) rfl dX0_step_262 ?_
        refine lv_iload_n hx hb dX0_step_265 rfl (lv_at hl 0 rfl) ?_
        refine xx_aald (j := (fbJ C (hf_ t) e jj (cN C))) S G (r := 1) (by decide) (xW_p (by decide) rfl) (i := m) (by omega) (by decide) (o := some (jA jj (xr m 0))) (if_pos (by omega)) dX0_step_266 ?_
        refine W.eq (g2 := F0 mid 267 ls [.ref (jA jj (xr m 0))]) rfl ?_
        refine xx_callM (j := (fbJ C (hf_ t) e jj (cN C))) (mm := m) (As := []) (rest := []) S G (by omega) hN (hC.k _) (xt_X2_compare l D dA C (dfN m (raD C (tmU (otD C (ruD C t (s1D C d)))))) (fbJ C (hf_ t) e jj (cN C)) m hC (by omega) (iOK_dfN iY m).r (apOK_dfN iY hap4 m)) (xx_cw hts q981 q983 (se_compare (hC.k _)) q982 q58 q998 rfl hu_Module_compare ⟨Nat.le_of_ble_eq_true rfl, Nat.le_of_ble_eq_true rfl⟩) rfl hl.1 rfl (Nat.le_of_ble_eq_true rfl) dX0_step_267 ⟨Nat.zero_le _, Nat.zero_le _⟩ (fun H locs G => ?_)
        refine W.eq (g2 := F0 mid 270 ls []) rfl ?_
        refine lv_iinc (v := nI (m + 1)) (lv' := [(3, .int (nI (m + 1))), (1, .double t), (0, .ref (jA jj 0))]) hx hb dX0_step_270 hl (k := 0) rfl (nI_1 _) (by decide) rfl (fun ls hl => ?_)
        refine lv_goto (tgt := 253) hx hb dX0_step_273 (by decide) ?_
        exact ih (m + 1) (by omega) (by omega) H locs ls (xG_d (xL_e rfl (by rfl) rfl) G) (lv_sub hl [0, 1, 2] rfl) kk
  refine lv_iconst (v := nI 0) hx hb dX0_step_126 (by decide) ?_
  refine lv_istore_n (lv' := [(3, .int (nI 0)), (1, .double t), (0, .ref (jA jj 0))]) hx hb dX0_step_127 rfl hl (by decide) rfl (fun ls hl => ?_)
  refine L3 (cN C + 1) 0 (by omega) (by omega) _ _ ls (xG_d (by exact xL_e rfl rfl (fbJ_0 C (hf_ t) e jj)) G) (lv_sub hl [0, 1, 2] rfl) (fun H locs ls G hl => ?_)
  have G : xG D dA (xA dA C d j) C (otD C (ruD C t (s1D C d))) (fbJ C (hf_ t) e jj (cN C)) s0 H locs := xG_d (xL_e rfl hgb rfl) G
  refine lv_aload_n hx hb dX0_step_233 rfl (lv_at hl 2 rfl) ?_
  refine lv_dup hx hb dX0_step_234 rfl ?_
  refine xx_getP (j := (fbJ C (hf_ t) e jj (cN C))) S G 5 (by decide) q94 rfl (v := .int (dI (otD C (ruD C t (s1D C d))) 12)) rfl dX0_step_235 ?_
  refine lv_iconst (v := nI 1) hx hb dX0_step_238 (by decide) ?_
  refine lv_iadd hx hb dX0_step_239 ?_
  refine xx_putP (j := (fbJ C (hf_ t) e jj (cN C))) S G 5 (by decide) q94 rfl rfl rfl rfl xs_P5 dX0_step_240 (fun H locs G => ?_)
  have G : xG D dA (xA dA C d j) C (tmU (otD C (ruD C t (s1D C d)))) (fbJ C (hf_ t) e jj (cN C)) s0 H locs := G
  refine lv_aload_n hx hb dX0_step_243 rfl (lv_at hl 2 rfl) ?_
  refine lv_aload_n hx hb dX0_step_244 rfl (lv_at hl 2 rfl) ?_
  refine xx_getP (j := (fbJ C (hf_ t) e jj (cN C))) S G 5 (by decide) q94 rfl (v := .int (dI d 12 + nI 1)) (by show Value.int (dI (otD C (ruD C t (s1D C d))) 12 + nI 1) = _; rw [hXI]) dX0_step_245 ?_
  refine xx_callP (j := (fbJ C (hf_ t) e jj (cN C))) (As := [.int (dI d 12 + nI 1)]) (rest := []) S G (xt_X0_read l D dA C (tmU (otD C (ruD C t (s1D C d)))) (fbJ C (hf_ t) e jj (cN C)) (dI d 12 + nI 1) hC hV iX.r hA (show dI (otD C (ruD C t (s1D C d))) 44 = dI d 12 + nI 1 by rw [hXI]; exact h44) hJX (by rw [show dAI (tmU (otD C (ruD C t (s1D C d)))) 10 = dAI d 10 from iX.l]; exact hO)) q717 q719 qs7 q720 hd_X0_read ⟨Nat.le_of_ble_eq_true rfl, Nat.le_of_ble_eq_true rfl⟩ rfl hl.1 rfl (Nat.le_of_ble_eq_true rfl) dX0_step_248 ⟨Nat.zero_le _, Nat.zero_le _⟩ (fun H locs G => ?_)
  refine W.eq (g2 := F0 mid 251 ls []) rfl ?_
  refine lv_iconst (v := nI 0) hx hb dX0_step_251 (by decide) ?_
  refine lv_istore_n (lv' := [(3, .int (nI 0)), (1, .double t), (0, .ref (jA jj 0))]) hx hb dX0_step_252 rfl hl (by decide) rfl (fun ls hl => ?_)
  refine L4 (cN C + 1) 0 (by omega) (by omega) _ _ ls (xG_d (xL_e rfl (by rfl) rfl) G) (lv_sub hl [0, 1, 2] rfl) (fun H locs ls G hl => ?_)
  exact xx_vret S hr hlk G (xL_e rfl (by rfl) (by exact hfin)) dX0_step_276
theorem xt_X0_step_T2 (l : Launch) (D : va_G) (dA : Nat → ClassId) (C : tp_C) (d : md_T) (j : xj_T) (t : UInt64) (hC : mOK C) (hV : vOK C) (hA : aOK C) (hDl : dlOK C) (hI : iOK C (dAI d 10) d) (ht : tOK t) (ht2 : tOK (hf_ t)) (hh : FP.fdiv (FP.d2f t) FP.fconst2 = FP.d2f (hf_ t)) (hJ : jOK C d j) (hO : orOK C (dAI d 10) j) (h44 : dI d 44 = dI d 12 + nI 1) (hw : wrOK j) (hDj : ∀ m, m < cN C → cK C m = 11 → jDn j m = some (dlN C m) ∧ 1 ≤ dlN C m ∧ dlN C m ≤ 16) (hDn : dnOK j) (hap : apOK d) (h11 : ∀ m, cK C m = 11 → m < cN C) (p0 : Program) (e0 : Env) (s0 : State) (mid : MethodId) (bl0 : List Frame) (me0 : Method) (co0 : Code) (S : CallFix p0 mid co0 cX0_step 5 s0 ([.ref (jA j 0), .double t] : List Value).toArray lw_all RX0) (hr : me0.sig.returnType = none) (hlk : me0.locks = false) : ∀ (e : md_T) (jj : xj_T), cR C = 2 → lpOK C (dAI d 10) d j t e jj → (∀ m, m < cN C → cK C m = 2 → FP.dadd (jWf jj m) (FP.dmul t (FP.ddiv (w4D (jWr jj m)) 4618441417868443648)) = sgV e t m ∧ FP.fadd (jNf jj m) (FP.fmul (FP.d2f t) (FP.fdiv (w4F (jNr jj m)) 1086324736)) = sgW e t m) → gbN C t (cN C) e = otD C (ruD C t (s1D C d)) → (∀ m, m < cN C → cK C m = 11 → jDn jj m = some (dlN C m) ∧ 1 ≤ dlN C m ∧ dlN C m ≤ 16) → dnOK jj → orOK C (dAI d 10) jj → fbJ C t e jj (cN C) = stJ C t d j → ∀ (H : Heap) (locs : List Loc) (ls : Array Slot), xG D dA (xA dA C d j) C e jj s0 H locs → lv_has ls 5 [(1, .double t), (0, .ref (jA jj 0))] → W p0 l e0 (rm_ 9) s0 mid ([.ref (jA j 0), .double t] : List Value).toArray bl0 me0 co0 H locs 0 0 (MQ bl0 (xQ D dA C d j none C (stD C t d) (stJ C t d j)) ([.ref (jA j 0), .double t] : List Value).toArray s0 0 0 (xA dA C d j)) (F0 mid 126 ls []) := by
  have hx := S.1; have hb := S.2.1; have hml := S.2.2.1; have hown := S.2.2.2.1; have hts := S.2.2.2.2; have hN := hC.n
  have hR := hI.r
  have hCr := hC.r
  obtain ⟨pz, r0, r0b⟩ := sp_0 hI hw
  have z0 := (iOK_s1 hI).2.2
  have iX : iOK C (dAI d 10) (otD C (ruD C t (s1D C d))) := iOK_otN (iOK_ru hC hV hA ht ht2 pz.2.2.2.1 pz.2.2.2.2.1 z0) (cN C)
  have iY : iOK C (dAI d 10) (raD C (tmU (otD C (ruD C t (s1D C d))))) := iOK_ra hC hV hA (iOK_tm iX)
  intro e jj hr_ lp go hgb hDj hDn hO hfin H locs ls G hl
  have hXI : dI (otD C (ruD C t (s1D C d))) = dI d := by rw [← hgb, gbN_dI]; exact lp.2.2.2.2.2.1
  have hX25 : dAD (otD C (ruD C t (s1D C d))) 25 = dAD d 25 := by rw [← hgb, gbN_D (by decide) (by decide)]; exact lp.2.2.2.2.2.2
  have hJX : jOK C (otD C (ruD C t (s1D C d))) (fbJ C t e jj (cN C)) := by rw [← hgb]; exact jOK_fb hDl h11
  have hap4 : apOK (raD C (tmU (otD C (ruD C t (s1D C d))))) := apOK_mv (show dAD (raD C (tmU (otD C (ruD C t (s1D C d))))) 25 = dAD d 25 from (raN_D (by decide)).trans hX25) hap
  have L3 : ∀ (n_ m : Nat), m ≤ cN C → cN C < m + n_ → ∀ (H : Heap) (locs : List Loc) (ls : Array Slot), xG D dA (xA dA C d j) C (gbN C t m e) (fbJ C t e jj m) s0 H locs → lv_has ls 5 [(3, .int (nI m)), (1, .double t), (0, .ref (jA jj 0))] → (∀ (H : Heap) (locs : List Loc) (ls : Array Slot), xG D dA (xA dA C d j) C (gbN C t (cN C) e) (fbJ C t e jj (cN C)) s0 H locs → lv_has ls 5 [(3, .int (nI (cN C))), (1, .double t), (0, .ref (jA jj 0))] → W p0 l e0 (rm_ 9) s0 mid ([.ref (jA j 0), .double t] : List Value).toArray bl0 me0 co0 H locs 0 0 (MQ bl0 (xQ D dA C d j none C (stD C t d) (stJ C t d j)) ([.ref (jA j 0), .double t] : List Value).toArray s0 0 0 (xA dA C d j)) (F0 mid 233 ls [])) → W p0 l e0 (rm_ 9) s0 mid ([.ref (jA j 0), .double t] : List Value).toArray bl0 me0 co0 H locs 0 0 (MQ bl0 (xQ D dA C d j none C (stD C t d) (stJ C t d j)) ([.ref (jA j 0), .double t] : List Value).toArray s0 0 0 (xA dA C d j)) (F0 mid 128 ls []) := by
    intro n_
    induction n_ with
    | zero => intro m h1_ h2_; exact absurd h2_ (by omega)
    | succ n_ ih =>
      intro m h1_ h2_ H locs ls G hl kk
      have hk14 := hC.k m
      refine lv_iload_n hx hb dX0_step_128 rfl (lv_at hl 0 rfl) ?_
      refine lv_aload_n hx hb dX0_step_129 rfl (lv_at hl 2 rfl) ?_
      refine xx_getP (j := (fbJ C t e jj m)) S G 1 (by decide) q90 rfl (v := .int (nI (cN C))) rfl dX0_step_130 ?_
      refine nn_cge (tgt := 233) hx hb (by omega) (by omega) dX0_step_133 (by decide) (fun c_133 => ?_) (fun c_133 => ?_)
      · have hiN : m = cN C := by omega
        subst hiN
        exact kk H locs ls G (lv_sub hl [0, 1, 2] rfl)
      · refine lv_aload_n hx hb dX0_step_136 rfl (lv_at hl 2 rfl) ?_
        refine xx_getP (j := (fbJ C t e jj m)) S G 0 (by decide) q89 rfl (v := .ref (jA jj 1)) rfl dX0_step_137 ?_
        refine lv_iload_n hx hb dX0_step_140 rfl (lv_at hl 0 rfl) ?_
        refine xx_aald (j := (fbJ C t e jj m)) S G (r := 1) (by decide) (xW_p (by decide) rfl) (i := m) (by omega) (by decide) (o := some (jA jj (xr m 0))) (if_pos (by omega)) dX0_step_141 ?_
        refine W.eq (g2 := F0 mid 142 ls [.ref (jA jj (xr m 0))]) rfl ?_
        refine xx_get11 (j := (fbJ C t e jj m)) S G (mm := m) (by omega) hN (hC.k _) 0 (by decide) q203 rfl (v := .int (nI (cK C m))) rfl dX0_step_142 ?_
        refine lv_iconst (v := nI 2) hx hb dX0_step_145 (by decide) ?_
        refine nn_cne (tgt := 218) hx hb (by omega) (by omega) dX0_step_146 (by decide) (fun c_146 => ?_) (fun c_146 => ?_)
        · have G : xG D dA (xA dA C d j) C (sgS C t m (gbN C t m e)) (fbJ C t e jj m) s0 H locs := xG_d (xL_e rfl (gb_no c_146) rfl) G
          refine lv_aload_n hx hb dX0_step_218 rfl (lv_at hl 2 rfl) ?_
          refine xx_getP (j := (fbJ C t e jj m)) S G 0 (by decide) q89 rfl (v := .ref (jA jj 1)) rfl dX0_step_219 ?_
          refine lv_iload_n hx hb dX0_step_222 rfl (lv_at hl 0 rfl) ?_
          refine xx_aald (j := (fbJ C t e jj m)) S G (r := 1) (by decide) (xW_p (by decide) rfl) (i := m) (by omega) (by decide) (o := some (jA jj (xr m 0))) (if_pos (by omega)) dX0_step_223 ?_
          refine W.eq (g2 := F0 mid 224 ls [.ref (jA jj (xr m 0))]) rfl ?_
          refine xo_become (j := (fbJ C t e jj m)) (mm := m) (rest := []) S G hC (by omega) (fun h => gb_n lp.1 (by omega) h) (fun h => hDj m (by omega) h) hDn ⟨Nat.le_of_ble_eq_true rfl, Nat.le_of_ble_eq_true rfl⟩ ⟨Nat.zero_le _, Nat.zero_le _⟩ hl.1 (Nat.le_of_ble_eq_true rfl) dX0_step_224 (fun H locs G => ?_)
          refine W.eq (g2 := F0 mid 227 ls []) rfl ?_
          refine lv_iinc (v := nI (m + 1)) (lv' := [(3, .int (nI (m + 1))), (1, .double t), (0, .ref (jA jj 0))]) hx hb dX0_step_227 hl (k := 0) rfl (nI_1 _) (by decide) rfl (fun ls hl => ?_)
          refine lv_goto (tgt := 128) hx hb dX0_step_230 (by decide) ?_
          exact ih (m + 1) (by omega) (by omega) H locs ls (xG_d (by exact xL_e rfl rfl (fbJ_s C t e jj m)) G) (lv_sub hl [0, 1, 2] rfl) kk
        · have hn11 : ¬ cK C m = 11 := by omega
          refine lv_aload_n hx hb dX0_step_149 rfl (lv_at hl 2 rfl) ?_
          refine xx_getP (j := (fbJ C t e jj m)) S G 0 (by decide) q89 rfl (v := .ref (jA jj 1)) rfl dX0_step_150 ?_
          refine lv_iload_n hx hb dX0_step_153 rfl (lv_at hl 0 rfl) ?_
          refine xx_aald (j := (fbJ C t e jj m)) S G (r := 1) (by decide) (xW_p (by decide) rfl) (i := m) (by omega) (by decide) (o := some (jA jj (xr m 0))) (if_pos (by omega)) dX0_step_154 ?_
          refine W.eq (g2 := F0 mid 155 ls [.ref (jA jj (xr m 0))]) rfl ?_
          refine xx_cast (j := (fbJ C t e jj m)) S G (mm := m) (by omega) hN (hC.k _) (by rw [c_146]; exact q275) dX0_step_155 ?_
          refine lv_astore (lv' := [(4, .ref (jA jj (xr m 0))), (3, .int (nI m)), (1, .double t), (0, .ref (jA jj 0))]) hx hb dX0_step_158 hl (by decide) rfl (fun ls hl => ?_)
          refine lv_aload_n hx hb dX0_step_160 rfl (lv_at hl 3 rfl) ?_
          refine xx_getP (j := (fbJ C t e jj m)) S G 3 (by decide) q92 rfl (v := .int (nI (cR C))) rfl dX0_step_161 ?_
          refine nz_ne (tgt := 183) hx hb (by omega) dX0_step_164 (by decide) (fun c_164 => ?_) (fun c_164 => by exfalso; omega)
          refine lv_aload_n hx hb dX0_step_183 rfl (lv_at hl 3 rfl) ?_
          refine xx_getP (j := (fbJ C t e jj m)) S G 3 (by decide) q92 rfl (v := .int (nI (cR C))) rfl dX0_step_184 ?_
          refine lv_iconst (v := nI 1) hx hb dX0_step_187 (by decide) ?_
          refine nn_cne (tgt := 206) hx hb (by omega) (by omega) dX0_step_188 (by decide) (fun c_188 => ?_) (fun c_188 => by exfalso; omega)
          refine lv_aload hx hb dX0_step_206 (lv_at hl 0 rfl) ?_
          refine lv_dload_n hx hb dX0_step_208 rfl (lv_at hl 2 rfl) ?_
          refine lv_aload_n hx hb dX0_step_209 rfl (lv_at hl 3 rfl) ?_
          refine xx_getP (j := (fbJ C t e jj m)) S G 5 (by decide) q94 rfl (v := .int (dI (gbN C t m e) 12)) rfl dX0_step_210 ?_
          refine lv_iconst (v := nI 1) hx hb dX0_step_213 (by decide) ?_
          refine lv_iadd hx hb dX0_step_214 ?_
          refine xx_callK (j := (fbJ C t e jj m)) (mm := m) (As := [.double t, .int ((dI (gbN C t m e) 12) + (nI 1))]) (rest := []) S G (by omega) hN c_146 (by decide) (xt_X6_goFour l D dA C (gbN C t m e) (fbJ C t e jj m) m t ((dI (gbN C t m e) 12) + (nI 1)) hC (by omega) c_146 (fb_gr lp.2.1 (by omega) c_146) ht (by rw [gbN_dI, lp.2.2.2.2.2.1]; exact h44)) q1103 q1104 q1105 q62 q1106 hd_X6_goFour ⟨Nat.le_of_ble_eq_true rfl, Nat.le_of_ble_eq_true rfl⟩ rfl hl.1 rfl (Nat.le_of_ble_eq_true rfl) dX0_step_215 ⟨Nat.zero_le _, Nat.zero_le _⟩ (fun H locs G => ?_)
          refine W.eq (g2 := F0 mid 218 ls []) rfl ?_
          have G : xG D dA (xA dA C d j) C (sgS C t m (gbN C t m e)) ((fbJ C t e jj m)) s0 H locs := xG_d (xL_e rfl (gb_go c_146 (by rw [(fb_ne hn11).1]; try rfl) (by rw [(fb_ne hn11).2]; try rfl) (go m (by omega) c_146).1 (go m (by omega) c_146).2) rfl) G
          refine lv_aload_n hx hb dX0_step_218 rfl (lv_at hl 3 rfl) ?_
          refine xx_getP (j := (fbJ C t e jj m)) S G 0 (by decide) q89 rfl (v := .ref (jA jj 1)) rfl dX0_step_219 ?_
          refine lv_iload_n hx hb dX0_step_222 rfl (lv_at hl 1 rfl) ?_
          refine xx_aald (j := (fbJ C t e jj m)) S G (r := 1) (by decide) (xW_p (by decide) rfl) (i := m) (by omega) (by decide) (o := some (jA jj (xr m 0))) (if_pos (by omega)) dX0_step_223 ?_
          refine W.eq (g2 := F0 mid 224 ls [.ref (jA jj (xr m 0))]) rfl ?_
          refine xo_become (j := (fbJ C t e jj m)) (mm := m) (rest := []) S G hC (by omega) (fun h => gb_n lp.1 (by omega) h) (fun h => hDj m (by omega) h) hDn ⟨Nat.le_of_ble_eq_true rfl, Nat.le_of_ble_eq_true rfl⟩ ⟨Nat.zero_le _, Nat.zero_le _⟩ hl.1 (Nat.le_of_ble_eq_true rfl) dX0_step_224 (fun H locs G => ?_)
          refine W.eq (g2 := F0 mid 227 ls []) rfl ?_
          refine lv_iinc (v := nI (m + 1)) (lv' := [(3, .int (nI (m + 1))), (4, .ref (jA jj (xr m 0))), (1, .double t), (0, .ref (jA jj 0))]) hx hb dX0_step_227 hl (k := 1) rfl (nI_1 _) (by decide) rfl (fun ls hl => ?_)
          refine lv_goto (tgt := 128) hx hb dX0_step_230 (by decide) ?_
          exact ih (m + 1) (by omega) (by omega) H locs ls (xG_d (by exact xL_e rfl rfl (fbJ_s C t e jj m)) G) (lv_sub hl [0, 2, 3] rfl) kk
  have L4 : ∀ (n_ m : Nat), m ≤ cN C → cN C < m + n_ → ∀ (H : Heap) (locs : List Loc) (ls : Array Slot), xG D dA (xA dA C d j) C (dfN m (raD C (tmU (otD C (ruD C t (s1D C d)))))) (fbJ C t e jj (cN C)) s0 H locs → lv_has ls 5 [(3, .int (nI m)), (1, .double t), (0, .ref (jA jj 0))] → (∀ (H : Heap) (locs : List Loc) (ls : Array Slot), xG D dA (xA dA C d j) C (dfN (cN C) (raD C (tmU (otD C (ruD C t (s1D C d)))))) (fbJ C t e jj (cN C)) s0 H locs → lv_has ls 5 [(3, .int (nI (cN C))), (1, .double t), (0, .ref (jA jj 0))] → W p0 l e0 (rm_ 9) s0 mid ([.ref (jA j 0), .double t] : List Value).toArray bl0 me0 co0 H locs 0 0 (MQ bl0 (xQ D dA C d j none C (stD C t d) (stJ C t d j)) ([.ref (jA j 0), .double t] : List Value).toArray s0 0 0 (xA dA C d j)) (F0 mid 276 ls [])) → W p0 l e0 (rm_ 9) s0 mid ([.ref (jA j 0), .double t] : List Value).toArray bl0 me0 co0 H locs 0 0 (MQ bl0 (xQ D dA C d j none C (stD C t d) (stJ C t d j)) ([.ref (jA j 0), .double t] : List Value).toArray s0 0 0 (xA dA C d j)) (F0 mid 253 ls []) := by
    intro n_
    induction n_ with
    | zero => intro m h1_ h2_; exact absurd h2_ (by omega)
    | succ n_ ih =>
      intro m h1_ h2_ H locs ls G hl kk
      refine lv_iload_n hx hb dX0_step_253 rfl (lv_at hl 0 rfl) ?_
      refine lv_aload_n hx hb dX0_step_254 rfl (lv_at hl 2 rfl) ?_
      refine xx_getP (j := (fbJ C t e jj (cN C))) S G 1 (by decide) q90 rfl (v := .int (nI (cN C))) rfl dX0_step_255 ?_
      refine nn_cge (tgt := 276) hx hb (by omega) (by omega) dX0_step_258 (by decide) (fun c_258 => ?_) (fun c_258 => ?_)
      · have hiN : m = cN C := by omega
        subst hiN
        exact kk H locs ls G (lv_sub hl [0, 1, 2] rfl)
      · refine lv_aload_n hx hb dX0_step_261 rfl (lv_at hl 2 rfl) ?_
        refine xx_getP (j := (fbJ C t e jj (cN C))) S G 0 (by decide) q89 rfl (v := .ref (jA jj 1)) rfl dX0_step_262 ?_
        refine lv_iload_n hx hb dX0_step_265 rfl (lv_at hl 0 rfl) ?_
        refine xx_aald (j := (fbJ C t e jj (cN C))) S G (r := 1) (by decide) (xW_p (by decide) rfl) (i := m) (by omega) (by decide) (o := some (jA jj (xr m 0))) (if_pos (by omega)) dX0_step_266 ?_
        refine W.eq (g2 := F0 mid 267 ls [.ref (jA jj (xr m 0))]) rfl ?_
        refine xx_callM (j := (fbJ C t e jj (cN C))) (mm := m) (As := []) (rest := []) S G (by omega) hN (hC.k _) (xt_X2_compare l D dA C (dfN m (raD C (tmU (otD C (ruD C t (s1D C d)))))) (fbJ C t e jj (cN C)) m hC (by omega) (iOK_dfN iY m).r (apOK_dfN iY hap4 m)) (xx_cw hts q981 q983 (se_compare (hC.k _)) q982 q58 q998 rfl hu_Module_compare ⟨Nat.le_of_ble_eq_true rfl, Nat.le_of_ble_eq_true rfl⟩) rfl hl.1 rfl (Nat.le_of_ble_eq_true rfl) dX0_step_267 ⟨Nat.zero_le _, Nat.zero_le _⟩ (fun H locs G => ?_)
        refine W.eq (g2 := F0 mid 270 ls []) rfl ?_
        refine lv_iinc (v := nI (m + 1)) (lv' := [(3, .int (nI (m + 1))), (1, .double t), (0, .ref (jA jj 0))]) hx hb dX0_step_270 hl (k := 0) rfl (nI_1 _) (by decide) rfl (fun ls hl => ?_)
        refine lv_goto (tgt := 253) hx hb dX0_step_273 (by decide) ?_
        exact ih (m + 1) (by omega) (by omega) H locs ls (xG_d (xL_e rfl (by rfl) rfl) G) (lv_sub hl [0, 1, 2] rfl) kk
  refine lv_iconst (v := nI 0) hx hb dX0_step_126 (by decide) ?_
  refine lv_istore_n (lv' := [(3, .int (nI 0)), (1, .double t), (0, .ref (jA jj 0))]) hx hb dX0_step_127 rfl hl (by decide) rfl (fun ls hl => ?_)
  refine L3 (cN C + 1) 0 (by omega) (by omega) _ _ ls (xG_d (by exact xL_e rfl rfl (fbJ_0 C t e jj)) G) (lv_sub hl [0, 1, 2] rfl) (fun H locs ls G hl => ?_)
  have G : xG D dA (xA dA C d j) C (otD C (ruD C t (s1D C d))) (fbJ C t e jj (cN C)) s0 H locs := xG_d (xL_e rfl hgb rfl) G
  refine lv_aload_n hx hb dX0_step_233 rfl (lv_at hl 2 rfl) ?_
  refine lv_dup hx hb dX0_step_234 rfl ?_
  refine xx_getP (j := (fbJ C t e jj (cN C))) S G 5 (by decide) q94 rfl (v := .int (dI (otD C (ruD C t (s1D C d))) 12)) rfl dX0_step_235 ?_
  refine lv_iconst (v := nI 1) hx hb dX0_step_238 (by decide) ?_
  refine lv_iadd hx hb dX0_step_239 ?_
  refine xx_putP (j := (fbJ C t e jj (cN C))) S G 5 (by decide) q94 rfl rfl rfl rfl xs_P5 dX0_step_240 (fun H locs G => ?_)
  have G : xG D dA (xA dA C d j) C (tmU (otD C (ruD C t (s1D C d)))) (fbJ C t e jj (cN C)) s0 H locs := G
  refine lv_aload_n hx hb dX0_step_243 rfl (lv_at hl 2 rfl) ?_
  refine lv_aload_n hx hb dX0_step_244 rfl (lv_at hl 2 rfl) ?_
  refine xx_getP (j := (fbJ C t e jj (cN C))) S G 5 (by decide) q94 rfl (v := .int (dI d 12 + nI 1)) (by show Value.int (dI (otD C (ruD C t (s1D C d))) 12 + nI 1) = _; rw [hXI]) dX0_step_245 ?_
  refine xx_callP (j := (fbJ C t e jj (cN C))) (As := [.int (dI d 12 + nI 1)]) (rest := []) S G (xt_X0_read l D dA C (tmU (otD C (ruD C t (s1D C d)))) (fbJ C t e jj (cN C)) (dI d 12 + nI 1) hC hV iX.r hA (show dI (otD C (ruD C t (s1D C d))) 44 = dI d 12 + nI 1 by rw [hXI]; exact h44) hJX (by rw [show dAI (tmU (otD C (ruD C t (s1D C d)))) 10 = dAI d 10 from iX.l]; exact hO)) q717 q719 qs7 q720 hd_X0_read ⟨Nat.le_of_ble_eq_true rfl, Nat.le_of_ble_eq_true rfl⟩ rfl hl.1 rfl (Nat.le_of_ble_eq_true rfl) dX0_step_248 ⟨Nat.zero_le _, Nat.zero_le _⟩ (fun H locs G => ?_)
  refine W.eq (g2 := F0 mid 251 ls []) rfl ?_
  refine lv_iconst (v := nI 0) hx hb dX0_step_251 (by decide) ?_
  refine lv_istore_n (lv' := [(3, .int (nI 0)), (1, .double t), (0, .ref (jA jj 0))]) hx hb dX0_step_252 rfl hl (by decide) rfl (fun ls hl => ?_)
  refine L4 (cN C + 1) 0 (by omega) (by omega) _ _ ls (xG_d (xL_e rfl (by rfl) rfl) G) (lv_sub hl [0, 1, 2] rfl) (fun H locs ls G hl => ?_)
  exact xx_vret S hr hlk G (xL_e rfl (by rfl) (by exact hfin)) dX0_step_276
theorem xt_X0_step_R3 (l : Launch) (D : va_G) (dA : Nat → ClassId) (C : tp_C) (d : md_T) (j : xj_T) (t : UInt64) (hC : mOK C) (hV : vOK C) (hA : aOK C) (hDl : dlOK C) (hI : iOK C (dAI d 10) d) (ht : tOK t) (ht2 : tOK (hf_ t)) (hh : FP.fdiv (FP.d2f t) FP.fconst2 = FP.d2f (hf_ t)) (hJ : jOK C d j) (hO : orOK C (dAI d 10) j) (h44 : dI d 44 = dI d 12 + nI 1) (hw : wrOK j) (hDj : ∀ m, m < cN C → cK C m = 11 → jDn j m = some (dlN C m) ∧ 1 ≤ dlN C m ∧ dlN C m ≤ 16) (hDn : dnOK j) (hap : apOK d) (h11 : ∀ m, cK C m = 11 → m < cN C) (p0 : Program) (e0 : Env) (s0 : State) (mid : MethodId) (bl0 : List Frame) (me0 : Method) (co0 : Code) (S : CallFix p0 mid co0 cX0_step 5 s0 ([.ref (jA j 0), .double t] : List Value).toArray lw_all RX0) (hr : me0.sig.returnType = none) (hlk : me0.locks = false) (jn : xj_T) (hru : cR C = 2) (p2 : spOK C (dAI d 10) d j (rateD C (se2 C t d)) jn) (r2 : tiR C (rateD C (se2 C t d)) jn 2 56 57) (r2d0 : tiR C (rateD C (se2 C t d)) jn 1 47 51) (r2e0 : tiR C (rateD C (se2 C t d)) jn 0 46 50) (z1 : zgOK C 46 50 (ra_ C t d)) (z1b : zgOK C 47 51 (ra_ C t d)) (hDj' : ∀ m, m < cN C → cK C m = 11 → jDn jn m = some (dlN C m) ∧ 1 ≤ dlN C m ∧ dlN C m ≤ 16) (hDk : dnOK jn) (hOn : orOK C (dAI d 10) jn) (hfin : fbJ C t (sd2 C t d) (rtJ C (se3 C t d) 3 jn (cN C)) (cN C) = stJ C t d j) (H : Heap) (locs : List Loc) (ls : Array Slot) (G : xG D dA (xA dA C d j) C (rb_ C t d) jn s0 H locs) (hl : lv_has ls 5 [(1, .double t), (0, .ref (jA jn 0))]) : W p0 l e0 (rm_ 9) s0 mid ([.ref (jA j 0), .double t] : List Value).toArray bl0 me0 co0 H locs 0 0 (MQ bl0 (xQ D dA C d j none C (stD C t d) (stJ C t d j)) ([.ref (jA j 0), .double t] : List Value).toArray s0 0 0 (xA dA C d j)) (F0 mid 115 ls []) := by
  have hx := S.1; have hb := S.2.1; have hml := S.2.2.1; have hown := S.2.2.2.1; have hts := S.2.2.2.2; have hN := hC.n
  have p2k : spOK C (dAI d 10) d j (rb_ C t d) jn := sp_3 p2
  have r2k : tiR C (rb_ C t d) jn 2 56 57 := tiR_mv (kp3_D (by decide)) (kp3_F (by decide)) (fun _ => rfl) (fun _ => rfl) r2
  have r2c_ : tiR C (rb_ C t d) jn 2 48 52 := kp_c3 r2
  have r2d : tiR C (rb_ C t d) jn 1 47 51 := tiR_mv (kp3_D (by decide)) (kp3_F (by decide)) (fun _ => rfl) (fun _ => rfl) r2d0
  have r2e : tiR C (rb_ C t d) jn 0 46 50 := tiR_mv (kp3_D (by decide)) (kp3_F (by decide)) (fun _ => rfl) (fun _ => rfl) r2e0
  have z2 : zgOK C 46 50 (rb_ C t d) := zg_mv (show zgOK C 46 50 (rateD C (se2 C t d)) from zg_sr (t := hf_ t) (by decide) (by decide) (by decide) (by decide) (by decide) (by decide) z1) (kp3_D (by decide)) (kp3_F (by decide))
  have z2b : zgOK C 47 51 (rb_ C t d) := zg_mv (show zgOK C 47 51 (rateD C (se2 C t d)) from zg_sr (t := hf_ t) (by decide) (by decide) (by decide) (by decide) (by decide) (by decide) z1b) (kp3_D (by decide)) (kp3_F (by decide))
  have z2c : zgOK C 48 52 (rb_ C t d) := zg_kp3 p2.2.2.2.1.z
  obtain ⟨p3, r3, i4⟩ : spOK C (dAI d 10) d j (rateD C (se3 C t d)) (rtJ C (se3 C t d) 3 jn (cN C)) ∧ tiR C (rateD C (se3 C t d)) (rtJ C (se3 C t d) 3 jn (cN C)) 3 56 57 ∧ iOK C (dAI d 10) (se3 C t d) := sp_s hC hV hA ht 3 p2k
  have r3a : tiR C (rateD C (se3 C t d)) (rtJ C (se3 C t d) 3 jn (cN C)) 0 46 50 := sp_R (t := t) (i := 3) (by decide) (by decide) (by decide) (by decide) (by decide) (by decide) (by decide) r2e
  have r3b : tiR C (rateD C (se3 C t d)) (rtJ C (se3 C t d) 3 jn (cN C)) 1 47 51 := sp_R (t := t) (i := 3) (by decide) (by decide) (by decide) (by decide) (by decide) (by decide) (by decide) r2d
  have r3c : tiR C (rateD C (se3 C t d)) (rtJ C (se3 C t d) 3 jn (cN C)) 2 48 52 := sp_R (t := t) (i := 3) (by decide) (by decide) (by decide) (by decide) (by decide) (by decide) (by decide) r2c_
  have z3 : zgOK C 46 50 (rateD C (se3 C t d)) := zg_sr (t := t) (by decide) (by decide) (by decide) (by decide) (by decide) (by decide) z2
  have z3b : zgOK C 47 51 (rateD C (se3 C t d)) := zg_sr (t := t) (by decide) (by decide) (by decide) (by decide) (by decide) (by decide) z2b
  have z3c : zgOK C 48 52 (rateD C (se3 C t d)) := zg_sr (t := t) (by decide) (by decide) (by decide) (by decide) (by decide) (by decide) z2c
  refine lv_aload_n hx hb dX0_step_115 rfl (lv_at hl 1 rfl) ?_
  refine lv_iconst (v := nI 2) hx hb dX0_step_116 (by decide) ?_
  refine lv_dload_n hx hb dX0_step_117 rfl (lv_at hl 0 rfl) ?_
  refine xx_callP (j := jn) (As := [.int (nI 2), .double t]) (rest := []) S G (xt_X0_stage l D dA C (rb_ C t d) jn 2 t hC (by omega) hV p2k.2.2.2.1.r hA (jOK_mv p2k.2.2.2.2.2.2.2.1 p2k.2.2.2.2.2.2.2.2.1 (fun m k => (p2k.2.2.2.2.2.2.1 m k).1) (fun m k => (p2k.2.2.2.2.2.2.1 m k).2) hJ) (by rw [p2k.2.2.2.1.l]; exact hOn) p2k.1 r2k (gr_of p2k.2.2.2.1.f p2k.1 p2k.2.2.1) (q_of p2k.2.2.2.1.f p2k.2.2.2.2.1) ht (by rw [p2k.2.2.2.2.2.1]; exact h44)) q1082 q1084 qs12 q1085 hd_X0_stage ⟨Nat.le_of_ble_eq_true rfl, Nat.le_of_ble_eq_true rfl⟩ rfl hl.1 rfl (Nat.le_of_ble_eq_true rfl) dX0_step_118 ⟨Nat.zero_le _, Nat.zero_le _⟩ (fun H locs G => ?_)
  refine W.eq (g2 := F0 mid 121 ls []) rfl ?_
  have G : xG D dA (xA dA C d j) C (se3 C t d) (jn) s0 H locs := G
  refine lv_aload_n hx hb dX0_step_121 rfl (lv_at hl 1 rfl) ?_
  refine lv_iconst (v := nI 3) hx hb dX0_step_122 (by decide) ?_
  refine xx_callP (j := jn) (As := [.int (nI 3)]) (rest := []) S G (xt_X0_rates l D dA C (se3 C t d) jn 3 hC (by omega) i4.r) q1068 q1070 qs11 q1071 hd_X0_rates ⟨Nat.le_of_ble_eq_true rfl, Nat.le_of_ble_eq_true rfl⟩ rfl hl.1 rfl (Nat.le_of_ble_eq_true rfl) dX0_step_123 ⟨Nat.zero_le _, Nat.zero_le _⟩ (fun H locs G => ?_)
  refine W.eq (g2 := F0 mid 126 ls []) rfl ?_
  have G : xG D dA (xA dA C d j) C (sd2 C t d) (rtJ C (se3 C t d) 3 jn (cN C)) s0 H locs := xG_d (xL_v ((vw_c2 _ _).trans (vw_rate _ _)).symm) G
  exact xt_X0_step_T2 l D dA C d j t hC hV hA hDl hI ht ht2 hh hJ hO h44 hw hDj hDn hap h11 p0 e0 s0 mid bl0 me0 co0 S hr hlk (sd2 C t d) (rtJ C (se3 C t d) 3 jn (cN C)) hru (lp_2 p3 z3 z3b z3c) (go_2 p3.1 r3 r3a r3b r3c) (gbX_2 hru) hDj' hDk hOn hfin _ _ ls G (lv_sub hl [0, 1] rfl)
theorem xt_X0_step_R2 (l : Launch) (D : va_G) (dA : Nat → ClassId) (C : tp_C) (d : md_T) (j : xj_T) (t : UInt64) (hC : mOK C) (hV : vOK C) (hA : aOK C) (hDl : dlOK C) (hI : iOK C (dAI d 10) d) (ht : tOK t) (ht2 : tOK (hf_ t)) (hh : FP.fdiv (FP.d2f t) FP.fconst2 = FP.d2f (hf_ t)) (hJ : jOK C d j) (hO : orOK C (dAI d 10) j) (h44 : dI d 44 = dI d 12 + nI 1) (hw : wrOK j) (hDj : ∀ m, m < cN C → cK C m = 11 → jDn j m = some (dlN C m) ∧ 1 ≤ dlN C m ∧ dlN C m ≤ 16) (hDn : dnOK j) (hap : apOK d) (h11 : ∀ m, cK C m = 11 → m < cN C) (p0 : Program) (e0 : Env) (s0 : State) (mid : MethodId) (bl0 : List Frame) (me0 : Method) (co0 : Code) (S : CallFix p0 mid co0 cX0_step 5 s0 ([.ref (jA j 0), .double t] : List Value).toArray lw_all RX0) (hr : me0.sig.returnType = none) (hlk : me0.locks = false) (jn : xj_T) (hru : cR C = 2) (p1 : spOK C (dAI d 10) d j (rateD C (se1 C t d)) jn) (r1 : tiR C (rateD C (se1 C t d)) jn 1 56 57) (r1b : tiR C (rateD C (se1 C t d)) jn 0 46 50) (hDj' : ∀ m, m < cN C → cK C m = 11 → jDn jn m = some (dlN C m) ∧ 1 ≤ dlN C m ∧ dlN C m ≤ 16) (hDk : dnOK jn) (hOn : orOK C (dAI d 10) jn) (hfin : fbJ C t (sd2 C t d) (rtJ C (se3 C t d) 3 (rtJ C (se2 C t d) 2 jn (cN C)) (cN C)) (cN C) = stJ C t d j) (H : Heap) (locs : List Loc) (ls : Array Slot) (G : xG D dA (xA dA C d j) C (ra_ C t d) jn s0 H locs) (hl : lv_has ls 5 [(1, .double t), (0, .ref (jA jn 0))]) : W p0 l e0 (rm_ 9) s0 mid ([.ref (jA j 0), .double t] : List Value).toArray bl0 me0 co0 H locs 0 0 (MQ bl0 (xQ D dA C d j none C (stD C t d) (stJ C t d j)) ([.ref (jA j 0), .double t] : List Value).toArray s0 0 0 (xA dA C d j)) (F0 mid 100 ls []) := by
  have hx := S.1; have hb := S.2.1; have hml := S.2.2.1; have hown := S.2.2.2.1; have hts := S.2.2.2.2; have hN := hC.n
  have p1k : spOK C (dAI d 10) d j (ra_ C t d) jn := sp_2 p1
  have r1k : tiR C (ra_ C t d) jn 1 56 57 := tiR_mv (kp2_D (by decide)) (kp2_F (by decide)) (fun _ => rfl) (fun _ => rfl) r1
  have r1c : tiR C (ra_ C t d) jn 1 47 51 := kp_c2 r1
  have r1d : tiR C (ra_ C t d) jn 0 46 50 := tiR_mv (kp2_D (by decide)) (kp2_F (by decide)) (fun _ => rfl) (fun _ => rfl) r1b
  have z1 : zgOK C 46 50 (ra_ C t d) := zg_mv (show zgOK C 46 50 (rateD C (se1 C t d)) from zg_sr (t := hf_ t) (by decide) (by decide) (by decide) (by decide) (by decide) (by decide) (iOK_s1 hI).2.2) (kp2_D (by decide)) (kp2_F (by decide))
  have z1b : zgOK C 47 51 (ra_ C t d) := zg_kp2 p1.2.2.2.1.z
  obtain ⟨p2, r2, i3⟩ : spOK C (dAI d 10) d j (rateD C (se2 C t d)) (rtJ C (se2 C t d) 2 jn (cN C)) ∧ tiR C (rateD C (se2 C t d)) (rtJ C (se2 C t d) 2 jn (cN C)) 2 56 57 ∧ iOK C (dAI d 10) (se2 C t d) := sp_s hC hV hA ht2 2 p1k
  have r2d0 : tiR C (rateD C (se2 C t d)) (rtJ C (se2 C t d) 2 jn (cN C)) 1 47 51 := sp_R (t := hf_ t) (i := 2) (by decide) (by decide) (by decide) (by decide) (by decide) (by decide) (by decide) r1c
  have r2e0 : tiR C (rateD C (se2 C t d)) (rtJ C (se2 C t d) 2 jn (cN C)) 0 46 50 := sp_R (t := hf_ t) (i := 2) (by decide) (by decide) (by decide) (by decide) (by decide) (by decide) (by decide) r1d
  refine lv_aload_n hx hb dX0_step_100 rfl (lv_at hl 1 rfl) ?_
  refine lv_iconst (v := nI 1) hx hb dX0_step_101 (by decide) ?_
  refine lv_dload_n hx hb dX0_step_102 rfl (lv_at hl 0 rfl) ?_
  refine lv_ldc2d hx hb hown (hts _ q1021) dX0_step_103 ?_
  refine lv_ddiv hx hb dX0_step_106 (bD_n ht2.2.2) ?_
  refine w_st (st' := [.double (hf_ t), .int (nI 1), .ref (jA jn 0)]) (by rfl) ?_
  refine xx_callP (j := jn) (As := [.int (nI 1), .double (hf_ t)]) (rest := []) S G (xt_X0_stage l D dA C (ra_ C t d) jn 1 (hf_ t) hC (by omega) hV p1k.2.2.2.1.r hA (jOK_mv p1k.2.2.2.2.2.2.2.1 p1k.2.2.2.2.2.2.2.2.1 (fun m k => (p1k.2.2.2.2.2.2.1 m k).1) (fun m k => (p1k.2.2.2.2.2.2.1 m k).2) hJ) (by rw [p1k.2.2.2.1.l]; exact hOn) p1k.1 r1k (gr_of p1k.2.2.2.1.f p1k.1 p1k.2.2.1) (q_of p1k.2.2.2.1.f p1k.2.2.2.2.1) ht2 (by rw [p1k.2.2.2.2.2.1]; exact h44)) q1082 q1084 qs12 q1085 hd_X0_stage ⟨Nat.le_of_ble_eq_true rfl, Nat.le_of_ble_eq_true rfl⟩ rfl hl.1 rfl (Nat.le_of_ble_eq_true rfl) dX0_step_107 ⟨Nat.zero_le _, Nat.zero_le _⟩ (fun H locs G => ?_)
  refine W.eq (g2 := F0 mid 110 ls []) rfl ?_
  have G : xG D dA (xA dA C d j) C (se2 C t d) (jn) s0 H locs := G
  refine lv_aload_n hx hb dX0_step_110 rfl (lv_at hl 1 rfl) ?_
  refine lv_iconst (v := nI 2) hx hb dX0_step_111 (by decide) ?_
  refine xx_callP (j := jn) (As := [.int (nI 2)]) (rest := []) S G (xt_X0_rates l D dA C (se2 C t d) jn 2 hC (by omega) i3.r) q1068 q1070 qs11 q1071 hd_X0_rates ⟨Nat.le_of_ble_eq_true rfl, Nat.le_of_ble_eq_true rfl⟩ rfl hl.1 rfl (Nat.le_of_ble_eq_true rfl) dX0_step_112 ⟨Nat.zero_le _, Nat.zero_le _⟩ (fun H locs G => ?_)
  refine W.eq (g2 := F0 mid 115 ls []) rfl ?_
  have G : xG D dA (xA dA C d j) C (rb_ C t d) (rtJ C (se2 C t d) 2 jn (cN C)) s0 H locs := xG_d (xL_v ((vw_kp3 _ _).trans (vw_rate _ _)).symm) G
  exact xt_X0_step_R3 l D dA C d j t hC hV hA hDl hI ht ht2 hh hJ hO h44 hw hDj hDn hap h11 p0 e0 s0 mid bl0 me0 co0 S hr hlk (rtJ C (se2 C t d) 2 jn (cN C)) hru p2 r2 r2d0 r2e0 z1 z1b hDj' hDk hOn hfin _ _ ls G (lv_sub hl [0, 1] rfl)
theorem xt_X0_step (l : Launch) (D : va_G) (dA : Nat → ClassId) (C : tp_C) (d : md_T) (j : xj_T) (t : UInt64) (hC : mOK C) (hV : vOK C) (hA : aOK C) (hDl : dlOK C) (hI : iOK C (dAI d 10) d) (ht : tOK t) (ht2 : tOK (hf_ t)) (hh : FP.fdiv (FP.d2f t) FP.fconst2 = FP.d2f (hf_ t)) (hJ : jOK C d j) (hO : orOK C (dAI d 10) j) (h44 : dI d 44 = dI d 12 + nI 1) (hw : wrOK j) (hDj : ∀ m, m < cN C → cK C m = 11 → jDn j m = some (dlN C m) ∧ 1 ≤ dlN C m ∧ dlN C m ≤ 16) (hDn : dnOK j) (hap : apOK d) (h11 : ∀ m, cK C m = 11 → m < cN C) : xC l D dA yX0_step cX0_step 5 none 9 [.ref (jA j 0), .double t] C d j none C (stD C t d) (stJ C t d j) := by
  refine xx_start (own := RX0) (by decide) rfl (Nat.le_of_ble_eq_true rfl) ?_
  intro p0 e0 s0 mid bl0 me0 co0 ls S hr hlk G hl
  have hx := S.1; have hb := S.2.1; have hml := S.2.2.1; have hown := S.2.2.2.1; have hts := S.2.2.2.2; have hN := hC.n
  have hl : lv_has ls 5 [(0, .ref (jA j 0)), (1, .double t)] := hl
  have hR := hI.r
  have hCr := hC.r
  obtain ⟨pz, r0, r0b⟩ := sp_0 hI hw
  have z0 := (iOK_s1 hI).2.2
  have iX : iOK C (dAI d 10) (otD C (ruD C t (s1D C d))) := iOK_otN (iOK_ru hC hV hA ht ht2 pz.2.2.2.1 pz.2.2.2.2.1 z0) (cN C)
  have iY : iOK C (dAI d 10) (raD C (tmU (otD C (ruD C t (s1D C d))))) := iOK_ra hC hV hA (iOK_tm iX)
  have L1 : ∀ (n_ m : Nat), m ≤ cN C → cN C < m + n_ → ∀ (H : Heap) (locs : List Loc) (ls : Array Slot), xG D dA (xA dA C d j) C d (t1J C d j m) s0 H locs → lv_has ls 5 [(3, .int (nI m)), (1, .double t), (0, .ref (jA j 0))] → (∀ (H : Heap) (locs : List Loc) (ls : Array Slot), xG D dA (xA dA C d j) C d (t1J C d j (cN C)) s0 H locs → lv_has ls 5 [(3, .int (nI (cN C))), (1, .double t), (0, .ref (jA j 0))] → W p0 l e0 (rm_ 9) s0 mid ([.ref (jA j 0), .double t] : List Value).toArray bl0 me0 co0 H locs 0 0 (MQ bl0 (xQ D dA C d j none C (stD C t d) (stJ C t d j)) ([.ref (jA j 0), .double t] : List Value).toArray s0 0 0 (xA dA C d j)) (F0 mid 50 ls [])) → W p0 l e0 (rm_ 9) s0 mid ([.ref (jA j 0), .double t] : List Value).toArray bl0 me0 co0 H locs 0 0 (MQ bl0 (xQ D dA C d j none C (stD C t d) (stJ C t d j)) ([.ref (jA j 0), .double t] : List Value).toArray s0 0 0 (xA dA C d j)) (F0 mid 2 ls []) := by
    intro n_
    induction n_ with
    | zero => intro m h1_ h2_; exact absurd h2_ (by omega)
    | succ n_ ih =>
      intro m h1_ h2_ H locs ls G hl kk
      have hk14 := hC.k m
      refine lv_iload_n hx hb dX0_step_2 rfl (lv_at hl 0 rfl) ?_
      refine lv_aload_n hx hb dX0_step_3 rfl (lv_at hl 2 rfl) ?_
      refine xx_getP (j := (t1J C d j m)) S G 1 (by decide) q90 rfl (v := .int (nI (cN C))) rfl dX0_step_4 ?_
      refine nn_cge (tgt := 50) hx hb (by omega) (by omega) dX0_step_7 (by decide) (fun c_7 => ?_) (fun c_7 => ?_)
      · have hiN : m = cN C := by omega
        subst hiN
        exact kk H locs ls G (lv_sub hl [0, 1, 2] rfl)
      · refine lv_aload_n hx hb dX0_step_10 rfl (lv_at hl 2 rfl) ?_
        refine xx_getP (j := (t1J C d j m)) S G 0 (by decide) q89 rfl (v := .ref (jA j 1)) rfl dX0_step_11 ?_
        refine lv_iload_n hx hb dX0_step_14 rfl (lv_at hl 0 rfl) ?_
        refine xx_aald (j := (t1J C d j m)) S G (r := 1) (by decide) (xW_p (by decide) rfl) (i := m) (by omega) (by decide) (o := some (jA j (xr m 0))) (if_pos (by omega)) dX0_step_15 ?_
        refine W.eq (g2 := F0 mid 16 ls [.ref (jA j (xr m 0))]) rfl ?_
        refine xo_take (j := (t1J C d j m)) (mm := m) (rest := []) S G hC (by omega) (hA m (by omega)) ⟨Nat.le_of_ble_eq_true rfl, Nat.le_of_ble_eq_true rfl⟩ ⟨Nat.zero_le _, Nat.zero_le _⟩ hl.1 (Nat.le_of_ble_eq_true rfl) dX0_step_16 (fun H locs G => ?_)
        refine W.eq (g2 := F0 mid 19 ls []) rfl ?_
        by_cases hk2 : cK C m = 2
        · have G := xG_d (xL_e rfl rfl (tkJ_2 C d (t1J C d j m) m hk2)) G
          refine lv_aload_n hx hb dX0_step_19 rfl (lv_at hl 2 rfl) ?_
          refine xx_getP (j := (t1J C d j m)) S G 0 (by decide) q89 rfl (v := .ref (jA j 1)) rfl dX0_step_20 ?_
          refine lv_iload_n hx hb dX0_step_23 rfl (lv_at hl 0 rfl) ?_
          refine xx_aald (j := (t1J C d j m)) S G (r := 1) (by decide) (xW_p (by decide) rfl) (i := m) (by omega) (by decide) (o := some (jA j (xr m 0))) (if_pos (by omega)) dX0_step_24 ?_
          refine W.eq (g2 := F0 mid 25 ls [.ref (jA j (xr m 0))]) rfl ?_
          refine xx_get11 (j := (t1J C d j m)) S G (mm := m) (by omega) hN (hC.k _) 0 (by decide) q203 rfl (v := .int (nI (cK C m))) rfl dX0_step_25 ?_
          refine lv_iconst (v := nI 2) hx hb dX0_step_28 (by decide) ?_
          refine nn_cne (tgt := 44) hx hb (by omega) (by omega) dX0_step_29 (by decide) (fun c_29 => by exfalso; exact c_29 hk2) (fun c_29 => ?_)
          refine lv_aload_n hx hb dX0_step_32 rfl (lv_at hl 2 rfl) ?_
          refine xx_getP (j := (t1J C d j m)) S G 0 (by decide) q89 rfl (v := .ref (jA j 1)) rfl dX0_step_33 ?_
          refine lv_iload_n hx hb dX0_step_36 rfl (lv_at hl 0 rfl) ?_
          refine xx_aald (j := (t1J C d j m)) S G (r := 1) (by decide) (xW_p (by decide) rfl) (i := m) (by omega) (by decide) (o := some (jA j (xr m 0))) (if_pos (by omega)) dX0_step_37 ?_
          refine W.eq (g2 := F0 mid 38 ls [.ref (jA j (xr m 0))]) rfl ?_
          refine xx_cast (j := (t1J C d j m)) S G (mm := m) (by omega) hN (hC.k _) (by rw [hk2]; exact q275) dX0_step_38 ?_
          refine xx_callK (j := (t1J C d j m)) (mm := m) (As := []) (rest := []) S G (by omega) hN hk2 (by decide) (xt_X6_open l D dA C d (t1J C d j m) m hC (by omega) hk2) q1064 q1065 q1066 q62 q1067 hd_X6_open ⟨Nat.le_of_ble_eq_true rfl, Nat.le_of_ble_eq_true rfl⟩ rfl hl.1 rfl (Nat.le_of_ble_eq_true rfl) dX0_step_41 ⟨Nat.zero_le _, Nat.zero_le _⟩ (fun H locs G => ?_)
          refine W.eq (g2 := F0 mid 44 ls []) rfl ?_
          refine lv_iinc (v := nI (m + 1)) (lv' := [(3, .int (nI (m + 1))), (1, .double t), (0, .ref (jA j 0))]) hx hb dX0_step_44 hl (k := 0) rfl (nI_1 _) (by decide) rfl (fun ls hl => ?_)
          refine lv_goto (tgt := 2) hx hb dX0_step_47 (by decide) ?_
          exact ih (m + 1) (by omega) (by omega) H locs ls (xG_d (by exact xL_e rfl rfl (t1J_2 C d j m hk2)) G) (lv_sub hl [0, 1, 2] rfl) kk
        · have G := xG_d (xL_e rfl rfl (t1J_n C d j m hk2)) G
          refine lv_aload_n hx hb dX0_step_19 rfl (lv_at hl 2 rfl) ?_
          refine xx_getP (j := (t1J C d j (m + 1))) S G 0 (by decide) q89 rfl (v := .ref (jA j 1)) rfl dX0_step_20 ?_
          refine lv_iload_n hx hb dX0_step_23 rfl (lv_at hl 0 rfl) ?_
          refine xx_aald (j := (t1J C d j (m + 1))) S G (r := 1) (by decide) (xW_p (by decide) rfl) (i := m) (by omega) (by decide) (o := some (jA j (xr m 0))) (if_pos (by omega)) dX0_step_24 ?_
          refine W.eq (g2 := F0 mid 25 ls [.ref (jA j (xr m 0))]) rfl ?_
          refine xx_get11 (j := (t1J C d j (m + 1))) S G (mm := m) (by omega) hN (hC.k _) 0 (by decide) q203 rfl (v := .int (nI (cK C m))) rfl dX0_step_25 ?_
          refine lv_iconst (v := nI 2) hx hb dX0_step_28 (by decide) ?_
          refine nn_cne (tgt := 44) hx hb (by omega) (by omega) dX0_step_29 (by decide) (fun c_29 => ?_) (fun c_29 => by exfalso; exact hk2 c_29)
          refine lv_iinc (v := nI (m + 1)) (lv' := [(3, .int (nI (m + 1))), (1, .double t), (0, .ref (jA j 0))]) hx hb dX0_step_44 hl (k := 0) rfl (nI_1 _) (by decide) rfl (fun ls hl => ?_)
          refine lv_goto (tgt := 2) hx hb dX0_step_47 (by decide) ?_
          exact ih (m + 1) (by omega) (by omega) H locs ls G (lv_sub hl [0, 1, 2] rfl) kk
  refine lv_iconst (v := nI 0) hx hb dX0_step_0 (by decide) ?_
  refine lv_istore_n (lv' := [(3, .int (nI 0)), (0, .ref (jA j 0)), (1, .double t)]) hx hb dX0_step_1 rfl hl (by decide) rfl (fun ls hl => ?_)
  refine L1 (cN C + 1) 0 (by omega) (by omega) _ _ ls (xG_d (by exact xL_e rfl rfl (t1J_0 C d j)) G) (lv_sub hl [0, 2, 1] rfl) (fun H locs ls G hl => ?_)
  refine lv_aload_n hx hb dX0_step_50 rfl (lv_at hl 2 rfl) ?_
  refine lv_iconst (v := nI 0) hx hb dX0_step_51 (by decide) ?_
  refine xx_callP (j := (t1J C d j (cN C))) (As := [.int (nI 0)]) (rest := []) S G (xt_X0_rates l D dA C d (t1J C d j (cN C)) 0 hC (by omega) hR) q1068 q1070 qs11 q1071 hd_X0_rates ⟨Nat.le_of_ble_eq_true rfl, Nat.le_of_ble_eq_true rfl⟩ rfl hl.1 rfl (Nat.le_of_ble_eq_true rfl) dX0_step_52 ⟨Nat.zero_le _, Nat.zero_le _⟩ (fun H locs G => ?_)
  refine W.eq (g2 := F0 mid 55 ls []) rfl ?_
  have G : xG D dA (xA dA C d j) C (s1D C d) (sj0 C d j) s0 H locs := xG_d (xL_v (vw_s1 C d).symm) G
  generalize hg_j1 : sj0 C d j = j1 at G pz r0 r0b
  have hA_j1 : jA j1 = jA j := by rw [← hg_j1]; rfl
  have hDn_j1 : jDn j1 = jDn j := by rw [← hg_j1]; rfl
  have hOd_j1 : jOd j1 = jOd j := by rw [← hg_j1]; rfl
  have hO_j1 : orOK C (dAI d 10) j1 := by unfold orOK; rw [hOd_j1]; exact hO
  have hDk_j1 : dnOK j1 := by unfold dnOK; rw [hDn_j1]; exact hDn
  have hDj_j1 : ∀ m, m < cN C → cK C m = 11 → jDn j1 m = some (dlN C m) ∧ 1 ≤ dlN C m ∧ dlN C m ≤ 16 := by rw [hDn_j1]; exact hDj
  rw [← hA_j1] at hl
  refine lv_aload_n hx hb dX0_step_55 rfl (lv_at hl 2 rfl) ?_
  refine xx_getP (j := j1) S G 3 (by decide) q92 rfl (v := .int (nI (cR C))) rfl dX0_step_56 ?_
  refine lv_iconst (v := nI 1) hx hb dX0_step_59 (by decide) ?_
  refine nn_cne (tgt := 77) hx hb (by omega) (by omega) dX0_step_60 (by decide) (fun c_60 => ?_) (fun c_60 => ?_)
  · refine lv_aload_n hx hb dX0_step_77 rfl (lv_at hl 2 rfl) ?_
    refine xx_getP (j := j1) S G 3 (by decide) q92 rfl (v := .int (nI (cR C))) rfl dX0_step_78 ?_
    refine lv_iconst (v := nI 2) hx hb dX0_step_81 (by decide) ?_
    refine nn_cne (tgt := 126) hx hb (by omega) (by omega) dX0_step_82 (by decide) (fun c_82 => ?_) (fun c_82 => ?_)
    · have hru : cR C = 0 := by omega
      exact xt_X0_step_T0 l D dA C d j t hC hV hA hDl hI ht ht2 hh hJ hO h44 hw hDj hDn hap h11 p0 e0 s0 mid bl0 me0 co0 S hr hlk (s1D C d) j1 hru (lp_sp pz) (go_0 pz.1 r0) (gbX_0 hru) hDj_j1 hDk_j1 hO_j1 (by rw [← hg_j1]; exact stJ_0 hru) _ _ ls G (lv_sub hl [1, 2] rfl)
    · obtain ⟨p1, r1, i2⟩ : spOK C (dAI d 10) d j (rateD C (se1 C t d)) (rtJ C (se1 C t d) 1 j1 (cN C)) ∧ tiR C (rateD C (se1 C t d)) (rtJ C (se1 C t d) 1 j1 (cN C)) 1 56 57 ∧ iOK C (dAI d 10) (se1 C t d) := sp_s hC hV hA ht2 1 pz
      have r1b : tiR C (rateD C (se1 C t d)) (rtJ C (se1 C t d) 1 j1 (cN C)) 0 46 50 := sp_R (t := hf_ t) (i := 1) (by decide) (by decide) (by decide) (by decide) (by decide) (by decide) (by decide) r0b
      refine lv_aload_n hx hb dX0_step_85 rfl (lv_at hl 2 rfl) ?_
      refine lv_iconst (v := nI 0) hx hb dX0_step_86 (by decide) ?_
      refine lv_dload_n hx hb dX0_step_87 rfl (lv_at hl 1 rfl) ?_
      refine lv_ldc2d hx hb hown (hts _ q1021) dX0_step_88 ?_
      refine lv_ddiv hx hb dX0_step_91 (bD_n ht2.2.2) ?_
      refine w_st (st' := [.double (hf_ t), .int (nI 0), .ref (jA j1 0)]) (by rfl) ?_
      refine xx_callP (j := j1) (As := [.int (nI 0), .double (hf_ t)]) (rest := []) S G (xt_X0_stage l D dA C (s1D C d) j1 0 (hf_ t) hC (by omega) hV pz.2.2.2.1.r hA (jOK_mv pz.2.2.2.2.2.2.2.1 pz.2.2.2.2.2.2.2.2.1 (fun m k => (pz.2.2.2.2.2.2.1 m k).1) (fun m k => (pz.2.2.2.2.2.2.1 m k).2) hJ) (by rw [pz.2.2.2.1.l]; exact hO_j1) pz.1 r0 (gr_of pz.2.2.2.1.f pz.1 pz.2.2.1) (q_of pz.2.2.2.1.f pz.2.2.2.2.1) ht2 (by rw [pz.2.2.2.2.2.1]; exact h44)) q1082 q1084 qs12 q1085 hd_X0_stage ⟨Nat.le_of_ble_eq_true rfl, Nat.le_of_ble_eq_true rfl⟩ rfl hl.1 rfl (Nat.le_of_ble_eq_true rfl) dX0_step_92 ⟨Nat.zero_le _, Nat.zero_le _⟩ (fun H locs G => ?_)
      refine W.eq (g2 := F0 mid 95 ls []) rfl ?_
      have G : xG D dA (xA dA C d j) C (se1 C t d) (j1) s0 H locs := G
      refine lv_aload_n hx hb dX0_step_95 rfl (lv_at hl 2 rfl) ?_
      refine lv_iconst (v := nI 1) hx hb dX0_step_96 (by decide) ?_
      refine xx_callP (j := j1) (As := [.int (nI 1)]) (rest := []) S G (xt_X0_rates l D dA C (se1 C t d) j1 1 hC (by omega) i2.r) q1068 q1070 qs11 q1071 hd_X0_rates ⟨Nat.le_of_ble_eq_true rfl, Nat.le_of_ble_eq_true rfl⟩ rfl hl.1 rfl (Nat.le_of_ble_eq_true rfl) dX0_step_97 ⟨Nat.zero_le _, Nat.zero_le _⟩ (fun H locs G => ?_)
      refine W.eq (g2 := F0 mid 100 ls []) rfl ?_
      have hru : cR C = 2 := c_82
      have G : xG D dA (xA dA C d j) C (ra_ C t d) (rtJ C (se1 C t d) 1 j1 (cN C)) s0 H locs := xG_d (xL_v ((vw_kp2 _ _).trans (vw_rate _ _)).symm) G
      exact xt_X0_step_R2 l D dA C d j t hC hV hA hDl hI ht ht2 hh hJ hO h44 hw hDj hDn hap h11 p0 e0 s0 mid bl0 me0 co0 S hr hlk (rtJ C (se1 C t d) 1 j1 (cN C)) hru p1 r1 r1b hDj_j1 hDk_j1 hO_j1 (by rw [← hg_j1]; exact stJ_2 hru) _ _ ls G (lv_sub hl [1, 2] rfl)
  · obtain ⟨q1, s1, i1⟩ := sp_s hC hV hA ht 1 pz
    have s1b := sp_R (t := t) (i := 1) (by decide) (by decide) (by decide) (by decide) (by decide) (by decide) (by decide) r0b
    refine lv_aload_n hx hb dX0_step_63 rfl (lv_at hl 2 rfl) ?_
    refine lv_iconst (v := nI 0) hx hb dX0_step_64 (by decide) ?_
    refine lv_dload_n hx hb dX0_step_65 rfl (lv_at hl 1 rfl) ?_
    refine xx_callP (j := j1) (As := [.int (nI 0), .double t]) (rest := []) S G (xt_X0_stage l D dA C (s1D C d) j1 0 t hC (by omega) hV pz.2.2.2.1.r hA (jOK_mv pz.2.2.2.2.2.2.2.1 pz.2.2.2.2.2.2.2.2.1 (fun m k => (pz.2.2.2.2.2.2.1 m k).1) (fun m k => (pz.2.2.2.2.2.2.1 m k).2) hJ) (by rw [pz.2.2.2.1.l]; exact hO_j1) pz.1 r0 (gr_of pz.2.2.2.1.f pz.1 pz.2.2.1) (q_of pz.2.2.2.1.f pz.2.2.2.2.1) ht (by rw [pz.2.2.2.2.2.1]; exact h44)) q1082 q1084 qs12 q1085 hd_X0_stage ⟨Nat.le_of_ble_eq_true rfl, Nat.le_of_ble_eq_true rfl⟩ rfl hl.1 rfl (Nat.le_of_ble_eq_true rfl) dX0_step_66 ⟨Nat.zero_le _, Nat.zero_le _⟩ (fun H locs G => ?_)
    refine W.eq (g2 := F0 mid 69 ls []) rfl ?_
    refine lv_aload_n hx hb dX0_step_69 rfl (lv_at hl 2 rfl) ?_
    refine lv_iconst (v := nI 1) hx hb dX0_step_70 (by decide) ?_
    refine xx_callP (j := j1) (As := [.int (nI 1)]) (rest := []) S G (xt_X0_rates l D dA C (raD C (sgA C t (s1D C d))) j1 1 hC (by omega) i1.r) q1068 q1070 qs11 q1071 hd_X0_rates ⟨Nat.le_of_ble_eq_true rfl, Nat.le_of_ble_eq_true rfl⟩ rfl hl.1 rfl (Nat.le_of_ble_eq_true rfl) dX0_step_71 ⟨Nat.zero_le _, Nat.zero_le _⟩ (fun H locs G => ?_)
    refine W.eq (g2 := F0 mid 74 ls []) rfl ?_
    have G : xG D dA (xA dA C d j) C (sd1 C t d) (rtJ C (raD C (sgA C t (s1D C d))) 1 j1 (cN C)) s0 H locs := xG_d (xL_v ((vw_c1 _ _).trans (vw_rate _ _)).symm) G
    generalize hg_j2 : rtJ C (raD C (sgA C t (s1D C d))) 1 j1 (cN C) = j2 at G q1 s1 s1b
    have hA_j2 : jA j2 = jA j1 := by rw [← hg_j2]; rfl
    have hDn_j2 : jDn j2 = jDn j1 := by rw [← hg_j2]; rfl
    have hOd_j2 : jOd j2 = jOd j1 := by rw [← hg_j2]; rfl
    have hO_j2 : orOK C (dAI d 10) j2 := by unfold orOK; rw [hOd_j2]; exact hO_j1
    have hDk_j2 : dnOK j2 := by unfold dnOK; rw [hDn_j2]; exact hDk_j1
    have hDj_j2 : ∀ m, m < cN C → cK C m = 11 → jDn j2 m = some (dlN C m) ∧ 1 ≤ dlN C m ∧ dlN C m ≤ 16 := by rw [hDn_j2]; exact hDj_j1
    rw [← hA_j2] at hl
    refine lv_goto (tgt := 126) hx hb dX0_step_74 (by decide) ?_
    have hru : cR C = 1 := c_60
    exact xt_X0_step_T1 l D dA C d j t hC hV hA hDl hI ht ht2 hh hJ hO h44 hw hDj hDn hap h11 p0 e0 s0 mid bl0 me0 co0 S hr hlk (sd1 C t d) j2 hru (lp_1 q1 (zg_sr (by decide) (by decide) (by decide) (by decide) (by decide) (by decide) z0)) (go_1 hh q1.1 s1 s1b) (gbX_1 hru) hDj_j2 hDk_j2 hO_j2 (by rw [← hg_j2, ← hg_j1]; exact stJ_1 hru) _ _ ls G (lv_sub hl [1, 2] rfl)
