set_option maxRecDepth 100000
set_option maxHeartbeats 4000000
theorem dX0_sample_0 : decode cX0_sample 0 = .ok (.iconst 0, 1) := by decide +kernel
theorem dX0_sample_1 : decode cX0_sample 1 = .ok (.istore_n 1, 1) := by decide +kernel
theorem dX0_sample_2 : decode cX0_sample 2 = .ok (.iload_n 1, 1) := by decide +kernel
theorem dX0_sample_3 : decode cX0_sample 3 = .ok (.aload_n 0, 1) := by decide +kernel
theorem dX0_sample_4 : decode cX0_sample 4 = .ok (.getfield 249, 3) := by decide +kernel
theorem dX0_sample_7 : decode cX0_sample 7 = .ok (.if_icmp .ge 49, 3) := by decide +kernel
theorem dX0_sample_10 : decode cX0_sample 10 = .ok (.aload_n 0, 1) := by decide +kernel
theorem dX0_sample_11 : decode cX0_sample 11 = .ok (.getfield 67, 3) := by decide +kernel
theorem dX0_sample_14 : decode cX0_sample 14 = .ok (.bipush 120, 2) := by decide +kernel
theorem dX0_sample_16 : decode cX0_sample 16 = .ok (.iload_n 1, 1) := by decide +kernel
theorem dX0_sample_17 : decode cX0_sample 17 = .ok (.imul, 1) := by decide +kernel
theorem dX0_sample_18 : decode cX0_sample 18 = .ok (.aload_n 0, 1) := by decide +kernel
theorem dX0_sample_19 : decode cX0_sample 19 = .ok (.getfield 71, 3) := by decide +kernel
theorem dX0_sample_22 : decode cX0_sample 22 = .ok (.iload_n 1, 1) := by decide +kernel
theorem dX0_sample_23 : decode cX0_sample 23 = .ok (.iaload, 1) := by decide +kernel
theorem dX0_sample_24 : decode cX0_sample 24 = .ok (.iadd, 1) := by decide +kernel
theorem dX0_sample_25 : decode cX0_sample 25 = .ok (.aload_n 0, 1) := by decide +kernel
theorem dX0_sample_26 : decode cX0_sample 26 = .ok (.getfield 55, 3) := by decide +kernel
theorem dX0_sample_29 : decode cX0_sample 29 = .ok (.aload_n 0, 1) := by decide +kernel
theorem dX0_sample_30 : decode cX0_sample 30 = .ok (.getfield 63, 3) := by decide +kernel
theorem dX0_sample_33 : decode cX0_sample 33 = .ok (.iload_n 1, 1) := by decide +kernel
theorem dX0_sample_34 : decode cX0_sample 34 = .ok (.iaload, 1) := by decide +kernel
theorem dX0_sample_35 : decode cX0_sample 35 = .ok (.aaload, 1) := by decide +kernel
theorem dX0_sample_36 : decode cX0_sample 36 = .ok (.getfield 252, 3) := by decide +kernel
theorem dX0_sample_39 : decode cX0_sample 39 = .ok (.dastore, 1) := by decide +kernel
theorem dX0_sample_40 : decode cX0_sample 40 = .ok (.aload_n 0, 1) := by decide +kernel
theorem dX0_sample_41 : decode cX0_sample 41 = .ok (.getfield 71, 3) := by decide +kernel
theorem dX0_sample_44 : decode cX0_sample 44 = .ok (.iload_n 1, 1) := by decide +kernel
theorem dX0_sample_45 : decode cX0_sample 45 = .ok (.dup2, 1) := by decide +kernel
theorem dX0_sample_46 : decode cX0_sample 46 = .ok (.iaload, 1) := by decide +kernel
theorem dX0_sample_47 : decode cX0_sample 47 = .ok (.iconst 1, 1) := by decide +kernel
theorem dX0_sample_48 : decode cX0_sample 48 = .ok (.iadd, 1) := by decide +kernel
theorem dX0_sample_49 : decode cX0_sample 49 = .ok (.iastore, 1) := by decide +kernel
theorem dX0_sample_50 : decode cX0_sample 50 = .ok (.iinc 1 1, 3) := by decide +kernel
theorem dX0_sample_53 : decode cX0_sample 53 = .ok (.goto (-51), 3) := by decide +kernel
theorem dX0_sample_56 : decode cX0_sample 56 = .ok (.return_, 1) := by decide +kernel
theorem dX0_failing_0 : decode cX0_failing 0 = .ok (.iconst 0, 1) := by decide +kernel
theorem dX0_failing_1 : decode cX0_failing 1 = .ok (.istore_n 2, 1) := by decide +kernel
theorem dX0_failing_2 : decode cX0_failing 2 = .ok (.iload_n 2, 1) := by decide +kernel
theorem dX0_failing_3 : decode cX0_failing 3 = .ok (.aload_n 0, 1) := by decide +kernel
theorem dX0_failing_4 : decode cX0_failing 4 = .ok (.getfield 91, 3) := by decide +kernel
theorem dX0_failing_7 : decode cX0_failing 7 = .ok (.if_icmp .ge 22, 3) := by decide +kernel
theorem dX0_failing_10 : decode cX0_failing 10 = .ok (.aload_n 0, 1) := by decide +kernel
theorem dX0_failing_11 : decode cX0_failing 11 = .ok (.getfield 55, 3) := by decide +kernel
theorem dX0_failing_14 : decode cX0_failing 14 = .ok (.iload_n 2, 1) := by decide +kernel
theorem dX0_failing_15 : decode cX0_failing 15 = .ok (.aaload, 1) := by decide +kernel
theorem dX0_failing_16 : decode cX0_failing 16 = .ok (.getfield 267, 3) := by decide +kernel
theorem dX0_failing_19 : decode cX0_failing 19 = .ok (.iload_n 1, 1) := by decide +kernel
theorem dX0_failing_20 : decode cX0_failing 20 = .ok (.if_icmp .eq 9, 3) := by decide +kernel
theorem dX0_failing_23 : decode cX0_failing 23 = .ok (.iinc 2 1, 3) := by decide +kernel
theorem dX0_failing_26 : decode cX0_failing 26 = .ok (.goto (-24), 3) := by decide +kernel
theorem dX0_failing_29 : decode cX0_failing 29 = .ok (.iload_n 2, 1) := by decide +kernel
theorem dX0_failing_30 : decode cX0_failing 30 = .ok (.aload_n 0, 1) := by decide +kernel
theorem dX0_failing_31 : decode cX0_failing 31 = .ok (.getfield 91, 3) := by decide +kernel
theorem dX0_failing_34 : decode cX0_failing 34 = .ok (.if_icmp .ge 7, 3) := by decide +kernel
theorem dX0_failing_37 : decode cX0_failing 37 = .ok (.iload_n 2, 1) := by decide +kernel
theorem dX0_failing_38 : decode cX0_failing 38 = .ok (.goto 4, 3) := by decide +kernel
theorem dX0_failing_41 : decode cX0_failing 41 = .ok (.iconst (-1), 1) := by decide +kernel
theorem dX0_failing_42 : decode cX0_failing 42 = .ok (.ireturn, 1) := by decide +kernel
theorem dX0_digest_0 : decode cX0_digest 0 = .ok (.ldc2_w 342, 3) := by decide +kernel
theorem dX0_digest_3 : decode cX0_digest 3 = .ok (.aload_n 0, 1) := by decide +kernel
theorem dX0_digest_4 : decode cX0_digest 4 = .ok (.getfield 88, 3) := by decide +kernel
theorem dX0_digest_7 : decode cX0_digest 7 = .ok (.i2l, 1) := by decide +kernel
theorem dX0_digest_8 : decode cX0_digest 8 = .ok (.ladd, 1) := by decide +kernel
theorem dX0_digest_9 : decode cX0_digest 9 = .ok (.lstore_n 1, 1) := by decide +kernel
theorem dX0_digest_10 : decode cX0_digest 10 = .ok (.ldc2_w 344, 3) := by decide +kernel
theorem dX0_digest_13 : decode cX0_digest 13 = .ok (.lload_n 1, 1) := by decide +kernel
theorem dX0_digest_14 : decode cX0_digest 14 = .ok (.lmul, 1) := by decide +kernel
theorem dX0_digest_15 : decode cX0_digest 15 = .ok (.aload_n 0, 1) := by decide +kernel
theorem dX0_digest_16 : decode cX0_digest 16 = .ok (.getfield 208, 3) := by decide +kernel
theorem dX0_digest_19 : decode cX0_digest 19 = .ok (.i2l, 1) := by decide +kernel
theorem dX0_digest_20 : decode cX0_digest 20 = .ok (.ladd, 1) := by decide +kernel
theorem dX0_digest_21 : decode cX0_digest 21 = .ok (.lstore_n 1, 1) := by decide +kernel
theorem dX0_digest_22 : decode cX0_digest 22 = .ok (.iconst 0, 1) := by decide +kernel
theorem dX0_digest_23 : decode cX0_digest 23 = .ok (.istore_n 3, 1) := by decide +kernel
theorem dX0_digest_24 : decode cX0_digest 24 = .ok (.iload_n 3, 1) := by decide +kernel
theorem dX0_digest_25 : decode cX0_digest 25 = .ok (.aload_n 0, 1) := by decide +kernel
theorem dX0_digest_26 : decode cX0_digest 26 = .ok (.getfield 91, 3) := by decide +kernel
theorem dX0_digest_29 : decode cX0_digest 29 = .ok (.if_icmp .ge 167, 3) := by decide +kernel
theorem dX0_digest_32 : decode cX0_digest 32 = .ok (.aload_n 0, 1) := by decide +kernel
theorem dX0_digest_33 : decode cX0_digest 33 = .ok (.getfield 55, 3) := by decide +kernel
theorem dX0_digest_36 : decode cX0_digest 36 = .ok (.iload_n 3, 1) := by decide +kernel
theorem dX0_digest_37 : decode cX0_digest 37 = .ok (.aaload, 1) := by decide +kernel
theorem dX0_digest_38 : decode cX0_digest 38 = .ok (.astore 4, 2) := by decide +kernel
theorem dX0_digest_40 : decode cX0_digest 40 = .ok (.ldc2_w 344, 3) := by decide +kernel
theorem dX0_digest_43 : decode cX0_digest 43 = .ok (.lload_n 1, 1) := by decide +kernel
theorem dX0_digest_44 : decode cX0_digest 44 = .ok (.lmul, 1) := by decide +kernel
theorem dX0_digest_45 : decode cX0_digest 45 = .ok (.aload 4, 2) := by decide +kernel
theorem dX0_digest_47 : decode cX0_digest 47 = .ok (.getfield 151, 3) := by decide +kernel
theorem dX0_digest_50 : decode cX0_digest 50 = .ok (.i2l, 1) := by decide +kernel
theorem dX0_digest_51 : decode cX0_digest 51 = .ok (.ladd, 1) := by decide +kernel
theorem dX0_digest_52 : decode cX0_digest 52 = .ok (.lstore_n 1, 1) := by decide +kernel
theorem dX0_digest_53 : decode cX0_digest 53 = .ok (.ldc2_w 344, 3) := by decide +kernel
theorem dX0_digest_56 : decode cX0_digest 56 = .ok (.lload_n 1, 1) := by decide +kernel
theorem dX0_digest_57 : decode cX0_digest 57 = .ok (.lmul, 1) := by decide +kernel
theorem dX0_digest_58 : decode cX0_digest 58 = .ok (.aload 4, 2) := by decide +kernel
theorem dX0_digest_60 : decode cX0_digest 60 = .ok (.getfield 171, 3) := by decide +kernel
theorem dX0_digest_63 : decode cX0_digest 63 = .ok (.invokestatic 288, 3) := by decide +kernel
theorem dX0_digest_66 : decode cX0_digest 66 = .ok (.ladd, 1) := by decide +kernel
theorem dX0_digest_67 : decode cX0_digest 67 = .ok (.lstore_n 1, 1) := by decide +kernel
theorem dX0_digest_68 : decode cX0_digest 68 = .ok (.iconst 0, 1) := by decide +kernel
theorem dX0_digest_69 : decode cX0_digest 69 = .ok (.istore 5, 2) := by decide +kernel
theorem dX0_digest_71 : decode cX0_digest 71 = .ok (.iload 5, 2) := by decide +kernel
theorem dX0_digest_73 : decode cX0_digest 73 = .ok (.bipush 6, 2) := by decide +kernel
theorem dX0_digest_75 : decode cX0_digest 75 = .ok (.if_icmp .ge 49, 3) := by decide +kernel
theorem dX0_digest_78 : decode cX0_digest 78 = .ok (.ldc2_w 344, 3) := by decide +kernel
theorem dX0_digest_81 : decode cX0_digest 81 = .ok (.lload_n 1, 1) := by decide +kernel
theorem dX0_digest_82 : decode cX0_digest 82 = .ok (.lmul, 1) := by decide +kernel
theorem dX0_digest_83 : decode cX0_digest 83 = .ok (.aload 4, 2) := by decide +kernel
theorem dX0_digest_85 : decode cX0_digest 85 = .ok (.getfield 145, 3) := by decide +kernel
theorem dX0_digest_88 : decode cX0_digest 88 = .ok (.iload 5, 2) := by decide +kernel
theorem dX0_digest_90 : decode cX0_digest 90 = .ok (.iaload, 1) := by decide +kernel
theorem dX0_digest_91 : decode cX0_digest 91 = .ok (.i2l, 1) := by decide +kernel
theorem dX0_digest_92 : decode cX0_digest 92 = .ok (.ladd, 1) := by decide +kernel
theorem dX0_digest_93 : decode cX0_digest 93 = .ok (.lstore_n 1, 1) := by decide +kernel
theorem dX0_digest_94 : decode cX0_digest 94 = .ok (.ldc2_w 344, 3) := by decide +kernel
theorem dX0_digest_97 : decode cX0_digest 97 = .ok (.lload_n 1, 1) := by decide +kernel
theorem dX0_digest_98 : decode cX0_digest 98 = .ok (.lmul, 1) := by decide +kernel
theorem dX0_digest_99 : decode cX0_digest 99 = .ok (.aload 4, 2) := by decide +kernel
theorem dX0_digest_101 : decode cX0_digest 101 = .ok (.getfield 148, 3) := by decide +kernel
theorem dX0_digest_104 : decode cX0_digest 104 = .ok (.iload 5, 2) := by decide +kernel
theorem dX0_digest_106 : decode cX0_digest 106 = .ok (.baload, 1) := by decide +kernel
theorem dX0_digest_107 : decode cX0_digest 107 = .ok (.ifCond .eq 7, 3) := by decide +kernel
theorem dX0_digest_110 : decode cX0_digest 110 = .ok (.iconst 1, 1) := by decide +kernel
theorem dX0_digest_111 : decode cX0_digest 111 = .ok (.goto 4, 3) := by decide +kernel
theorem dX0_digest_114 : decode cX0_digest 114 = .ok (.iconst 0, 1) := by decide +kernel
theorem dX0_digest_115 : decode cX0_digest 115 = .ok (.i2l, 1) := by decide +kernel
theorem dX0_digest_116 : decode cX0_digest 116 = .ok (.ladd, 1) := by decide +kernel
theorem dX0_digest_117 : decode cX0_digest 117 = .ok (.lstore_n 1, 1) := by decide +kernel
theorem dX0_digest_118 : decode cX0_digest 118 = .ok (.iinc 5 1, 3) := by decide +kernel
theorem dX0_digest_121 : decode cX0_digest 121 = .ok (.goto (-50), 3) := by decide +kernel
theorem dX0_digest_124 : decode cX0_digest 124 = .ok (.ldc2_w 344, 3) := by decide +kernel
theorem dX0_digest_127 : decode cX0_digest 127 = .ok (.lload_n 1, 1) := by decide +kernel
theorem dX0_digest_128 : decode cX0_digest 128 = .ok (.lmul, 1) := by decide +kernel
theorem dX0_digest_129 : decode cX0_digest 129 = .ok (.aload 4, 2) := by decide +kernel
theorem dX0_digest_131 : decode cX0_digest 131 = .ok (.getfield 167, 3) := by decide +kernel
theorem dX0_digest_134 : decode cX0_digest 134 = .ok (.invokestatic 288, 3) := by decide +kernel
theorem dX0_digest_137 : decode cX0_digest 137 = .ok (.ladd, 1) := by decide +kernel
theorem dX0_digest_138 : decode cX0_digest 138 = .ok (.lstore_n 1, 1) := by decide +kernel
theorem dX0_digest_139 : decode cX0_digest 139 = .ok (.aload_n 0, 1) := by decide +kernel
theorem dX0_digest_140 : decode cX0_digest 140 = .ok (.getfield 88, 3) := by decide +kernel
theorem dX0_digest_143 : decode cX0_digest 143 = .ok (.ifCond .eq 47, 3) := by decide +kernel
theorem dX0_digest_146 : decode cX0_digest 146 = .ok (.ldc2_w 344, 3) := by decide +kernel
theorem dX0_digest_149 : decode cX0_digest 149 = .ok (.lload_n 1, 1) := by decide +kernel
theorem dX0_digest_150 : decode cX0_digest 150 = .ok (.lmul, 1) := by decide +kernel
theorem dX0_digest_151 : decode cX0_digest 151 = .ok (.aload 4, 2) := by decide +kernel
theorem dX0_digest_153 : decode cX0_digest 153 = .ok (.getfield 252, 3) := by decide +kernel
theorem dX0_digest_156 : decode cX0_digest 156 = .ok (.invokestatic 288, 3) := by decide +kernel
theorem dX0_digest_159 : decode cX0_digest 159 = .ok (.ladd, 1) := by decide +kernel
theorem dX0_digest_160 : decode cX0_digest 160 = .ok (.lstore_n 1, 1) := by decide +kernel
theorem dX0_digest_161 : decode cX0_digest 161 = .ok (.ldc2_w 344, 3) := by decide +kernel
theorem dX0_digest_164 : decode cX0_digest 164 = .ok (.lload_n 1, 1) := by decide +kernel
theorem dX0_digest_165 : decode cX0_digest 165 = .ok (.lmul, 1) := by decide +kernel
theorem dX0_digest_166 : decode cX0_digest 166 = .ok (.aload 4, 2) := by decide +kernel
theorem dX0_digest_168 : decode cX0_digest 168 = .ok (.getfield 292, 3) := by decide +kernel
theorem dX0_digest_171 : decode cX0_digest 171 = .ok (.invokestatic 296, 3) := by decide +kernel
theorem dX0_digest_174 : decode cX0_digest 174 = .ok (.i2l, 1) := by decide +kernel
theorem dX0_digest_175 : decode cX0_digest 175 = .ok (.ladd, 1) := by decide +kernel
theorem dX0_digest_176 : decode cX0_digest 176 = .ok (.lstore_n 1, 1) := by decide +kernel
theorem dX0_digest_177 : decode cX0_digest 177 = .ok (.ldc2_w 344, 3) := by decide +kernel
theorem dX0_digest_180 : decode cX0_digest 180 = .ok (.lload_n 1, 1) := by decide +kernel
theorem dX0_digest_181 : decode cX0_digest 181 = .ok (.lmul, 1) := by decide +kernel
theorem dX0_digest_182 : decode cX0_digest 182 = .ok (.aload 4, 2) := by decide +kernel
theorem dX0_digest_184 : decode cX0_digest 184 = .ok (.getfield 302, 3) := by decide +kernel
theorem dX0_digest_187 : decode cX0_digest 187 = .ok (.i2l, 1) := by decide +kernel
theorem dX0_digest_188 : decode cX0_digest 188 = .ok (.ladd, 1) := by decide +kernel
theorem dX0_digest_189 : decode cX0_digest 189 = .ok (.lstore_n 1, 1) := by decide +kernel
theorem dX0_digest_190 : decode cX0_digest 190 = .ok (.iinc 3 1, 3) := by decide +kernel
theorem dX0_digest_193 : decode cX0_digest 193 = .ok (.goto (-169), 3) := by decide +kernel
theorem dX0_digest_196 : decode cX0_digest 196 = .ok (.iconst 0, 1) := by decide +kernel
theorem dX0_digest_197 : decode cX0_digest 197 = .ok (.istore_n 3, 1) := by decide +kernel
theorem dX0_digest_198 : decode cX0_digest 198 = .ok (.iload_n 3, 1) := by decide +kernel
theorem dX0_digest_199 : decode cX0_digest 199 = .ok (.aload_n 0, 1) := by decide +kernel
theorem dX0_digest_200 : decode cX0_digest 200 = .ok (.getfield 249, 3) := by decide +kernel
theorem dX0_digest_203 : decode cX0_digest 203 = .ok (.if_icmp .ge 65, 3) := by decide +kernel
theorem dX0_digest_206 : decode cX0_digest 206 = .ok (.ldc2_w 344, 3) := by decide +kernel
theorem dX0_digest_209 : decode cX0_digest 209 = .ok (.lload_n 1, 1) := by decide +kernel
theorem dX0_digest_210 : decode cX0_digest 210 = .ok (.lmul, 1) := by decide +kernel
theorem dX0_digest_211 : decode cX0_digest 211 = .ok (.aload_n 0, 1) := by decide +kernel
theorem dX0_digest_212 : decode cX0_digest 212 = .ok (.getfield 71, 3) := by decide +kernel
theorem dX0_digest_215 : decode cX0_digest 215 = .ok (.iload_n 3, 1) := by decide +kernel
theorem dX0_digest_216 : decode cX0_digest 216 = .ok (.iaload, 1) := by decide +kernel
theorem dX0_digest_217 : decode cX0_digest 217 = .ok (.i2l, 1) := by decide +kernel
theorem dX0_digest_218 : decode cX0_digest 218 = .ok (.ladd, 1) := by decide +kernel
theorem dX0_digest_219 : decode cX0_digest 219 = .ok (.lstore_n 1, 1) := by decide +kernel
theorem dX0_digest_220 : decode cX0_digest 220 = .ok (.iconst 0, 1) := by decide +kernel
theorem dX0_digest_221 : decode cX0_digest 221 = .ok (.istore 4, 2) := by decide +kernel
theorem dX0_digest_223 : decode cX0_digest 223 = .ok (.iload 4, 2) := by decide +kernel
theorem dX0_digest_225 : decode cX0_digest 225 = .ok (.aload_n 0, 1) := by decide +kernel
theorem dX0_digest_226 : decode cX0_digest 226 = .ok (.getfield 71, 3) := by decide +kernel
theorem dX0_digest_229 : decode cX0_digest 229 = .ok (.iload_n 3, 1) := by decide +kernel
theorem dX0_digest_230 : decode cX0_digest 230 = .ok (.iaload, 1) := by decide +kernel
theorem dX0_digest_231 : decode cX0_digest 231 = .ok (.if_icmp .ge 31, 3) := by decide +kernel
theorem dX0_digest_234 : decode cX0_digest 234 = .ok (.ldc2_w 344, 3) := by decide +kernel
theorem dX0_digest_237 : decode cX0_digest 237 = .ok (.lload_n 1, 1) := by decide +kernel
theorem dX0_digest_238 : decode cX0_digest 238 = .ok (.lmul, 1) := by decide +kernel
theorem dX0_digest_239 : decode cX0_digest 239 = .ok (.aload_n 0, 1) := by decide +kernel
theorem dX0_digest_240 : decode cX0_digest 240 = .ok (.getfield 67, 3) := by decide +kernel
theorem dX0_digest_243 : decode cX0_digest 243 = .ok (.bipush 120, 2) := by decide +kernel
theorem dX0_digest_245 : decode cX0_digest 245 = .ok (.iload_n 3, 1) := by decide +kernel
theorem dX0_digest_246 : decode cX0_digest 246 = .ok (.imul, 1) := by decide +kernel
theorem dX0_digest_247 : decode cX0_digest 247 = .ok (.iload 4, 2) := by decide +kernel
theorem dX0_digest_249 : decode cX0_digest 249 = .ok (.iadd, 1) := by decide +kernel
theorem dX0_digest_250 : decode cX0_digest 250 = .ok (.daload, 1) := by decide +kernel
theorem dX0_digest_251 : decode cX0_digest 251 = .ok (.invokestatic 288, 3) := by decide +kernel
theorem dX0_digest_254 : decode cX0_digest 254 = .ok (.ladd, 1) := by decide +kernel
theorem dX0_digest_255 : decode cX0_digest 255 = .ok (.lstore_n 1, 1) := by decide +kernel
theorem dX0_digest_256 : decode cX0_digest 256 = .ok (.iinc 4 1, 3) := by decide +kernel
theorem dX0_digest_259 : decode cX0_digest 259 = .ok (.goto (-36), 3) := by decide +kernel
theorem dX0_digest_262 : decode cX0_digest 262 = .ok (.iinc 3 1, 3) := by decide +kernel
theorem dX0_digest_265 : decode cX0_digest 265 = .ok (.goto (-67), 3) := by decide +kernel
theorem dX0_digest_268 : decode cX0_digest 268 = .ok (.lload_n 1, 1) := by decide +kernel
theorem dX0_digest_269 : decode cX0_digest 269 = .ok (.lreturn, 1) := by decide +kernel
theorem dX0_begin_0 : decode cX0_begin 0 = .ok (.aload_n 0, 1) := by decide +kernel
theorem dX0_begin_1 : decode cX0_begin 1 = .ok (.iload_n 1, 1) := by decide +kernel
theorem dX0_begin_2 : decode cX0_begin 2 = .ok (.invokevirtual 138, 3) := by decide +kernel
theorem dX0_begin_5 : decode cX0_begin 5 = .ok (.ifCond .ne 6, 3) := by decide +kernel
theorem dX0_begin_8 : decode cX0_begin 8 = .ok (.bipush (-101), 2) := by decide +kernel
theorem dX0_begin_10 : decode cX0_begin 10 = .ok (.ireturn, 1) := by decide +kernel
theorem dX0_begin_11 : decode cX0_begin 11 = .ok (.lload_n 2, 1) := by decide +kernel
theorem dX0_begin_12 : decode cX0_begin 12 = .ok (.ldc2_w 154, 3) := by decide +kernel
theorem dX0_begin_15 : decode cX0_begin 15 = .ok (.ldc2_w 126, 3) := by decide +kernel
theorem dX0_begin_18 : decode cX0_begin 18 = .ok (.invokestatic 114, 3) := by decide +kernel
theorem dX0_begin_21 : decode cX0_begin 21 = .ok (.ifCond .eq 15, 3) := by decide +kernel
theorem dX0_begin_24 : decode cX0_begin 24 = .ok (.aload_n 0, 1) := by decide +kernel
theorem dX0_begin_25 : decode cX0_begin 25 = .ok (.getfield 55, 3) := by decide +kernel
theorem dX0_begin_28 : decode cX0_begin 28 = .ok (.iload_n 1, 1) := by decide +kernel
theorem dX0_begin_29 : decode cX0_begin 29 = .ok (.aaload, 1) := by decide +kernel
theorem dX0_begin_30 : decode cX0_begin 30 = .ok (.invokevirtual 163, 3) := by decide +kernel
theorem dX0_begin_33 : decode cX0_begin 33 = .ok (.ifCond .ne 6, 3) := by decide +kernel
theorem dX0_begin_36 : decode cX0_begin 36 = .ok (.bipush (-102), 2) := by decide +kernel
theorem dX0_begin_38 : decode cX0_begin 38 = .ok (.ireturn, 1) := by decide +kernel
theorem dX0_begin_39 : decode cX0_begin 39 = .ok (.aload_n 0, 1) := by decide +kernel
theorem dX0_begin_40 : decode cX0_begin 40 = .ok (.getfield 88, 3) := by decide +kernel
theorem dX0_begin_43 : decode cX0_begin 43 = .ok (.ifCond .eq 6, 3) := by decide +kernel
theorem dX0_begin_46 : decode cX0_begin 46 = .ok (.bipush (-103), 2) := by decide +kernel
theorem dX0_begin_48 : decode cX0_begin 48 = .ok (.ireturn, 1) := by decide +kernel
theorem dX0_begin_49 : decode cX0_begin 49 = .ok (.aload_n 0, 1) := by decide +kernel
theorem dX0_begin_50 : decode cX0_begin 50 = .ok (.getfield 55, 3) := by decide +kernel
theorem dX0_begin_53 : decode cX0_begin 53 = .ok (.iload_n 1, 1) := by decide +kernel
theorem dX0_begin_54 : decode cX0_begin 54 = .ok (.aaload, 1) := by decide +kernel
theorem dX0_begin_55 : decode cX0_begin 55 = .ok (.lload_n 2, 1) := by decide +kernel
theorem dX0_begin_56 : decode cX0_begin 56 = .ok (.invokestatic 106, 3) := by decide +kernel
theorem dX0_begin_59 : decode cX0_begin 59 = .ok (.putfield 167, 3) := by decide +kernel
theorem dX0_begin_62 : decode cX0_begin 62 = .ok (.iconst 1, 1) := by decide +kernel
theorem dX0_begin_63 : decode cX0_begin 63 = .ok (.ireturn, 1) := by decide +kernel
theorem dX0_run_0 : decode cX0_run 0 = .ok (.iload_n 1, 1) := by decide +kernel
theorem dX0_run_1 : decode cX0_run 1 = .ok (.iconst 1, 1) := by decide +kernel
theorem dX0_run_2 : decode cX0_run 2 = .ok (.bipush 100, 2) := by decide +kernel
theorem dX0_run_4 : decode cX0_run 4 = .ok (.invokestatic 94, 3) := by decide +kernel
theorem dX0_run_7 : decode cX0_run 7 = .ok (.ifCond .ne 6, 3) := by decide +kernel
theorem dX0_run_10 : decode cX0_run 10 = .ok (.bipush (-102), 2) := by decide +kernel
theorem dX0_run_12 : decode cX0_run 12 = .ok (.ireturn, 1) := by decide +kernel
theorem dX0_run_13 : decode cX0_run 13 = .ok (.aload_n 0, 1) := by decide +kernel
theorem dX0_run_14 : decode cX0_run 14 = .ok (.getfield 88, 3) := by decide +kernel
theorem dX0_run_17 : decode cX0_run 17 = .ok (.ifCond .ne 6, 3) := by decide +kernel
theorem dX0_run_20 : decode cX0_run 20 = .ok (.bipush (-103), 2) := by decide +kernel
theorem dX0_run_22 : decode cX0_run 22 = .ok (.ireturn, 1) := by decide +kernel
theorem dX0_run_23 : decode cX0_run 23 = .ok (.aload_n 0, 1) := by decide +kernel
theorem dX0_run_24 : decode cX0_run 24 = .ok (.getfield 208, 3) := by decide +kernel
theorem dX0_run_27 : decode cX0_run 27 = .ok (.iload_n 1, 1) := by decide +kernel
theorem dX0_run_28 : decode cX0_run 28 = .ok (.iadd, 1) := by decide +kernel
theorem dX0_run_29 : decode cX0_run 29 = .ok (.sipush 300, 3) := by decide +kernel
theorem dX0_run_32 : decode cX0_run 32 = .ok (.if_icmp .gt 23, 3) := by decide +kernel
theorem dX0_run_35 : decode cX0_run 35 = .ok (.aload_n 0, 1) := by decide +kernel
theorem dX0_run_36 : decode cX0_run 36 = .ok (.getfield 249, 3) := by decide +kernel
theorem dX0_run_39 : decode cX0_run 39 = .ok (.ifCond .le 19, 3) := by decide +kernel
theorem dX0_run_42 : decode cX0_run 42 = .ok (.aload_n 0, 1) := by decide +kernel
theorem dX0_run_43 : decode cX0_run 43 = .ok (.getfield 71, 3) := by decide +kernel
theorem dX0_run_46 : decode cX0_run 46 = .ok (.iconst 0, 1) := by decide +kernel
theorem dX0_run_47 : decode cX0_run 47 = .ok (.iaload, 1) := by decide +kernel
theorem dX0_run_48 : decode cX0_run 48 = .ok (.iload_n 1, 1) := by decide +kernel
theorem dX0_run_49 : decode cX0_run 49 = .ok (.iadd, 1) := by decide +kernel
theorem dX0_run_50 : decode cX0_run 50 = .ok (.bipush 120, 2) := by decide +kernel
theorem dX0_run_52 : decode cX0_run 52 = .ok (.if_icmp .le 6, 3) := by decide +kernel
theorem dX0_run_55 : decode cX0_run 55 = .ok (.bipush (-104), 2) := by decide +kernel
theorem dX0_run_57 : decode cX0_run 57 = .ok (.ireturn, 1) := by decide +kernel
theorem dX0_run_58 : decode cX0_run 58 = .ok (.aload_n 0, 1) := by decide +kernel
theorem dX0_run_59 : decode cX0_run 59 = .ok (.iconst 2, 1) := by decide +kernel
theorem dX0_run_60 : decode cX0_run 60 = .ok (.putfield 88, 3) := by decide +kernel
theorem dX0_run_63 : decode cX0_run 63 = .ok (.aload_n 0, 1) := by decide +kernel
theorem dX0_run_64 : decode cX0_run 64 = .ok (.getfield 59, 3) := by decide +kernel
theorem dX0_run_67 : decode cX0_run 67 = .ok (.invokestatic 270, 3) := by decide +kernel
theorem dX0_run_70 : decode cX0_run 70 = .ok (.dstore_n 2, 1) := by decide +kernel
theorem dX0_run_71 : decode cX0_run 71 = .ok (.iconst 0, 1) := by decide +kernel
theorem dX0_run_72 : decode cX0_run 72 = .ok (.istore 4, 2) := by decide +kernel
theorem dX0_run_74 : decode cX0_run 74 = .ok (.iload 4, 2) := by decide +kernel
theorem dX0_run_76 : decode cX0_run 76 = .ok (.iload_n 1, 1) := by decide +kernel
theorem dX0_run_77 : decode cX0_run 77 = .ok (.if_icmp .ge 53, 3) := by decide +kernel
theorem dX0_run_80 : decode cX0_run 80 = .ok (.aload_n 0, 1) := by decide +kernel
theorem dX0_run_81 : decode cX0_run 81 = .ok (.aload_n 0, 1) := by decide +kernel
theorem dX0_run_82 : decode cX0_run 82 = .ok (.getfield 208, 3) := by decide +kernel
theorem dX0_run_85 : decode cX0_run 85 = .ok (.iconst 1, 1) := by decide +kernel
theorem dX0_run_86 : decode cX0_run 86 = .ok (.iadd, 1) := by decide +kernel
theorem dX0_run_87 : decode cX0_run 87 = .ok (.invokevirtual 274, 3) := by decide +kernel
theorem dX0_run_90 : decode cX0_run 90 = .ok (.istore 5, 2) := by decide +kernel
theorem dX0_run_92 : decode cX0_run 92 = .ok (.iload 5, 2) := by decide +kernel
theorem dX0_run_94 : decode cX0_run 94 = .ok (.iconst (-1), 1) := by decide +kernel
theorem dX0_run_95 : decode cX0_run 95 = .ok (.if_icmp .eq 10, 3) := by decide +kernel
theorem dX0_run_98 : decode cX0_run 98 = .ok (.sipush (-1000), 3) := by decide +kernel
theorem dX0_run_101 : decode cX0_run 101 = .ok (.iload 5, 2) := by decide +kernel
theorem dX0_run_103 : decode cX0_run 103 = .ok (.isub, 1) := by decide +kernel
theorem dX0_run_104 : decode cX0_run 104 = .ok (.ireturn, 1) := by decide +kernel
theorem dX0_run_105 : decode cX0_run 105 = .ok (.aload_n 0, 1) := by decide +kernel
theorem dX0_run_106 : decode cX0_run 106 = .ok (.dload_n 2, 1) := by decide +kernel
theorem dX0_run_107 : decode cX0_run 107 = .ok (.invokevirtual 278, 3) := by decide +kernel
theorem dX0_run_110 : decode cX0_run 110 = .ok (.aload_n 0, 1) := by decide +kernel
theorem dX0_run_111 : decode cX0_run 111 = .ok (.dup, 1) := by decide +kernel
theorem dX0_run_112 : decode cX0_run 112 = .ok (.getfield 282, 3) := by decide +kernel
theorem dX0_run_115 : decode cX0_run 115 = .ok (.iconst 1, 1) := by decide +kernel
theorem dX0_run_116 : decode cX0_run 116 = .ok (.iadd, 1) := by decide +kernel
theorem dX0_run_117 : decode cX0_run 117 = .ok (.putfield 282, 3) := by decide +kernel
theorem dX0_run_120 : decode cX0_run 120 = .ok (.aload_n 0, 1) := by decide +kernel
theorem dX0_run_121 : decode cX0_run 121 = .ok (.invokevirtual 264, 3) := by decide +kernel
theorem dX0_run_124 : decode cX0_run 124 = .ok (.iinc 4 1, 3) := by decide +kernel
theorem dX0_run_127 : decode cX0_run 127 = .ok (.goto (-53), 3) := by decide +kernel
theorem dX0_run_130 : decode cX0_run 130 = .ok (.iload_n 1, 1) := by decide +kernel
theorem dX0_run_131 : decode cX0_run 131 = .ok (.ireturn, 1) := by decide +kernel
theorem hd_X0_failing : yX0_failing.cls = RX0 ∧ yX0_failing.cls ≠ "java/lang/invoke/MethodHandle" ∧ yX0_failing.cls ≠ "java/lang/invoke/VarHandle" ∧ (parseMethodDescriptor yX0_failing.desc).map (fun d => d.parameters.length) = some 1 := by decide +kernel
theorem hd_X0_isWithin : yX0_isWithin.cls ≠ "java/lang/invoke/MethodHandle" ∧ yX0_isWithin.cls ≠ "java/lang/invoke/VarHandle" ∧ (parseMethodDescriptor yX0_isWithin.desc).map (fun d => d.parameters.length) = some 3 := by decide +kernel
theorem hd_X0_length : yX0_length.cls ≠ "java/lang/invoke/MethodHandle" ∧ yX0_length.cls ≠ "java/lang/invoke/VarHandle" ∧ (parseMethodDescriptor yX0_length.desc).map (fun d => d.parameters.length) = some 1 := by decide +kernel
theorem hd_X0_sample : yX0_sample.cls = RX0 ∧ yX0_sample.cls ≠ "java/lang/invoke/MethodHandle" ∧ yX0_sample.cls ≠ "java/lang/invoke/VarHandle" ∧ (parseMethodDescriptor yX0_sample.desc).map (fun d => d.parameters.length) = some 0 := by decide +kernel
theorem hd_X0_step : yX0_step.cls = RX0 ∧ yX0_step.cls ≠ "java/lang/invoke/MethodHandle" ∧ yX0_step.cls ≠ "java/lang/invoke/VarHandle" ∧ (parseMethodDescriptor yX0_step.desc).map (fun d => d.parameters.length) = some 1 := by decide +kernel
theorem sm_nb {b : Int64} {lo hi : UInt64} (h : (nbB b && wiB b.toUInt64 lo hi) = true) : nbB b = true := by rw [Bool.and_eq_true] at h; exact h.1
theorem xt_X0_sample (l : Launch) (D : va_G) (dA : Nat → ClassId) (C : tp_C) (d : md_T) (j : xj_T) (hC : mOK C) (hSm : smOK d) (hSc : ∀ s, s < cZ C → cntN d s < 120) : xC l D dA yX0_sample cX0_sample 2 none 0 [.ref (jA j 0)] C d j none C (tsD C d) j := by
  refine xx_start (own := RX0) (by decide) rfl (Nat.le_of_ble_eq_true rfl) ?_
  intro p0 e0 s0 mid bl0 me0 co0 ls S hr hlk G hl
  have hx := S.1; have hb := S.2.1; have hml := S.2.2.1; have hown := S.2.2.2.1; have hts := S.2.2.2.2; have hN := hC.n
  have hl : lv_has ls 2 [(0, .ref (jA j 0))] := hl
  have hZ := hC.z
  have L1 : ∀ (n_ s : Nat), s ≤ cZ C → cZ C < s + n_ → ∀ (H : Heap) (locs : List Loc) (ls : Array Slot), xG D dA (xA dA C d j) C (tsI C d s) j s0 H locs → lv_has ls 2 [(1, .int (nI s)), (0, .ref (jA j 0))] → (∀ (H : Heap) (locs : List Loc) (ls : Array Slot), xG D dA (xA dA C d j) C (tsI C d (cZ C)) j s0 H locs → lv_has ls 2 [(1, .int (nI (cZ C))), (0, .ref (jA j 0))] → W p0 l e0 (rm_ 0) s0 mid ([.ref (jA j 0)] : List Value).toArray bl0 me0 co0 H locs 0 0 (MQ bl0 (xQ D dA C d j none C (tsD C d) j) ([.ref (jA j 0)] : List Value).toArray s0 0 0 (xA dA C d j)) (F0 mid 56 ls [])) → W p0 l e0 (rm_ 0) s0 mid ([.ref (jA j 0)] : List Value).toArray bl0 me0 co0 H locs 0 0 (MQ bl0 (xQ D dA C d j none C (tsD C d) j) ([.ref (jA j 0)] : List Value).toArray s0 0 0 (xA dA C d j)) (F0 mid 2 ls []) := by
    intro n_
    induction n_ with
    | zero => intro s h1_ h2_; exact absurd h2_ (by omega)
    | succ n_ ih =>
      intro s h1_ h2_ H locs ls G hl kk
      refine lv_iload_n hx hb dX0_sample_2 rfl (lv_at hl 0 rfl) ?_
      refine lv_aload_n hx hb dX0_sample_3 rfl (lv_at hl 1 rfl) ?_
      refine xx_getP S G 9 (by decide) q98 rfl (v := .int (nI (cZ C))) rfl dX0_sample_4 ?_
      refine nn_cge (tgt := 56) hx hb (by omega) (by omega) dX0_sample_7 (by decide) (fun c_7 => ?_) (fun c_7 => ?_)
      · have hiN : s = cZ C := by omega
        subst hiN
        exact kk H locs ls G (lv_sub hl [0, 1] rfl)
      · have ho := hC.o (show s < cZ C by omega)
        have hc := hSc s (by omega)
        refine lv_aload_n hx hb dX0_sample_10 rfl (lv_at hl 1 rfl) ?_
        refine xx_getP S G 10 (by decide) q99 rfl (v := .ref (jA j 3)) rfl dX0_sample_11 ?_
        refine lv_bipush (v := nI 120) hx hb dX0_sample_14 (by decide) ?_
        refine lv_iload_n hx hb dX0_sample_16 rfl (lv_at hl 0 rfl) ?_
        refine nn_mul hx hb dX0_sample_17 ?_
        refine lv_aload_n hx hb dX0_sample_18 rfl (lv_at hl 1 rfl) ?_
        refine xx_getP S G 11 (by decide) q100 rfl (v := .ref (jA j 4)) rfl dX0_sample_19 ?_
        refine lv_iload_n hx hb dX0_sample_22 rfl (lv_at hl 0 rfl) ?_
        refine xx_iald S G (r := 4) (by decide) (xW_p (by decide) rfl) 0 rfl (i := s) (by omega) (by decide) (v := nI (cntN d s)) (by show pm (dAI d 39) s (fun s => nI (cntN d s + 1)) s = _; rw [pm_at]; exact hSm.eq s) dX0_sample_23 ?_
        refine nn_add hx hb dX0_sample_24 ?_
        refine lv_aload_n hx hb dX0_sample_25 rfl (lv_at hl 1 rfl) ?_
        refine xx_getP S G 0 (by decide) q89 rfl (v := .ref (jA j 1)) rfl dX0_sample_26 ?_
        refine lv_aload_n hx hb dX0_sample_29 rfl (lv_at hl 1 rfl) ?_
        refine xx_getP S G 8 (by decide) q97 rfl (v := .ref (jA j 2)) rfl dX0_sample_30 ?_
        refine lv_iload_n hx hb dX0_sample_33 rfl (lv_at hl 0 rfl) ?_
        refine xx_iald S G (r := 2) (by decide) (xW_p (by decide) rfl) 0 rfl (i := s) (by omega) (by decide) (v := nI (cO C s)) rfl dX0_sample_34 ?_
        refine xx_aald S G (r := 1) (by decide) (xW_p (by decide) rfl) (i := cO C s) (by omega) (by decide) (o := some (jA j (xr (cO C s) 0))) (if_pos ho) dX0_sample_35 ?_
        refine W.eq (g2 := F0 mid 36 ls [.ref (jA j (xr (cO C s) 0)), .int (nI (120 * s + cntN d s)), .ref (jA j 3)]) rfl ?_
        refine xx_get11 S G (mm := cO C s) ho hN (hC.k _) 6 (by decide) q226 rfl (v := .double (dAD d 19 (cO C s))) rfl dX0_sample_36 ?_
        refine xx_dast S G (r := 3) (by decide) (xW_p (by decide) rfl) 2 rfl (i := 120 * s + cntN d s) (by omega) (by decide) xs_R3 dX0_sample_39 (fun H locs G => ?_)
        refine lv_aload_n hx hb dX0_sample_40 rfl (lv_at hl 1 rfl) ?_
        refine xx_getP S G 11 (by decide) q100 rfl (v := .ref (jA j 4)) rfl dX0_sample_41 ?_
        refine lv_iload_n hx hb dX0_sample_44 rfl (lv_at hl 0 rfl) ?_
        refine lv_dup2_11 hx hb dX0_sample_45 rfl rfl ?_
        refine xx_iald S G (r := 4) (by decide) (xW_p (by decide) rfl) 0 rfl (i := s) (by omega) (by decide) (v := nI (cntN d s)) (by show pm (dAI d 39) s (fun s => nI (cntN d s + 1)) s = _; rw [pm_at]; exact hSm.eq s) dX0_sample_46 ?_
        refine lv_iconst (v := nI 1) hx hb dX0_sample_47 (by decide) ?_
        refine nn_add hx hb dX0_sample_48 ?_
        refine xx_iast S G (r := 4) (by decide) (xW_p (by decide) rfl) 0 rfl (i := s) (by omega) (by decide) xs_R4 dX0_sample_49 (fun H locs G => ?_)
        refine lv_iinc (v := nI (s + 1)) (lv' := [(1, .int (nI (s + 1))), (0, .ref (jA j 0))]) hx hb dX0_sample_50 hl (k := 0) rfl (nI_1 _) (by decide) rfl (fun ls hl => ?_)
        refine lv_goto (tgt := 2) hx hb dX0_sample_53 (by decide) ?_
        exact ih (s + 1) (by omega) (by omega) H locs ls (xG_d (xL_e rfl (by exact tsI_s C d s hc) rfl) G) (lv_sub hl [0, 1] rfl) kk
  refine lv_iconst (v := nI 0) hx hb dX0_sample_0 (by decide) ?_
  refine lv_istore_n (lv' := [(1, .int (nI 0)), (0, .ref (jA j 0))]) hx hb dX0_sample_1 rfl hl (by decide) rfl (fun ls hl => ?_)
  refine L1 (cZ C + 1) 0 (by omega) (by omega) _ _ ls (xG_d (xL_e rfl (by exact (tsI_0 C d).symm) rfl) G) (lv_sub hl [0, 1] rfl) (fun H locs ls G hl => ?_)
  exact xx_vret S hr hlk G (xL_e rfl (by rfl) rfl) dX0_sample_56
theorem xt_X0_failing (l : Launch) (D : va_G) (dA : Nat → ClassId) (C : tp_C) (d : md_T) (j : xj_T) (a : Int32) (hC : mOK C) : xC l D dA yX0_failing cX0_failing 3 (some .int) 0 [.ref (jA j 0), .int a] C d j (some (.int (faI C a))) C d j := by
  refine xx_start (own := RX0) (by decide) rfl (Nat.le_of_ble_eq_true rfl) ?_
  intro p0 e0 s0 mid bl0 me0 co0 ls S hr hlk G hl
  have hx := S.1; have hb := S.2.1; have hml := S.2.2.1; have hown := S.2.2.2.1; have hts := S.2.2.2.2; have hN := hC.n
  have hl : lv_has ls 3 [(0, .ref (jA j 0)), (1, .int a)] := hl
  have L1 : ∀ (n_ : Nat) (m : Nat), (m ≤ cN C) → (cN C < m + n_) → (∀ k, k < m → (fun m => decide (nI (cA C m) = a)) k = false) → ∀ (H : Heap) (locs : List Loc) (ls : Array Slot), xG D dA (xA dA C d j) C d j s0 H locs → lv_has ls 3 [(2, .int (nI m)), (1, .int a), (0, .ref (jA j 0))] → W p0 l e0 (rm_ 0) s0 mid ([.ref (jA j 0), .int a] : List Value).toArray bl0 me0 co0 H locs 0 0 (MQ bl0 (xQ D dA C d j (some (.int (faI C a))) C d j) ([.ref (jA j 0), .int a] : List Value).toArray s0 0 0 (xA dA C d j)) (F0 mid 2 ls []) := by
    intro n_
    induction n_ with
    | zero => intro m h1_ h2_ hh0; exfalso; omega
    | succ n_ ih =>
      intro m h1_ h2_ hh0 H locs ls G hl
      refine lv_iload_n hx hb dX0_failing_2 rfl (lv_at hl 0 rfl) ?_
      refine lv_aload_n hx hb dX0_failing_3 rfl (lv_at hl 2 rfl) ?_
      refine xx_getP S G 1 (by decide) q90 rfl (v := .int (nI (cN C))) rfl dX0_failing_4 ?_
      refine nn_cge (tgt := 29) hx hb (by omega) (by omega) dX0_failing_7 (by decide) (fun c_7 => ?_) (fun c_7 => ?_)
      · have f1 : fi_ (fun m => decide (nI (cA C m) = a)) (cN C) = none := fi_none (fun k hk => hh0 k (by omega))
        refine lv_iload_n hx hb dX0_failing_29 rfl (lv_at hl 0 rfl) ?_
        refine lv_aload_n hx hb dX0_failing_30 rfl (lv_at hl 2 rfl) ?_
        refine xx_getP S G 1 (by decide) q90 rfl (v := .int (nI (cN C))) rfl dX0_failing_31 ?_
        refine nn_cge (tgt := 41) hx hb (by omega) (by omega) dX0_failing_34 (by decide) (fun c_34 => ?_) (fun c_34 => by exfalso; omega)
        refine lv_iconst (v := (-1)) hx hb dX0_failing_41 (by decide) ?_
        exact xx_iret S hr hlk G (by simp [faI, f1]) rfl dX0_failing_42
      · refine lv_aload_n hx hb dX0_failing_10 rfl (lv_at hl 2 rfl) ?_
        refine xx_getP S G 0 (by decide) q89 rfl (v := .ref (jA j 1)) rfl dX0_failing_11 ?_
        refine lv_iload_n hx hb dX0_failing_14 rfl (lv_at hl 0 rfl) ?_
        refine xx_aald S G (r := 1) (by decide) (xW_p (by decide) rfl) (i := m) (by omega) (by decide) (o := some (jA j (xr m 0))) (if_pos (by omega)) dX0_failing_15 ?_
        refine W.eq (g2 := F0 mid 16 ls [.ref (jA j (xr m 0))]) rfl ?_
        refine xx_get11 S G (mm := m) (by omega) hN (hC.k _) 10 (by decide) q233 rfl (v := .int (nI (cA C m))) rfl dX0_failing_16 ?_
        refine lv_iload_n hx hb dX0_failing_19 rfl (lv_at hl 1 rfl) ?_
        refine lv_icmp_eq (tgt := 29) hx hb dX0_failing_20 (by decide) (fun c_20 => ?_) (fun c_20 => ?_)
        · have f1 : fi_ (fun m => decide (nI (cA C m) = a)) (cN C) = some m := fi_some (by omega) (by simp [c_20]) hh0
          refine lv_iload_n hx hb dX0_failing_29 rfl (lv_at hl 0 rfl) ?_
          refine lv_aload_n hx hb dX0_failing_30 rfl (lv_at hl 2 rfl) ?_
          refine xx_getP S G 1 (by decide) q90 rfl (v := .int (nI (cN C))) rfl dX0_failing_31 ?_
          refine nn_cge (tgt := 41) hx hb (by omega) (by omega) dX0_failing_34 (by decide) (fun c_34 => by exfalso; omega) (fun c_34 => ?_)
          refine lv_iload_n hx hb dX0_failing_37 rfl (lv_at hl 0 rfl) ?_
          refine lv_goto (tgt := 42) hx hb dX0_failing_38 (by decide) ?_
          exact xx_iret S hr hlk G (by simp [faI, f1]) rfl dX0_failing_42
        · refine lv_iinc (v := nI (m + 1)) (lv' := [(2, .int (nI (m + 1))), (1, .int a), (0, .ref (jA j 0))]) hx hb dX0_failing_23 hl (k := 0) rfl (nI_1 _) (by decide) rfl (fun ls hl => ?_)
          refine lv_goto (tgt := 2) hx hb dX0_failing_26 (by decide) ?_
          exact ih (m + 1) (by omega) (by omega) (lt_sB hh0 (by simp [c_20])) H locs ls G (lv_sub hl [0, 1, 2] rfl)
  refine lv_iconst (v := nI 0) hx hb dX0_failing_0 (by decide) ?_
  refine lv_istore_n (lv' := [(2, .int (nI 0)), (0, .ref (jA j 0)), (1, .int a)]) hx hb dX0_failing_1 rfl hl (by decide) rfl (fun ls hl => ?_)
  exact L1 (cN C + 1) 0 (by omega) (by omega) (fun k hk => by omega) _ _ ls G (lv_sub hl [0, 2, 1] rfl)
theorem xt_X0_digest (l : Launch) (D : va_G) (dA : Nat → ClassId) (C : tp_C) (d : md_T) (j : xj_T) (hC : mOK C) (hV : vOK C) (hR : rOK d) (hSm : smOK d) (hq : ∀ k, bD 1075 (dAD d 40 k)) : xC l D dA yX0_digest cX0_digest 6 (some .long) 2 [.ref (jA j 0)] C d j (some (.long (dgL C d))) C d j := by
  refine xx_start (own := RX0) (by decide) rfl (Nat.le_of_ble_eq_true rfl) ?_
  intro p0 e0 s0 mid bl0 me0 co0 ls S hr hlk G hl
  have hx := S.1; have hb := S.2.1; have hml := S.2.2.1; have hown := S.2.2.2.1; have hts := S.2.2.2.2; have hN := hC.n
  have hl : lv_has ls 6 [(0, .ref (jA j 0))] := hl
  have hMo := hC.mo
  have hZ := hC.z
  have L2 : ∀ (m : Nat) (hm : m < cN C) (h0 : Int64) (n_ i : Nat), i ≤ 6 → 6 < i + n_ → ∀ (H : Heap) (locs : List Loc) (ls : Array Slot), xG D dA (xA dA C d j) C d j s0 H locs → lv_has ls 6 [(5, .int (nI i)), (1, .long (dg6 C m i h0)), (4, .ref (jA j (xr m 0))), (3, .int (nI m)), (0, .ref (jA j 0))] → (∀ (H : Heap) (locs : List Loc) (ls : Array Slot), xG D dA (xA dA C d j) C d j s0 H locs → lv_has ls 6 [(5, .int (nI 6)), (1, .long (dg6 C m 6 h0)), (4, .ref (jA j (xr m 0))), (3, .int (nI m)), (0, .ref (jA j 0))] → W p0 l e0 (rm_ 2) s0 mid ([.ref (jA j 0)] : List Value).toArray bl0 me0 co0 H locs 0 0 (MQ bl0 (xQ D dA C d j (some (.long (dgL C d))) C d j) ([.ref (jA j 0)] : List Value).toArray s0 0 0 (xA dA C d j)) (F0 mid 124 ls [])) → W p0 l e0 (rm_ 2) s0 mid ([.ref (jA j 0)] : List Value).toArray bl0 me0 co0 H locs 0 0 (MQ bl0 (xQ D dA C d j (some (.long (dgL C d))) C d j) ([.ref (jA j 0)] : List Value).toArray s0 0 0 (xA dA C d j)) (F0 mid 71 ls []) := by
    intro m hm h0 n_
    induction n_ with
    | zero => intro i h1_ h2_; exact absurd h2_ (by omega)
    | succ n_ ih =>
      intro i h1_ h2_ H locs ls G hl kk
      refine lv_iload hx hb dX0_digest_71 (lv_at hl 0 rfl) ?_
      refine lv_bipush (v := nI 6) hx hb dX0_digest_73 (by decide) ?_
      refine nn_cge (tgt := 124) hx hb (by omega) (by omega) dX0_digest_75 (by decide) (fun c_75 => ?_) (fun c_75 => ?_)
      · have hiN : i = 6 := by omega
        subst hiN
        exact kk H locs ls G (lv_sub hl [0, 1, 2, 3, 4] rfl)
      · refine lv_ldc2 hx hb hown (hts _ q1260) dX0_digest_78 ?_
        refine lv_lload_n hx hb dX0_digest_81 rfl (lv_at hl 1 rfl) ?_
        refine lv_lmul hx hb dX0_digest_82 ?_
        refine lv_aload hx hb dX0_digest_83 (lv_at hl 2 rfl) ?_
        refine xx_get11 S G (mm := m) (by omega) hN (hC.k _) 4 (by decide) q222 rfl (v := .ref (jA j (xr m 2))) rfl dX0_digest_85 ?_
        refine lv_iload hx hb dX0_digest_88 (lv_at hl 0 rfl) ?_
        refine xx_iald S G (r := xr m 2) (xr_lt (by decide) (Nat.lt_of_lt_of_le (by omega) hN)) (xW_m (by decide) (by omega) rfl) 0 rfl (i := i) (by omega) (by decide) (v := oI (cF C m i)) rfl dX0_digest_90 ?_
        refine lv_i2l (v := (oI (cF C m i)).toInt64) hx hb dX0_digest_91 rfl ?_
        refine lv_ladd hx hb dX0_digest_92 ?_
        refine w_st (st' := [.long (mxH (dg6 C m i h0) (oI (cF C m i)).toInt64)]) (by rfl) ?_
        refine lv_lstore_n (lv' := [(1, .long (mxH (dg6 C m i h0) (oI (cF C m i)).toInt64)), (5, .int (nI i)), (4, .ref (jA j (xr m 0))), (3, .int (nI m)), (0, .ref (jA j 0))]) hx hb dX0_digest_93 rfl hl (by decide) rfl (fun ls hl => ?_)
        refine lv_ldc2 hx hb hown (hts _ q1260) dX0_digest_94 ?_
        refine lv_lload_n hx hb dX0_digest_97 rfl (lv_at hl 0 rfl) ?_
        refine lv_lmul hx hb dX0_digest_98 ?_
        refine lv_aload hx hb dX0_digest_99 (lv_at hl 2 rfl) ?_
        refine xx_get11 S G (mm := m) (by omega) hN (hC.k _) 5 (by decide) q224 rfl (v := .ref (jA j (xr m 3))) rfl dX0_digest_101 ?_
        refine lv_iload hx hb dX0_digest_104 (lv_at hl 1 rfl) ?_
        refine xx_zald S G (r := xr m 3) (xr_lt (by decide) (Nat.lt_of_lt_of_le (by omega) hN)) (xW_m (by decide) (by omega) rfl) 1 rfl (i := i) (by omega) (by decide) (v := bI (cT C m i)) rfl dX0_digest_106 ?_
        refine bb_eq (tgt := 114) hx hb dX0_digest_107 (by decide) (fun c_107 => ?_) (fun c_107 => ?_)
        · refine lv_iconst (v := nI 0) hx hb dX0_digest_114 (by decide) ?_
          refine lv_i2l (v := (nI 0).toInt64) hx hb dX0_digest_115 rfl ?_
          refine lv_ladd hx hb dX0_digest_116 ?_
          refine w_st (st' := [.long (dg6 C m (i + 1) h0)]) (by show [Value.long _] = [Value.long (dgI C m i (dg6 C m i h0))]; unfold dgI; rw [c_107]; rfl) ?_
          refine lv_lstore_n (lv' := [(1, .long (dg6 C m (i + 1) h0)), (5, .int (nI i)), (4, .ref (jA j (xr m 0))), (3, .int (nI m)), (0, .ref (jA j 0))]) hx hb dX0_digest_117 rfl hl (by decide) rfl (fun ls hl => ?_)
          refine lv_iinc (v := nI (i + 1)) (lv' := [(5, .int (nI (i + 1))), (1, .long (dg6 C m (i + 1) h0)), (4, .ref (jA j (xr m 0))), (3, .int (nI m)), (0, .ref (jA j 0))]) hx hb dX0_digest_118 hl (k := 1) rfl (nI_1 _) (by decide) rfl (fun ls hl => ?_)
          refine lv_goto (tgt := 71) hx hb dX0_digest_121 (by decide) ?_
          exact ih (i + 1) (by omega) (by omega) H locs ls G (lv_sub hl [0, 1, 2, 3, 4] rfl) kk
        · refine lv_iconst (v := nI 1) hx hb dX0_digest_110 (by decide) ?_
          refine lv_goto (tgt := 115) hx hb dX0_digest_111 (by decide) ?_
          refine lv_i2l (v := (nI 1).toInt64) hx hb dX0_digest_115 rfl ?_
          refine lv_ladd hx hb dX0_digest_116 ?_
          refine w_st (st' := [.long (dg6 C m (i + 1) h0)]) (by show [Value.long _] = [Value.long (dgI C m i (dg6 C m i h0))]; unfold dgI; rw [c_107]; rfl) ?_
          refine lv_lstore_n (lv' := [(1, .long (dg6 C m (i + 1) h0)), (5, .int (nI i)), (4, .ref (jA j (xr m 0))), (3, .int (nI m)), (0, .ref (jA j 0))]) hx hb dX0_digest_117 rfl hl (by decide) rfl (fun ls hl => ?_)
          refine lv_iinc (v := nI (i + 1)) (lv' := [(5, .int (nI (i + 1))), (1, .long (dg6 C m (i + 1) h0)), (4, .ref (jA j (xr m 0))), (3, .int (nI m)), (0, .ref (jA j 0))]) hx hb dX0_digest_118 hl (k := 1) rfl (nI_1 _) (by decide) rfl (fun ls hl => ?_)
          refine lv_goto (tgt := 71) hx hb dX0_digest_121 (by decide) ?_
          exact ih (i + 1) (by omega) (by omega) H locs ls G (lv_sub hl [0, 1, 2, 3, 4] rfl) kk
  have L1 : ∀ (n_ m : Nat), m ≤ cN C → cN C < m + n_ → ∀ (H : Heap) (locs : List Loc) (ls : Array Slot), xG D dA (xA dA C d j) C d j s0 H locs → lv_has ls 6 [(3, .int (nI m)), (1, .long (dg1 C d m)), (0, .ref (jA j 0))] → (∀ (H : Heap) (locs : List Loc) (ls : Array Slot), xG D dA (xA dA C d j) C d j s0 H locs → lv_has ls 6 [(3, .int (nI (cN C))), (1, .long (dg1 C d (cN C))), (0, .ref (jA j 0))] → W p0 l e0 (rm_ 2) s0 mid ([.ref (jA j 0)] : List Value).toArray bl0 me0 co0 H locs 0 0 (MQ bl0 (xQ D dA C d j (some (.long (dgL C d))) C d j) ([.ref (jA j 0)] : List Value).toArray s0 0 0 (xA dA C d j)) (F0 mid 196 ls [])) → W p0 l e0 (rm_ 2) s0 mid ([.ref (jA j 0)] : List Value).toArray bl0 me0 co0 H locs 0 0 (MQ bl0 (xQ D dA C d j (some (.long (dgL C d))) C d j) ([.ref (jA j 0)] : List Value).toArray s0 0 0 (xA dA C d j)) (F0 mid 24 ls []) := by
    intro n_
    induction n_ with
    | zero => intro m h1_ h2_; exact absurd h2_ (by omega)
    | succ n_ ih =>
      intro m h1_ h2_ H locs ls G hl kk
      have hk14 := hC.k m
      refine lv_iload_n hx hb dX0_digest_24 rfl (lv_at hl 0 rfl) ?_
      refine lv_aload_n hx hb dX0_digest_25 rfl (lv_at hl 2 rfl) ?_
      refine xx_getP S G 1 (by decide) q90 rfl (v := .int (nI (cN C))) rfl dX0_digest_26 ?_
      refine nn_cge (tgt := 196) hx hb (by omega) (by omega) dX0_digest_29 (by decide) (fun c_29 => ?_) (fun c_29 => ?_)
      · have hiN : m = cN C := by omega
        subst hiN
        exact kk H locs ls G (lv_sub hl [0, 1, 2] rfl)
      · refine lv_aload_n hx hb dX0_digest_32 rfl (lv_at hl 2 rfl) ?_
        refine xx_getP S G 0 (by decide) q89 rfl (v := .ref (jA j 1)) rfl dX0_digest_33 ?_
        refine lv_iload_n hx hb dX0_digest_36 rfl (lv_at hl 0 rfl) ?_
        refine xx_aald S G (r := 1) (by decide) (xW_p (by decide) rfl) (i := m) (by omega) (by decide) (o := some (jA j (xr m 0))) (if_pos (by omega)) dX0_digest_37 ?_
        refine W.eq (g2 := F0 mid 38 ls [.ref (jA j (xr m 0))]) rfl ?_
        refine lv_astore (lv' := [(4, .ref (jA j (xr m 0))), (3, .int (nI m)), (1, .long (dg1 C d m)), (0, .ref (jA j 0))]) hx hb dX0_digest_38 hl (by decide) rfl (fun ls hl => ?_)
        refine lv_ldc2 hx hb hown (hts _ q1260) dX0_digest_40 ?_
        refine lv_lload_n hx hb dX0_digest_43 rfl (lv_at hl 2 rfl) ?_
        refine lv_lmul hx hb dX0_digest_44 ?_
        refine lv_aload hx hb dX0_digest_45 (lv_at hl 0 rfl) ?_
        refine xx_get11 S G (mm := m) (by omega) hN (hC.k _) 0 (by decide) q203 rfl (v := .int (nI (cK C m))) rfl dX0_digest_47 ?_
        refine lv_i2l (v := (nI (cK C m)).toInt64) hx hb dX0_digest_50 rfl ?_
        refine lv_ladd hx hb dX0_digest_51 ?_
        refine w_st (st' := [.long (mxH (dg1 C d m) (nI (cK C m)).toInt64)]) (by rfl) ?_
        refine lv_lstore_n (lv' := [(1, .long (mxH (dg1 C d m) (nI (cK C m)).toInt64)), (4, .ref (jA j (xr m 0))), (3, .int (nI m)), (0, .ref (jA j 0))]) hx hb dX0_digest_52 rfl hl (by decide) rfl (fun ls hl => ?_)
        refine lv_ldc2 hx hb hown (hts _ q1260) dX0_digest_53 ?_
        refine lv_lload_n hx hb dX0_digest_56 rfl (lv_at hl 0 rfl) ?_
        refine lv_lmul hx hb dX0_digest_57 ?_
        refine lv_aload hx hb dX0_digest_58 (lv_at hl 1 rfl) ?_
        refine xx_get11 S G (mm := m) (by omega) hN (hC.k _) 1 (by decide) q213 rfl (v := .double (cS C m)) rfl dX0_digest_60 ?_
        refine sC_call (As := [.double (cS C m)]) (rest := [.long (31 * (mxH (dg1 C d m) (nI (cK C m)).toInt64))]) S (st_J0_doubleToLongBits l (cS C m) (bD_n (hV.s _))) q1155 q1156 q55 q1157 hd_J0_doubleToLongBits ⟨Nat.le_of_ble_eq_true rfl, Nat.le_of_ble_eq_true rfl⟩ rfl hl.1 rfl (Nat.le_of_ble_eq_true rfl) dX0_digest_63 ⟨Nat.zero_le _, Nat.zero_le _⟩ ?_
        refine W.eq (g2 := F0 mid 66 ls [.long (((cS C m)).toInt64), .long (31 * (mxH (dg1 C d m) (nI (cK C m)).toInt64))]) rfl ?_
        refine lv_ladd hx hb dX0_digest_66 ?_
        refine w_st (st' := [.long (mxH (mxH (dg1 C d m) (nI (cK C m)).toInt64) (cS C m).toInt64)]) (by rfl) ?_
        refine lv_lstore_n (lv' := [(1, .long (mxH (mxH (dg1 C d m) (nI (cK C m)).toInt64) (cS C m).toInt64)), (4, .ref (jA j (xr m 0))), (3, .int (nI m)), (0, .ref (jA j 0))]) hx hb dX0_digest_67 rfl hl (by decide) rfl (fun ls hl => ?_)
        refine lv_iconst (v := nI 0) hx hb dX0_digest_68 (by decide) ?_
        refine lv_istore (lv' := [(5, .int (nI 0)), (1, .long (mxH (mxH (dg1 C d m) (nI (cK C m)).toInt64) (cS C m).toInt64)), (4, .ref (jA j (xr m 0))), (3, .int (nI m)), (0, .ref (jA j 0))]) hx hb dX0_digest_69 hl (by decide) rfl (fun ls hl => ?_)
        refine L2 m (by omega) (mxH (mxH (dg1 C d m) (nI (cK C m)).toInt64) (cS C m).toInt64) 7 0 (by omega) (by omega) _ _ ls G (lv_eq (lv_sub (l' := [(5, .int (nI 0)), (1, .long (mxH (mxH (dg1 C d m) (nI (cK C m)).toInt64) (cS C m).toInt64)), (4, .ref (jA j (xr m 0))), (3, .int (nI m)), (0, .ref (jA j 0))]) hl [0, 1, 2, 3, 4] rfl) (by rfl)) (fun H locs ls G hl => ?_)
        refine lv_ldc2 hx hb hown (hts _ q1260) dX0_digest_124 ?_
        refine lv_lload_n hx hb dX0_digest_127 rfl (lv_at hl 1 rfl) ?_
        refine lv_lmul hx hb dX0_digest_128 ?_
        refine lv_aload hx hb dX0_digest_129 (lv_at hl 2 rfl) ?_
        refine xx_get11 S G (mm := m) (by omega) hN (hC.k _) 2 (by decide) q218 rfl (v := .double (cB C m)) rfl dX0_digest_131 ?_
        refine sC_call (As := [.double (cB C m)]) (rest := [.long (31 * (dg6 C m 6 (mxH (mxH (dg1 C d m) (nI (cK C m)).toInt64) (cS C m).toInt64)))]) S (st_J0_doubleToLongBits l (cB C m) (bD_n (hV.b _))) q1155 q1156 q55 q1157 hd_J0_doubleToLongBits ⟨Nat.le_of_ble_eq_true rfl, Nat.le_of_ble_eq_true rfl⟩ rfl hl.1 rfl (Nat.le_of_ble_eq_true rfl) dX0_digest_134 ⟨Nat.zero_le _, Nat.zero_le _⟩ ?_
        refine W.eq (g2 := F0 mid 137 ls [.long (((cB C m)).toInt64), .long (31 * (dg6 C m 6 (mxH (mxH (dg1 C d m) (nI (cK C m)).toInt64) (cS C m).toInt64)))]) rfl ?_
        refine lv_ladd hx hb dX0_digest_137 ?_
        refine w_st (st' := [.long (mxH (dg6 C m 6 (mxH (mxH (dg1 C d m) (nI (cK C m)).toInt64) (cS C m).toInt64)) (cB C m).toInt64)]) (by rfl) ?_
        refine lv_lstore_n (lv' := [(1, .long (mxH (dg6 C m 6 (mxH (mxH (dg1 C d m) (nI (cK C m)).toInt64) (cS C m).toInt64)) (cB C m).toInt64)), (5, .int (nI 6)), (4, .ref (jA j (xr m 0))), (3, .int (nI m)), (0, .ref (jA j 0))]) hx hb dX0_digest_138 rfl hl (by decide) rfl (fun ls hl => ?_)
        refine lv_aload_n hx hb dX0_digest_139 rfl (lv_at hl 4 rfl) ?_
        refine xx_getP S G 2 (by decide) q91 rfl (v := .int (nI (cM C))) rfl dX0_digest_140 ?_
        refine nz_eq (tgt := 190) hx hb (by omega) dX0_digest_143 (by decide) (fun c_143 => ?_) (fun c_143 => ?_)
        · refine lv_iinc (v := nI (m + 1)) (lv' := [(3, .int (nI (m + 1))), (1, .long (mxH (dg6 C m 6 (mxH (mxH (dg1 C d m) (nI (cK C m)).toInt64) (cS C m).toInt64)) (cB C m).toInt64)), (5, .int (nI 6)), (4, .ref (jA j (xr m 0))), (0, .ref (jA j 0))]) hx hb dX0_digest_190 hl (k := 3) rfl (nI_1 _) (by decide) rfl (fun ls hl => ?_)
          refine lv_goto (tgt := 24) hx hb dX0_digest_193 (by decide) ?_
          exact ih (m + 1) (by omega) (by omega) H locs ls G (lv_eq (lv_sub (l' := [(3, .int (nI (m + 1))), (1, .long (mxH (dg6 C m 6 (mxH (mxH (dg1 C d m) (nI (cK C m)).toInt64) (cS C m).toInt64)) (cB C m).toInt64)), (0, .ref (jA j 0))]) hl [0, 1, 4] rfl) (by show _ = [(3, Value.int (nI (m + 1))), (1, Value.long (dgM C d m (dg1 C d m))), (0, _)]; unfold dgM dgR; rw [if_pos c_143])) kk
        · refine lv_ldc2 hx hb hown (hts _ q1260) dX0_digest_146 ?_
          refine lv_lload_n hx hb dX0_digest_149 rfl (lv_at hl 0 rfl) ?_
          refine lv_lmul hx hb dX0_digest_150 ?_
          refine lv_aload hx hb dX0_digest_151 (lv_at hl 2 rfl) ?_
          refine xx_get11 S G (mm := m) (by omega) hN (hC.k _) 6 (by decide) q226 rfl (v := .double (dAD d 19 m)) rfl dX0_digest_153 ?_
          refine sC_call (As := [.double (dAD d 19 m)]) (rest := [.long (31 * (mxH (dg6 C m 6 (mxH (mxH (dg1 C d m) (nI (cK C m)).toInt64) (cS C m).toInt64)) (cB C m).toInt64))]) S (st_J0_doubleToLongBits l (dAD d 19 m) (bD_n (hR.rd _))) q1155 q1156 q55 q1157 hd_J0_doubleToLongBits ⟨Nat.le_of_ble_eq_true rfl, Nat.le_of_ble_eq_true rfl⟩ rfl hl.1 rfl (Nat.le_of_ble_eq_true rfl) dX0_digest_156 ⟨Nat.zero_le _, Nat.zero_le _⟩ ?_
          refine W.eq (g2 := F0 mid 159 ls [.long (((dAD d 19 m)).toInt64), .long (31 * (mxH (dg6 C m 6 (mxH (mxH (dg1 C d m) (nI (cK C m)).toInt64) (cS C m).toInt64)) (cB C m).toInt64))]) rfl ?_
          refine lv_ladd hx hb dX0_digest_159 ?_
          refine w_st (st' := [.long (mxH (mxH (dg6 C m 6 (mxH (mxH (dg1 C d m) (nI (cK C m)).toInt64) (cS C m).toInt64)) (cB C m).toInt64) (dAD d 19 m).toInt64)]) (by rfl) ?_
          refine lv_lstore_n (lv' := [(1, .long (mxH (mxH (dg6 C m 6 (mxH (mxH (dg1 C d m) (nI (cK C m)).toInt64) (cS C m).toInt64)) (cB C m).toInt64) (dAD d 19 m).toInt64)), (5, .int (nI 6)), (4, .ref (jA j (xr m 0))), (3, .int (nI m)), (0, .ref (jA j 0))]) hx hb dX0_digest_160 rfl hl (by decide) rfl (fun ls hl => ?_)
          refine lv_ldc2 hx hb hown (hts _ q1260) dX0_digest_161 ?_
          refine lv_lload_n hx hb dX0_digest_164 rfl (lv_at hl 0 rfl) ?_
          refine lv_lmul hx hb dX0_digest_165 ?_
          refine lv_aload hx hb dX0_digest_166 (lv_at hl 2 rfl) ?_
          refine xx_get11 S G (mm := m) (by omega) hN (hC.k _) 7 (by decide) q228 rfl (v := .float (dAF d 20 m)) rfl dX0_digest_168 ?_
          refine sC_call (As := [.float (dAF d 20 m)]) (rest := [.long (31 * (mxH (mxH (dg6 C m 6 (mxH (mxH (dg1 C d m) (nI (cK C m)).toInt64) (cS C m).toInt64)) (cB C m).toInt64) (dAD d 19 m).toInt64))]) S (st_J6_floatToIntBits l (dAF d 20 m) (bF_n (hR.rf _))) q1167 q1168 q78 q1169 hd_J6_floatToIntBits ⟨Nat.le_of_ble_eq_true rfl, Nat.le_of_ble_eq_true rfl⟩ rfl hl.1 rfl (Nat.le_of_ble_eq_true rfl) dX0_digest_171 ⟨Nat.zero_le _, Nat.zero_le _⟩ ?_
          refine W.eq (g2 := F0 mid 174 ls [.int (((dAF d 20 m)).toInt32), .long (31 * (mxH (mxH (dg6 C m 6 (mxH (mxH (dg1 C d m) (nI (cK C m)).toInt64) (cS C m).toInt64)) (cB C m).toInt64) (dAD d 19 m).toInt64))]) rfl ?_
          refine lv_i2l (v := (((dAF d 20 m)).toInt32).toInt64) hx hb dX0_digest_174 rfl ?_
          refine lv_ladd hx hb dX0_digest_175 ?_
          refine w_st (st' := [.long (mxH (mxH (mxH (dg6 C m 6 (mxH (mxH (dg1 C d m) (nI (cK C m)).toInt64) (cS C m).toInt64)) (cB C m).toInt64) (dAD d 19 m).toInt64) ((dAF d 20 m).toInt32).toInt64)]) (by rfl) ?_
          refine lv_lstore_n (lv' := [(1, .long (mxH (mxH (mxH (dg6 C m 6 (mxH (mxH (dg1 C d m) (nI (cK C m)).toInt64) (cS C m).toInt64)) (cB C m).toInt64) (dAD d 19 m).toInt64) ((dAF d 20 m).toInt32).toInt64)), (5, .int (nI 6)), (4, .ref (jA j (xr m 0))), (3, .int (nI m)), (0, .ref (jA j 0))]) hx hb dX0_digest_176 rfl hl (by decide) rfl (fun ls hl => ?_)
          refine lv_ldc2 hx hb hown (hts _ q1260) dX0_digest_177 ?_
          refine lv_lload_n hx hb dX0_digest_180 rfl (lv_at hl 0 rfl) ?_
          refine lv_lmul hx hb dX0_digest_181 ?_
          refine lv_aload hx hb dX0_digest_182 (lv_at hl 2 rfl) ?_
          refine xx_get11 S G (mm := m) (by omega) hN (hC.k _) 8 (by decide) q230 rfl (v := .int (dAI d 24 m)) rfl dX0_digest_184 ?_
          refine lv_i2l (v := (dAI d 24 m).toInt64) hx hb dX0_digest_187 rfl ?_
          refine lv_ladd hx hb dX0_digest_188 ?_
          refine w_st (st' := [.long (mxH (mxH (mxH (mxH (dg6 C m 6 (mxH (mxH (dg1 C d m) (nI (cK C m)).toInt64) (cS C m).toInt64)) (cB C m).toInt64) (dAD d 19 m).toInt64) ((dAF d 20 m).toInt32).toInt64) (dAI d 24 m).toInt64)]) (by rfl) ?_
          refine lv_lstore_n (lv' := [(1, .long (mxH (mxH (mxH (mxH (dg6 C m 6 (mxH (mxH (dg1 C d m) (nI (cK C m)).toInt64) (cS C m).toInt64)) (cB C m).toInt64) (dAD d 19 m).toInt64) ((dAF d 20 m).toInt32).toInt64) (dAI d 24 m).toInt64)), (5, .int (nI 6)), (4, .ref (jA j (xr m 0))), (3, .int (nI m)), (0, .ref (jA j 0))]) hx hb dX0_digest_189 rfl hl (by decide) rfl (fun ls hl => ?_)
          refine lv_iinc (v := nI (m + 1)) (lv' := [(3, .int (nI (m + 1))), (1, .long (mxH (mxH (mxH (mxH (dg6 C m 6 (mxH (mxH (dg1 C d m) (nI (cK C m)).toInt64) (cS C m).toInt64)) (cB C m).toInt64) (dAD d 19 m).toInt64) ((dAF d 20 m).toInt32).toInt64) (dAI d 24 m).toInt64)), (5, .int (nI 6)), (4, .ref (jA j (xr m 0))), (0, .ref (jA j 0))]) hx hb dX0_digest_190 hl (k := 3) rfl (nI_1 _) (by decide) rfl (fun ls hl => ?_)
          refine lv_goto (tgt := 24) hx hb dX0_digest_193 (by decide) ?_
          exact ih (m + 1) (by omega) (by omega) H locs ls G (lv_eq (lv_sub (l' := [(3, .int (nI (m + 1))), (1, .long (mxH (mxH (mxH (mxH (dg6 C m 6 (mxH (mxH (dg1 C d m) (nI (cK C m)).toInt64) (cS C m).toInt64)) (cB C m).toInt64) (dAD d 19 m).toInt64) ((dAF d 20 m).toInt32).toInt64) (dAI d 24 m).toInt64)), (0, .ref (jA j 0))]) hl [0, 1, 4] rfl) (by show _ = [(3, Value.int (nI (m + 1))), (1, Value.long (dgM C d m (dg1 C d m))), (0, _)]; unfold dgM dgR; rw [if_neg c_143])) kk
  have L4 : ∀ (s : Nat) (hs : s < cZ C) (hc : cntN d s ≤ 120) (h0 : Int64) (n_ i : Nat), i ≤ cntN d s → cntN d s < i + n_ → ∀ (H : Heap) (locs : List Loc) (ls : Array Slot), xG D dA (xA dA C d j) C d j s0 H locs → lv_has ls 6 [(4, .int (nI i)), (1, .long (dgT d s i h0)), (3, .int (nI s)), (0, .ref (jA j 0))] → (∀ (H : Heap) (locs : List Loc) (ls : Array Slot), xG D dA (xA dA C d j) C d j s0 H locs → lv_has ls 6 [(4, .int (nI (cntN d s))), (1, .long (dgT d s (cntN d s) h0)), (3, .int (nI s)), (0, .ref (jA j 0))] → W p0 l e0 (rm_ 2) s0 mid ([.ref (jA j 0)] : List Value).toArray bl0 me0 co0 H locs 0 0 (MQ bl0 (xQ D dA C d j (some (.long (dgL C d))) C d j) ([.ref (jA j 0)] : List Value).toArray s0 0 0 (xA dA C d j)) (F0 mid 262 ls [])) → W p0 l e0 (rm_ 2) s0 mid ([.ref (jA j 0)] : List Value).toArray bl0 me0 co0 H locs 0 0 (MQ bl0 (xQ D dA C d j (some (.long (dgL C d))) C d j) ([.ref (jA j 0)] : List Value).toArray s0 0 0 (xA dA C d j)) (F0 mid 223 ls []) := by
    intro s hs hc h0 n_
    induction n_ with
    | zero => intro i h1_ h2_; exact absurd h2_ (by omega)
    | succ n_ ih =>
      intro i h1_ h2_ H locs ls G hl kk
      refine lv_iload hx hb dX0_digest_223 (lv_at hl 0 rfl) ?_
      refine lv_aload_n hx hb dX0_digest_225 rfl (lv_at hl 3 rfl) ?_
      refine xx_getP S G 11 (by decide) q100 rfl (v := .ref (jA j 4)) rfl dX0_digest_226 ?_
      refine lv_iload_n hx hb dX0_digest_229 rfl (lv_at hl 2 rfl) ?_
      refine xx_iald S G (r := 4) (by decide) (xW_p (by decide) rfl) 0 rfl (i := s) (by omega) (by decide) (v := nI (cntN d s)) (hSm.eq s) dX0_digest_230 ?_
      refine nn_cge (tgt := 262) hx hb (by omega) (by omega) dX0_digest_231 (by decide) (fun c_231 => ?_) (fun c_231 => ?_)
      · have hiN : i = cntN d s := by omega
        subst hiN
        exact kk H locs ls G (lv_sub hl [0, 1, 2, 3] rfl)
      · refine lv_ldc2 hx hb hown (hts _ q1260) dX0_digest_234 ?_
        refine lv_lload_n hx hb dX0_digest_237 rfl (lv_at hl 1 rfl) ?_
        refine lv_lmul hx hb dX0_digest_238 ?_
        refine lv_aload_n hx hb dX0_digest_239 rfl (lv_at hl 3 rfl) ?_
        refine xx_getP S G 10 (by decide) q99 rfl (v := .ref (jA j 3)) rfl dX0_digest_240 ?_
        refine lv_bipush (v := nI 120) hx hb dX0_digest_243 (by decide) ?_
        refine lv_iload_n hx hb dX0_digest_245 rfl (lv_at hl 2 rfl) ?_
        refine nn_mul hx hb dX0_digest_246 ?_
        refine lv_iload hx hb dX0_digest_247 (lv_at hl 0 rfl) ?_
        refine nn_add hx hb dX0_digest_249 ?_
        refine xx_dald S G (r := 3) (by decide) (xW_p (by decide) rfl) 2 rfl (i := 120 * s + i) (by omega) (by decide) (v := dAD d 40 (120 * s + i)) rfl dX0_digest_250 ?_
        refine sC_call (As := [.double (dAD d 40 (120 * s + i))]) (rest := [.long (31 * (dgT d s i h0))]) S (st_J0_doubleToLongBits l (dAD d 40 (120 * s + i)) (bD_n (hq _))) q1155 q1156 q55 q1157 hd_J0_doubleToLongBits ⟨Nat.le_of_ble_eq_true rfl, Nat.le_of_ble_eq_true rfl⟩ rfl hl.1 rfl (Nat.le_of_ble_eq_true rfl) dX0_digest_251 ⟨Nat.zero_le _, Nat.zero_le _⟩ ?_
        refine W.eq (g2 := F0 mid 254 ls [.long (((dAD d 40 (120 * s + i))).toInt64), .long (31 * (dgT d s i h0))]) rfl ?_
        refine lv_ladd hx hb dX0_digest_254 ?_
        refine w_st (st' := [.long (dgT d s (i + 1) h0)]) (by rfl) ?_
        refine lv_lstore_n (lv' := [(1, .long (dgT d s (i + 1) h0)), (4, .int (nI i)), (3, .int (nI s)), (0, .ref (jA j 0))]) hx hb dX0_digest_255 rfl hl (by decide) rfl (fun ls hl => ?_)
        refine lv_iinc (v := nI (i + 1)) (lv' := [(4, .int (nI (i + 1))), (1, .long (dgT d s (i + 1) h0)), (3, .int (nI s)), (0, .ref (jA j 0))]) hx hb dX0_digest_256 hl (k := 1) rfl (nI_1 _) (by decide) rfl (fun ls hl => ?_)
        refine lv_goto (tgt := 223) hx hb dX0_digest_259 (by decide) ?_
        exact ih (i + 1) (by omega) (by omega) H locs ls G (lv_sub hl [0, 1, 2, 3] rfl) kk
  have L3 : ∀ (n_ s : Nat), s ≤ cZ C → cZ C < s + n_ → ∀ (H : Heap) (locs : List Loc) (ls : Array Slot), xG D dA (xA dA C d j) C d j s0 H locs → lv_has ls 6 [(3, .int (nI s)), (1, .long (dg2 C d s)), (0, .ref (jA j 0))] → (∀ (H : Heap) (locs : List Loc) (ls : Array Slot), xG D dA (xA dA C d j) C d j s0 H locs → lv_has ls 6 [(3, .int (nI (cZ C))), (1, .long (dg2 C d (cZ C))), (0, .ref (jA j 0))] → W p0 l e0 (rm_ 2) s0 mid ([.ref (jA j 0)] : List Value).toArray bl0 me0 co0 H locs 0 0 (MQ bl0 (xQ D dA C d j (some (.long (dgL C d))) C d j) ([.ref (jA j 0)] : List Value).toArray s0 0 0 (xA dA C d j)) (F0 mid 268 ls [])) → W p0 l e0 (rm_ 2) s0 mid ([.ref (jA j 0)] : List Value).toArray bl0 me0 co0 H locs 0 0 (MQ bl0 (xQ D dA C d j (some (.long (dgL C d))) C d j) ([.ref (jA j 0)] : List Value).toArray s0 0 0 (xA dA C d j)) (F0 mid 198 ls []) := by
    intro n_
    induction n_ with
    | zero => intro s h1_ h2_; exact absurd h2_ (by omega)
    | succ n_ ih =>
      intro s h1_ h2_ H locs ls G hl kk
      have hc := hSm.le s
      refine lv_iload_n hx hb dX0_digest_198 rfl (lv_at hl 0 rfl) ?_
      refine lv_aload_n hx hb dX0_digest_199 rfl (lv_at hl 2 rfl) ?_
      refine xx_getP S G 9 (by decide) q98 rfl (v := .int (nI (cZ C))) rfl dX0_digest_200 ?_
      refine nn_cge (tgt := 268) hx hb (by omega) (by omega) dX0_digest_203 (by decide) (fun c_203 => ?_) (fun c_203 => ?_)
      · have hiN : s = cZ C := by omega
        subst hiN
        exact kk H locs ls G (lv_sub hl [0, 1, 2] rfl)
      · refine lv_ldc2 hx hb hown (hts _ q1260) dX0_digest_206 ?_
        refine lv_lload_n hx hb dX0_digest_209 rfl (lv_at hl 1 rfl) ?_
        refine lv_lmul hx hb dX0_digest_210 ?_
        refine lv_aload_n hx hb dX0_digest_211 rfl (lv_at hl 2 rfl) ?_
        refine xx_getP S G 11 (by decide) q100 rfl (v := .ref (jA j 4)) rfl dX0_digest_212 ?_
        refine lv_iload_n hx hb dX0_digest_215 rfl (lv_at hl 0 rfl) ?_
        refine xx_iald S G (r := 4) (by decide) (xW_p (by decide) rfl) 0 rfl (i := s) (by omega) (by decide) (v := nI (cntN d s)) (hSm.eq s) dX0_digest_216 ?_
        refine lv_i2l (v := (nI (cntN d s)).toInt64) hx hb dX0_digest_217 rfl ?_
        refine lv_ladd hx hb dX0_digest_218 ?_
        refine w_st (st' := [.long (mxH (dg2 C d s) (nI (cntN d s)).toInt64)]) (by rfl) ?_
        refine lv_lstore_n (lv' := [(1, .long (mxH (dg2 C d s) (nI (cntN d s)).toInt64)), (3, .int (nI s)), (0, .ref (jA j 0))]) hx hb dX0_digest_219 rfl hl (by decide) rfl (fun ls hl => ?_)
        refine lv_iconst (v := nI 0) hx hb dX0_digest_220 (by decide) ?_
        refine lv_istore (lv' := [(4, .int (nI 0)), (1, .long (mxH (dg2 C d s) (nI (cntN d s)).toInt64)), (3, .int (nI s)), (0, .ref (jA j 0))]) hx hb dX0_digest_221 hl (by decide) rfl (fun ls hl => ?_)
        refine L4 s (by omega) hc (mxH (dg2 C d s) (nI (cntN d s)).toInt64) (cntN d s + 1) 0 (by omega) (by omega) _ _ ls G (lv_eq (lv_sub (l' := [(4, .int (nI 0)), (1, .long (mxH (dg2 C d s) (nI (cntN d s)).toInt64)), (3, .int (nI s)), (0, .ref (jA j 0))]) hl [0, 1, 2, 3] rfl) (by rfl)) (fun H locs ls G hl => ?_)
        refine lv_iinc (v := nI (s + 1)) (lv' := [(3, .int (nI (s + 1))), (4, .int (nI (cntN d s))), (1, .long (dgT d s (cntN d s) (mxH (dg2 C d s) (nI (cntN d s)).toInt64))), (0, .ref (jA j 0))]) hx hb dX0_digest_262 hl (k := 2) rfl (nI_1 _) (by decide) rfl (fun ls hl => ?_)
        refine lv_goto (tgt := 198) hx hb dX0_digest_265 (by decide) ?_
        exact ih (s + 1) (by omega) (by omega) H locs ls G (lv_eq (lv_sub (l' := [(3, .int (nI (s + 1))), (1, .long (dgT d s (cntN d s) (mxH (dg2 C d s) (nI (cntN d s)).toInt64))), (0, .ref (jA j 0))]) hl [0, 2, 3] rfl) (by rfl)) kk
  refine lv_ldc2 hx hb hown (hts _ q1259) dX0_digest_0 ?_
  refine lv_aload_n hx hb dX0_digest_3 rfl (lv_at hl 0 rfl) ?_
  refine xx_getP S G 2 (by decide) q91 rfl (v := .int (nI (cM C))) rfl dX0_digest_4 ?_
  refine lv_i2l (v := (nI (cM C)).toInt64) hx hb dX0_digest_7 rfl ?_
  refine lv_ladd hx hb dX0_digest_8 ?_
  refine lv_lstore_n (lv' := [(1, .long (1457 + ((nI (cM C)).toInt64))), (0, .ref (jA j 0))]) hx hb dX0_digest_9 rfl hl (by decide) rfl (fun ls hl => ?_)
  refine lv_ldc2 hx hb hown (hts _ q1260) dX0_digest_10 ?_
  refine lv_lload_n hx hb dX0_digest_13 rfl (lv_at hl 0 rfl) ?_
  refine lv_lmul hx hb dX0_digest_14 ?_
  refine lv_aload_n hx hb dX0_digest_15 rfl (lv_at hl 1 rfl) ?_
  refine xx_getP S G 5 (by decide) q94 rfl (v := .int (dI d 12)) rfl dX0_digest_16 ?_
  refine lv_i2l (v := (dI d 12).toInt64) hx hb dX0_digest_19 rfl ?_
  refine lv_ladd hx hb dX0_digest_20 ?_
  refine w_st (st' := [.long (mxH (mxH 47 (nI (cM C)).toInt64) (dI d 12).toInt64)]) (by rfl) ?_
  refine lv_lstore_n (lv' := [(1, .long (mxH (mxH 47 (nI (cM C)).toInt64) (dI d 12).toInt64)), (0, .ref (jA j 0))]) hx hb dX0_digest_21 rfl hl (by decide) rfl (fun ls hl => ?_)
  refine lv_iconst (v := nI 0) hx hb dX0_digest_22 (by decide) ?_
  refine lv_istore_n (lv' := [(3, .int (nI 0)), (1, .long (mxH (mxH 47 (nI (cM C)).toInt64) (dI d 12).toInt64)), (0, .ref (jA j 0))]) hx hb dX0_digest_23 rfl hl (by decide) rfl (fun ls hl => ?_)
  refine L1 (cN C + 1) 0 (by omega) (by omega) _ _ ls G (lv_eq (lv_sub (l' := [(3, .int (nI 0)), (1, .long (mxH (mxH 47 (nI (cM C)).toInt64) (dI d 12).toInt64)), (0, .ref (jA j 0))]) hl [0, 1, 2] rfl) (by rfl)) (fun H locs ls G hl => ?_)
  refine lv_iconst (v := nI 0) hx hb dX0_digest_196 (by decide) ?_
  refine lv_istore_n (lv' := [(3, .int (nI 0)), (1, .long (dg1 C d (cN C))), (0, .ref (jA j 0))]) hx hb dX0_digest_197 rfl hl (by decide) rfl (fun ls hl => ?_)
  refine L3 (cZ C + 1) 0 (by omega) (by omega) _ _ ls G (lv_eq (lv_sub (l' := [(3, .int (nI 0)), (1, .long (dg1 C d (cN C))), (0, .ref (jA j 0))]) hl [0, 1, 2] rfl) (by rfl)) (fun H locs ls G hl => ?_)
  refine lv_lload_n hx hb dX0_digest_268 rfl (lv_at hl 1 rfl) ?_
  exact xx_lret S hr hlk G (by rfl) rfl dX0_digest_269
theorem xt_X0_begin (l : Launch) (D : va_G) (dA : Nat → ClassId) (C : tp_C) (d : md_T) (j : xj_T) (m : Int32) (v : Int64) (hC : mOK C) : xC l D dA yX0_begin cX0_begin 4 (some .int) 2 [.ref (jA j 0), .int m, .long v] C d j (some (.int (bgR C m v))) (bgC C m v) d j := by
  refine xx_start (own := RX0) (by decide) rfl (Nat.le_of_ble_eq_true rfl) ?_
  intro p0 e0 s0 mid bl0 me0 co0 ls S hr hlk G hl
  have hx := S.1; have hb := S.2.1; have hml := S.2.2.1; have hown := S.2.2.2.1; have hts := S.2.2.2.2; have hN := hC.n
  have hl : lv_has ls 4 [(0, .ref (jA j 0)), (1, .int m), (2, .long v)] := hl
  have hMo := hC.mo
  have hZ := hC.z
  refine lv_aload_n hx hb dX0_begin_0 rfl (lv_at hl 0 rfl) ?_
  refine lv_iload_n hx hb dX0_begin_1 rfl (lv_at hl 1 rfl) ?_
  refine xx_callP (As := [.int m]) (rest := []) S G (xt_X0_isModule l D dA C d j m hC) q575 q577 qs0 q578 hd_X0_isModule ⟨Nat.le_of_ble_eq_true rfl, Nat.le_of_ble_eq_true rfl⟩ rfl hl.1 rfl (Nat.le_of_ble_eq_true rfl) dX0_begin_2 ⟨Nat.zero_le _, Nat.zero_le _⟩ (fun H locs G => ?_)
  refine W.eq (g2 := F0 mid 5 ls [.int (bI (inB m (nI 0) (nI (cN C) - nI 1)))]) rfl ?_
  refine bb_ne (tgt := 11) hx hb dX0_begin_5 (by decide) (fun c_5 => ?_) (fun c_5 => ?_)
  · obtain ⟨u, hu, rfl⟩ := im_nat c_5 hN
    have ij_u : ixN (nI u) = u := ixN_nI (by omega)
    refine lv_lload_n hx hb dX0_begin_11 rfl (lv_at hl 2 rfl) ?_
    refine lv_ldc2d hx hb hown (hts _ q583) dX0_begin_12 ?_
    refine lv_ldc2d hx hb hown (hts _ q187) dX0_begin_15 ?_
    refine sC_call (As := [.long v, .double 13832806255468478464, .double 4609434218613702656]) (rest := []) S (st_X0_isWithin l v 13832806255468478464 4609434218613702656) q156 q157 q52 q158 hd_X0_isWithin ⟨Nat.le_of_ble_eq_true rfl, Nat.le_of_ble_eq_true rfl⟩ rfl hl.1 rfl (Nat.le_of_ble_eq_true rfl) dX0_begin_18 ⟨Nat.zero_le _, Nat.zero_le _⟩ ?_
    refine W.eq (g2 := F0 mid 21 ls [.int (bI (nbB v && wiB v.toUInt64 13832806255468478464 4609434218613702656))]) rfl ?_
    refine bb_eq (tgt := 36) hx hb dX0_begin_21 (by decide) (fun c_21 => ?_) (fun c_21 => ?_)
    · refine lv_bipush (v := (-102)) hx hb dX0_begin_36 (by decide) ?_
      exact xx_iret S hr hlk G (by simp [bgR, bgC, bgB, imB, smB, c_5, ij_u, c_21] <;> rfl) (xL_e (by simp [bgR, bgC, bgB, imB, smB, c_5, ij_u, c_21] <;> rfl) rfl rfl) dX0_begin_38
    · refine lv_aload_n hx hb dX0_begin_24 rfl (lv_at hl 0 rfl) ?_
      refine xx_getP S G 0 (by decide) q89 rfl (v := .ref (jA j 1)) rfl dX0_begin_25 ?_
      refine lv_iload_n hx hb dX0_begin_28 rfl (lv_at hl 1 rfl) ?_
      refine xx_aald S G (r := 1) (by decide) (xW_p (by decide) rfl) (i := u) (by omega) (by decide) (o := some (jA j (xr u 0))) (if_pos (by omega)) dX0_begin_29 ?_
      refine W.eq (g2 := F0 mid 30 ls [.ref (jA j (xr u 0))]) rfl ?_
      refine xo_remembers (mm := u) (rest := []) S G hC (by omega) ⟨Nat.le_of_ble_eq_true rfl, Nat.le_of_ble_eq_true rfl⟩ ⟨Nat.zero_le _, Nat.zero_le _⟩ hl.1 (Nat.le_of_ble_eq_true rfl) dX0_begin_30 (fun H locs G => ?_)
      refine W.eq (g2 := F0 mid 33 ls [.int (bI (rmB (cK C u)))]) rfl ?_
      refine bb_ne (tgt := 39) hx hb dX0_begin_33 (by decide) (fun c_33 => ?_) (fun c_33 => ?_)
      · refine lv_aload_n hx hb dX0_begin_39 rfl (lv_at hl 0 rfl) ?_
        refine xx_getP S G 2 (by decide) q91 rfl (v := .int (nI (cM C))) rfl dX0_begin_40 ?_
        refine nz_eq (tgt := 49) hx hb (by omega) dX0_begin_43 (by decide) (fun c_43 => ?_) (fun c_43 => ?_)
        · refine lv_aload_n hx hb dX0_begin_49 rfl (lv_at hl 0 rfl) ?_
          refine xx_getP S G 0 (by decide) q89 rfl (v := .ref (jA j 1)) rfl dX0_begin_50 ?_
          refine lv_iload_n hx hb dX0_begin_53 rfl (lv_at hl 1 rfl) ?_
          refine xx_aald S G (r := 1) (by decide) (xW_p (by decide) rfl) (i := u) (by omega) (by decide) (o := some (jA j (xr u 0))) (if_pos (by omega)) dX0_begin_54 ?_
          refine W.eq (g2 := F0 mid 55 ls [.ref (jA j (xr u 0))]) rfl ?_
          refine lv_lload_n hx hb dX0_begin_55 rfl (lv_at hl 2 rfl) ?_
          refine vn_l2d hx hb (hml.trans hl.1.symm) hown (hts _ q164) (hts _ q166) (hts _ q165) (hts _ q55) (nb_sn (nb_n (sm_nb c_21))) (Nat.le_of_ble_eq_true rfl) (Nat.le_of_ble_eq_true rfl) dX0_begin_56 ?_
          refine xx_put11 S G (mm := u) (by omega) hN (hC.k _) 2 (by decide) q218 rfl rfl rfl rfl (xs_start (by omega)) dX0_begin_59 (fun H locs G => ?_)
          refine lv_iconst (v := nI 1) hx hb dX0_begin_62 (by decide) ?_
          exact xx_iret S hr hlk G (by simp [bgR, bgC, bgB, imB, smB, c_5, ij_u, c_21, c_33, c_43] <;> rfl) (xL_e (by simp [bgR, bgC, bgB, imB, smB, c_5, ij_u, c_21, c_33, c_43] <;> rfl) rfl rfl) dX0_begin_63
        · refine lv_bipush (v := (-103)) hx hb dX0_begin_46 (by decide) ?_
          exact xx_iret S hr hlk G (by simp [bgR, bgC, bgB, imB, smB, c_5, ij_u, c_21, c_33, c_43] <;> rfl) (xL_e (by simp [bgR, bgC, bgB, imB, smB, c_5, ij_u, c_21, c_33, c_43] <;> rfl) rfl rfl) dX0_begin_48
      · refine lv_bipush (v := (-102)) hx hb dX0_begin_36 (by decide) ?_
        exact xx_iret S hr hlk G (by simp [bgR, bgC, bgB, imB, smB, c_5, ij_u, c_21, c_33] <;> rfl) (xL_e (by simp [bgR, bgC, bgB, imB, smB, c_5, ij_u, c_21, c_33] <;> rfl) rfl rfl) dX0_begin_38
  · refine lv_bipush (v := (-101)) hx hb dX0_begin_8 (by decide) ?_
    exact xx_iret S hr hlk G (by simp [bgR, bgC, bgB, imB, smB, c_5] <;> rfl) (xL_e (by simp [bgR, bgC, bgB, imB, smB, c_5] <;> rfl) rfl rfl) dX0_begin_10
theorem fa_eq {C : tp_C} {e : md_T} {i : Nat} (h : flN (wM C 2) e = some i) : faI C (dI e 12 + nI 1) = nI i := by
  unfold faI
  have h2 : fi_ (fun m => decide (nI (cA C m) = dI e 12 + nI 1)) (cN C) = some i := h
  rw [h2]
theorem fa_some {C : tp_C} {e : md_T} (h : ¬ faI C (dI e 12 + nI 1) = -1) : ∃ i, flN (wM C 2) e = some i := by
  cases hf : flN (wM C 2) e with
  | some i => exact ⟨i, rfl⟩
  | none =>
    exfalso; apply h
    unfold faI
    have h2 : fi_ (fun m => decide (nI (cA C m) = dI e 12 + nI 1)) (cN C) = none := hf
    rw [h2]
theorem fa_none {C : tp_C} {e : md_T} (hC : mOK C) (h : faI C (dI e 12 + nI 1) = -1) : flN (wM C 2) e = none := by
  cases hf : flN (wM C 2) e with
  | none => rfl
  | some i =>
    exfalso
    rw [fa_eq hf] at h
    have h3 : i < cN C := (fi_inv hf).1
    have hN := hC.n
    exact nI_nm1 (by omega) h
theorem xt_X0_run (l : Launch) (D : va_G) (dA : Nat → ClassId) (C : tp_C) (d : md_T) (j : xj_T) (n : Int32) (hC : mOK C) (hV : vOK C) (hA : (¬ cM C = 0 → aOK C)) (hDl : dlOK C) (hI : iOK C (dAI d 10) d) (hSm : smOK d) (hJ : jOK C d j) (hO : (¬ cM C = 0 → orOK C (dAI d 10) j)) (hw : wrOK j) (hDj : (¬ cM C = 0 → ∀ m, m < cN C → cK C m = 11 → jDn j m = some (dlN C m) ∧ 1 ≤ dlN C m ∧ dlN C m ≤ 16)) (hDn : dnOK j) (hap : apOK d) (h11 : ∀ m, cK C m = 11 → m < cN C) (hE : eqS C d) : xC l D dA yX0_run cX0_run 6 (some .int) 10 [.ref (jA j 0), .int n] C d j (some (.int (rnI C d n))) (rnC C d n) (rnD C d n) (rnK C d n j) := by
  refine xx_start (own := RX0) (by decide) rfl (Nat.le_of_ble_eq_true rfl) ?_
  intro p0 e0 s0 mid bl0 me0 co0 ls S hr hlk G hl
  have hx := S.1; have hb := S.2.1; have hml := S.2.2.1; have hown := S.2.2.2.1; have hts := S.2.2.2.2; have hN := hC.n
  have hl : lv_has ls 6 [(0, .ref (jA j 0)), (1, .int n)] := hl
  have hMo := hC.mo
  have hZ := hC.z
  have hH := hC.hv
  have hCr := hC.r
  have hc0 := hSm.le 0
  have L3 : ∀ (n1 : Nat) (hn1 : n1 ≤ 100) (hAA : aOK C) (hC2 : rnC C d n = wM C 2) (n_ : Nat) (k : Nat) (e : md_T) (jj : xj_T), (n1 < k + n_) → (k ≤ n1) → (rnR (wM C 2) n1 (n1 - k) e = (rnI C d n, rnD C d n)) → (rnJ (wM C 2) (n1 - k) e jj = rnK C d n j) → (iOK (wM C 2) (dAI d 10) e) → (smOK e) → (∀ s, s < cZ C → cntN e s + (n1 - k) ≤ 120) → (jOK (wM C 2) e jj) → (orOK (wM C 2) (dAI d 10) jj) → (wrOK jj) → (∀ m, m < cN C → cK C m = 11 → jDn jj m = some (dlN C m) ∧ 1 ≤ dlN C m ∧ dlN C m ≤ 16) → (dnOK jj) → (apOK e) → ∀ (H : Heap) (locs : List Loc) (ls : Array Slot), xG D dA (xA dA C d j) (wM C 2) e jj s0 H locs → lv_has ls 6 [(4, .int (nI k)), (1, .int (nI n1)), (2, .double (hvT (cH C))), (0, .ref (jA jj 0))] → W p0 l e0 (rm_ 10) s0 mid ([.ref (jA j 0), .int n] : List Value).toArray bl0 me0 co0 H locs 0 0 (MQ bl0 (xQ D dA C d j (some (.int (rnI C d n))) (rnC C d n) (rnD C d n) (rnK C d n j)) ([.ref (jA j 0), .int n] : List Value).toArray s0 0 0 (xA dA C d j)) (F0 mid 74 ls []) := by
    intro n1 hn1 hAA hC2 n_
    induction n_ with
    | zero => intro k e jj h2_ h3_ hRes hRj hie hse hce hJe hOe hwe hDje hDne hape; exfalso; omega
    | succ n_ ih =>
      intro k e jj h2_ h3_ hRes hRj hie hse hce hJe hOe hwe hDje hDne hape H locs ls G hl
      have hC2o : mOK (wM C 2) := mOK_wM hC (by decide)
      refine lv_iload hx hb dX0_run_74 (lv_at hl 0 rfl) ?_
      refine lv_iload_n hx hb dX0_run_76 rfl (lv_at hl 1 rfl) ?_
      refine nn_cge (tgt := 130) hx hb (by omega) (by omega) dX0_run_77 (by decide) (fun c_77 => ?_) (fun c_77 => ?_)
      · have e0_ : n1 - k = 0 := by omega
        rw [e0_] at hRes hRj
        obtain ⟨g1, g2⟩ := Prod.mk.inj hRes
        have g3 : jj = rnK C d n j := hRj
        refine lv_iload_n hx hb dX0_run_130 rfl (lv_at hl 1 rfl) ?_
        exact xx_iret S hr hlk G (by exact g1) (xL_e (by exact hC2.symm) (by exact g2) (by exact g3)) dX0_run_131
      · refine lv_aload_n hx hb dX0_run_80 rfl (lv_at hl 3 rfl) ?_
        refine lv_aload_n hx hb dX0_run_81 rfl (lv_at hl 3 rfl) ?_
        refine xx_getP (j := jj) S G 5 (by decide) q94 rfl (v := .int (dI e 12)) rfl dX0_run_82 ?_
        refine lv_iconst (v := nI 1) hx hb dX0_run_85 (by decide) ?_
        refine lv_iadd hx hb dX0_run_86 ?_
        refine xx_callP (j := jj) (As := [.int ((dI e 12) + (nI 1))]) (rest := []) S G (xt_X0_failing l D dA (wM C 2) e jj ((dI e 12) + (nI 1)) hC2o) q1022 q1024 qs9 q1025 hd_X0_failing ⟨Nat.le_of_ble_eq_true rfl, Nat.le_of_ble_eq_true rfl⟩ rfl hl.1 rfl (Nat.le_of_ble_eq_true rfl) dX0_run_87 ⟨Nat.zero_le _, Nat.zero_le _⟩ (fun H locs G => ?_)
        refine W.eq (g2 := F0 mid 90 ls [.int (faI (wM C 2) ((dI e 12) + (nI 1)))]) rfl ?_
        refine lv_istore (lv' := [(5, .int (faI (wM C 2) ((dI e 12) + (nI 1)))), (4, .int (nI k)), (1, .int (nI n1)), (2, .double (hvT (cH C))), (0, .ref (jA jj 0))]) hx hb dX0_run_90 hl (by decide) rfl (fun ls hl => ?_)
        refine lv_iload hx hb dX0_run_92 (lv_at hl 0 rfl) ?_
        refine lv_iconst (v := (-1)) hx hb dX0_run_94 (by decide) ?_
        refine lv_icmp_eq (tgt := 105) hx hb dX0_run_95 (by decide) (fun c_95 => ?_) (fun c_95 => ?_)
        · have f2 : flN (wM C 2) e = none := fa_none hC c_95
          have hce1 : ∀ s, s < cZ (wM C 2) → cntN e s < 120 := fun s hs => by have := hce s hs; omega
          have G : xG D dA (xA dA C d j) (wM C 2) (uI e 44 (dI e 12 + nI 1)) jj s0 H locs := xG_d (xL_v (d' := uI e 44 (dI e 12 + nI 1)) rfl) G
          have hi44 : iOK (wM C 2) (dAI d 10) (uI e 44 (dI e 12 + nI 1)) := iOK_mv hie rfl rfl rfl
          refine lv_aload_n hx hb dX0_run_105 rfl (lv_at hl 4 rfl) ?_
          refine lv_dload_n hx hb dX0_run_106 rfl (lv_at hl 3 rfl) ?_
          refine xx_callP (j := jj) (As := [.double (hvT (cH C))]) (rest := []) S G (xt_X0_step l D dA (wM C 2) (uI e 44 (dI e 12 + nI 1)) jj (hvT (cH C)) hC2o (vOK_w C 2 hV) (aOK_w C 2 hAA) hDl (show iOK (wM C 2) (dAI e 10) (uI e 44 (dI e 12 + nI 1)) from by rw [hie.l]; exact hi44) (hv_ok (by omega)) (hv_ok (k := cH C + 1) (by omega)) (hv_h (by omega)) hJe (show orOK (wM C 2) (dAI e 10) jj from by rw [hie.l]; exact hOe) rfl hwe hDje hDne (apOK_mv (d := e) rfl hape) h11) q1026 q1028 qs10 q1029 hd_X0_step ⟨Nat.le_of_ble_eq_true rfl, Nat.le_of_ble_eq_true rfl⟩ rfl hl.1 rfl (Nat.le_of_ble_eq_true rfl) dX0_run_107 ⟨Nat.zero_le _, Nat.zero_le _⟩ (fun H locs G => ?_)
          refine W.eq (g2 := F0 mid 110 ls []) rfl ?_
          obtain ⟨y1, y2, y3, -, -⟩ := stJ_f (wM C 2) (hvT (cH C)) (uI e 44 (dI e 12 + nI 1)) jj
          have w2 := wrOK_st (j := jj) hC2o (vOK_w C 2 hV) (aOK_w C 2 hAA) (hv_ok (by omega)) (hv_ok (k := cH C + 1) (by omega)) hi44 hwe
          have j2o := jOK_st (C := wM C 2) (t := hvT (cH C)) (d := uI e 44 (dI e 12 + nI 1)) (j := jj) hDl h11 hCr
          have a2o := apOK_st (C := wM C 2) (t := hvT (cH C)) hC2o (vOK_w C 2 hV) (aOK_w C 2 hAA) (hv_ok (by omega)) (hv_ok (k := cH C + 1) (by omega)) hi44 (apOK_mv (d := e) (d' := uI e 44 (dI e 12 + nI 1)) rfl hape)
          have G : xG D dA (xA dA C d j) (wM C 2) (rn1 (wM C 2) e) (stJ (wM C 2) (hvT (cH C)) (uI e 44 (dI e 12 + nI 1)) jj) s0 H locs := G
          have hRk := hRj
          rw [show n1 - k = n1 - (k + 1) + 1 by omega] at hRk
          simp only [rnJ, f2] at hRk
          have hRk : rnJ (wM C 2) (n1 - (k + 1)) (rnS (wM C 2) e) (stJ (wM C 2) (hvT (cH C)) (uI e 44 (dI e 12 + nI 1)) jj) = rnK C d n j := hRk
          generalize hg2 : stJ (wM C 2) (hvT (cH C)) (uI e 44 (dI e 12 + nI 1)) jj = j2 at G y1 y2 y3 w2 j2o hRk
          rw [← y1] at hl
          refine lv_aload_n hx hb dX0_run_110 rfl (lv_at hl 4 rfl) ?_
          refine lv_dup hx hb dX0_run_111 rfl ?_
          refine xx_getP (j := j2) S G 6 (by decide) q95 rfl (v := .int (dI (rn1 (wM C 2) e) 15)) rfl dX0_run_112 ?_
          refine lv_iconst (v := nI 1) hx hb dX0_run_115 (by decide) ?_
          refine lv_iadd hx hb dX0_run_116 ?_
          refine xx_putP (j := j2) S G 6 (by decide) q95 rfl rfl rfl rfl xs_P6 dX0_run_117 (fun H locs G => ?_)
          refine lv_aload_n hx hb dX0_run_120 rfl (lv_at hl 4 rfl) ?_
          refine xx_callP (j := j2) (As := []) (rest := []) S G (xt_X0_sample l D dA (wM C 2) (uI (rn1 (wM C 2) e) 15 ((dI (rn1 (wM C 2) e) 15) + (nI 1))) j2 hC2o (sm_mv hse (st_A _ _ _ (by decide) (by decide))) (fun s hs => by show ixN (dAI (stD _ _ _) 39 s) < 120; rw [st_A _ _ _ (by decide) (by decide)]; exact hce1 s hs)) q1006 q1008 qs8 q1009 hd_X0_sample ⟨Nat.le_of_ble_eq_true rfl, Nat.le_of_ble_eq_true rfl⟩ rfl hl.1 rfl (Nat.le_of_ble_eq_true rfl) dX0_run_121 ⟨Nat.zero_le _, Nat.zero_le _⟩ (fun H locs G => ?_)
          refine W.eq (g2 := F0 mid 124 ls []) rfl ?_
          have G : xG D dA (xA dA C d j) (wM C 2) (rnS (wM C 2) e) j2 s0 H locs := G
          obtain ⟨u1, u2, u3, u4⟩ := rnS_ok hC2o (vOK_w C 2 hV) (aOK_w C 2 hAA) hie hse hce1
          refine lv_iinc (v := nI (k + 1)) (lv' := [(4, .int (nI (k + 1))), (5, .int (faI (wM C 2) ((dI e 12) + (nI 1)))), (1, .int (nI n1)), (2, .double (hvT (cH C))), (0, .ref (jA j2 0))]) hx hb dX0_run_124 hl (k := 1) rfl (nI_1 _) (by decide) rfl (fun ls hl => ?_)
          refine lv_goto (tgt := 74) hx hb dX0_run_127 (by decide) ?_
          exact ih (k + 1) (rnS (wM C 2) e) j2 (by omega) (by omega) (by rw [← hRes, show n1 - k = n1 - (k + 1) + 1 by omega]; simp only [rnR, f2]) hRk u1 u2 (fun s hs => by rw [u3 s hs]; have := hce s hs; omega) (jOK_mv (ts_D _ _ (by decide)) rfl (fun _ _ => rfl) (fun _ _ => rfl) j2o) (by unfold orOK; rw [y3]; exact hOe) w2 (by rw [y2]; exact hDje) (by unfold dnOK; rw [y2]; exact hDne) (apOK_mv (ts_D _ _ (by decide)) a2o) H locs ls G (lv_sub hl [0, 2, 3, 4] rfl)
        · obtain ⟨i_, f2⟩ : ∃ i, flN (wM C 2) e = some i := fa_some c_95
          have hfa : faI C (dI e 12 + nI 1) = nI i_ := fa_eq f2
          have hR2 := hRes
          rw [show n1 - k = (n1 - k - 1) + 1 by omega] at hR2
          simp only [rnR, f2] at hR2
          obtain ⟨g1, g2⟩ := Prod.mk.inj hR2
          have hR3 := hRj
          rw [show n1 - k = (n1 - k - 1) + 1 by omega] at hR3
          simp only [rnJ, f2] at hR3
          have g3 : jj = rnK C d n j := hR3
          refine lv_sipush (v := (-1000)) hx hb dX0_run_98 (by decide) ?_
          refine lv_iload hx hb dX0_run_101 (lv_at hl 0 rfl) ?_
          refine lv_isub hx hb dX0_run_103 ?_
          refine w_st (st' := [.int (-1000 - nI i_)]) (by show [Value.int (-1000 - faI C (dI e 12 + nI 1))] = _; rw [hfa]) ?_
          exact xx_iret S hr hlk G (by exact g1) (xL_e (by exact hC2.symm) (by exact g2) (by exact g3)) dX0_run_104
  refine lv_iload_n hx hb dX0_run_0 rfl (lv_at hl 1 rfl) ?_
  refine lv_iconst (v := nI 1) hx hb dX0_run_1 (by decide) ?_
  refine lv_bipush (v := nI 100) hx hb dX0_run_2 (by decide) ?_
  refine sC_call (As := [.int n, .int (nI 1), .int (nI 100)]) (rest := []) S (st_X0_isIn l n (nI 1) (nI 100)) q149 q150 q52 q151 hd_X0_isIn ⟨Nat.le_of_ble_eq_true rfl, Nat.le_of_ble_eq_true rfl⟩ rfl hl.1 rfl (Nat.le_of_ble_eq_true rfl) dX0_run_4 ⟨Nat.zero_le _, Nat.zero_le _⟩ ?_
  refine W.eq (g2 := F0 mid 7 ls [.int (bI (inB n (nI 1) (nI 100)))]) rfl ?_
  refine bb_ne (tgt := 13) hx hb dX0_run_7 (by decide) (fun c_7 => ?_) (fun c_7 => ?_)
  · obtain ⟨n1, hn0, hn1, rfl⟩ := in_nat c_7 (by decide) (by decide)
    have ij_n1 : ixN (nI n1) = n1 := ixN_nI (by omega)
    refine lv_aload_n hx hb dX0_run_13 rfl (lv_at hl 0 rfl) ?_
    refine xx_getP S G 2 (by decide) q91 rfl (v := .int (nI (cM C))) rfl dX0_run_14 ?_
    refine nz_ne (tgt := 23) hx hb (by omega) dX0_run_17 (by decide) (fun c_17 => ?_) (fun c_17 => ?_)
    · refine lv_aload_n hx hb dX0_run_23 rfl (lv_at hl 0 rfl) ?_
      refine xx_getP S G 5 (by decide) q94 rfl (v := .int (dI d 12)) rfl dX0_run_24 ?_
      refine lv_iload_n hx hb dX0_run_27 rfl (lv_at hl 1 rfl) ?_
      refine lv_iadd hx hb dX0_run_28 ?_
      refine lv_sipush (v := nI 300) hx hb dX0_run_29 (by decide) ?_
      refine lv_icmp_gt (tgt := 55) hx hb dX0_run_32 (by decide) (fun c_32 => ?_) (fun c_32 => ?_)
      · have c32 : ¬ dI d 12 + nI n1 ≤ nI 300 := Int32.not_le.mpr c_32
        refine lv_bipush (v := (-104)) hx hb dX0_run_55 (by decide) ?_
        exact xx_iret S hr hlk G (by simp [rnI, rnC, rnD, rnK, c_7, ij_n1, c_17, c32]) (xL_e (by simp [rnI, rnC, rnD, rnK, c_7, ij_n1, c_17, c32]) (by simp [rnI, rnC, rnD, rnK, c_7, ij_n1, c_17, c32]) (by simp [rnI, rnC, rnD, rnK, c_7, ij_n1, c_17, c32])) dX0_run_57
      · have c32 : dI d 12 + nI n1 ≤ nI 300 := Int32.not_lt.mp c_32
        refine lv_aload_n hx hb dX0_run_35 rfl (lv_at hl 0 rfl) ?_
        refine xx_getP S G 9 (by decide) q98 rfl (v := .int (nI (cZ C))) rfl dX0_run_36 ?_
        refine nz_le (tgt := 58) hx hb (by omega) dX0_run_39 (by decide) (fun c_39 => ?_) (fun c_39 => ?_)
        · have f1 : rnB C d n1 = none := (rnB_x hE c_17).mpr (Or.inl (by omega))
          refine lv_aload_n hx hb dX0_run_58 rfl (lv_at hl 0 rfl) ?_
          refine lv_iconst (v := nI 2) hx hb dX0_run_59 (by decide) ?_
          refine xx_putP S G 2 (by decide) q91 rfl rfl rfl rfl xs_P2 dX0_run_60 (fun H locs G => ?_)
          refine lv_aload_n hx hb dX0_run_63 rfl (lv_at hl 0 rfl) ?_
          refine xx_getP S G 4 (by decide) q93 rfl (v := .int (nI (cH C))) rfl dX0_run_64 ?_
          refine xx_callS (As := [.int (nI (cH C))]) (rest := []) S G (xt_X0_length l D dA (wM C 2) d j (cH C) (mOK_wM hC (by decide)) (by omega)) q1018 q1019 q52 q1020 hd_X0_length ⟨Nat.le_of_ble_eq_true rfl, Nat.le_of_ble_eq_true rfl⟩ rfl hl.1 rfl (Nat.le_of_ble_eq_true rfl) dX0_run_67 ⟨Nat.zero_le _, Nat.zero_le _⟩ (fun H locs G => ?_)
          refine W.eq (g2 := F0 mid 70 ls [.double (hvT (cH C))]) rfl ?_
          refine lv_dstore_n (lv' := [(2, .double (hvT (cH C))), (0, .ref (jA j 0)), (1, .int (nI n1))]) hx hb dX0_run_70 rfl hl (by decide) rfl (fun ls hl => ?_)
          refine lv_iconst (v := nI 0) hx hb dX0_run_71 (by decide) ?_
          refine lv_istore (lv' := [(4, .int (nI 0)), (2, .double (hvT (cH C))), (0, .ref (jA j 0)), (1, .int (nI n1))]) hx hb dX0_run_72 hl (by decide) rfl (fun ls hl => ?_)
          have hOk : inB (nI n1) (nI 1) (nI 100) = true ∧ ¬ cM C = 0 ∧ dI d 12 + nI n1 ≤ nI 300 ∧ rnB C d (ixN (nI n1)) = none := ⟨c_7, c_17, c32, by rw [ij_n1]; exact f1⟩
          have hC2 : rnC C d (nI n1) = wM C 2 := by unfold rnC; rw [if_pos hOk]
          have hRes : rnR (wM C 2) n1 (n1 - 0) (rn0 C d) = (rnI C d (nI n1), rnD C d (nI n1)) := by unfold rnI rnD; rw [if_pos hOk, if_pos hOk.1, if_neg hOk.2.1, if_pos hOk.2.2, ij_n1]; rfl
          have hRj : rnJ (wM C 2) (n1 - 0) (rn0 C d) j = rnK C d (nI n1) j := by unfold rnK; rw [if_pos hOk, ij_n1]; rfl
          have hcn := fi_inv0 f1
          exact L3 n1 hn1 (hA c_17) hC2 (n1 + 1) 0 (rn0 C d) j (by omega) (by omega) hRes hRj (iOK_mv hI rfl rfl rfl) (sm_mv hSm rfl) (fun s hs => by have := hcn s hs; simp at this; show cntN d s + _ ≤ 120; omega) hJ (hO c_17) hw (hDj c_17) hDn hap _ _ ls (xG_d (xL_v (d' := rn0 C d) rfl) G) (lv_sub hl [0, 3, 1, 2] rfl)
        · refine lv_aload_n hx hb dX0_run_42 rfl (lv_at hl 0 rfl) ?_
          refine xx_getP S G 11 (by decide) q100 rfl (v := .ref (jA j 4)) rfl dX0_run_43 ?_
          refine lv_iconst (v := nI 0) hx hb dX0_run_46 (by decide) ?_
          refine xx_iald S G (r := 4) (by decide) (xW_p (by decide) rfl) 0 rfl (i := 0) (by omega) (by decide) (v := nI (cntN d 0)) (hSm.eq 0) dX0_run_47 ?_
          refine lv_iload_n hx hb dX0_run_48 rfl (lv_at hl 1 rfl) ?_
          refine nn_add hx hb dX0_run_49 ?_
          refine lv_bipush (v := nI 120) hx hb dX0_run_50 (by decide) ?_
          refine nn_cle (tgt := 58) hx hb (by omega) (by omega) dX0_run_52 (by decide) (fun c_52 => ?_) (fun c_52 => ?_)
          · have f1 : rnB C d n1 = none := (rnB_x hE c_17).mpr (Or.inr (by omega))
            refine lv_aload_n hx hb dX0_run_58 rfl (lv_at hl 0 rfl) ?_
            refine lv_iconst (v := nI 2) hx hb dX0_run_59 (by decide) ?_
            refine xx_putP S G 2 (by decide) q91 rfl rfl rfl rfl xs_P2 dX0_run_60 (fun H locs G => ?_)
            refine lv_aload_n hx hb dX0_run_63 rfl (lv_at hl 0 rfl) ?_
            refine xx_getP S G 4 (by decide) q93 rfl (v := .int (nI (cH C))) rfl dX0_run_64 ?_
            refine xx_callS (As := [.int (nI (cH C))]) (rest := []) S G (xt_X0_length l D dA (wM C 2) d j (cH C) (mOK_wM hC (by decide)) (by omega)) q1018 q1019 q52 q1020 hd_X0_length ⟨Nat.le_of_ble_eq_true rfl, Nat.le_of_ble_eq_true rfl⟩ rfl hl.1 rfl (Nat.le_of_ble_eq_true rfl) dX0_run_67 ⟨Nat.zero_le _, Nat.zero_le _⟩ (fun H locs G => ?_)
            refine W.eq (g2 := F0 mid 70 ls [.double (hvT (cH C))]) rfl ?_
            refine lv_dstore_n (lv' := [(2, .double (hvT (cH C))), (0, .ref (jA j 0)), (1, .int (nI n1))]) hx hb dX0_run_70 rfl hl (by decide) rfl (fun ls hl => ?_)
            refine lv_iconst (v := nI 0) hx hb dX0_run_71 (by decide) ?_
            refine lv_istore (lv' := [(4, .int (nI 0)), (2, .double (hvT (cH C))), (0, .ref (jA j 0)), (1, .int (nI n1))]) hx hb dX0_run_72 hl (by decide) rfl (fun ls hl => ?_)
            have hOk : inB (nI n1) (nI 1) (nI 100) = true ∧ ¬ cM C = 0 ∧ dI d 12 + nI n1 ≤ nI 300 ∧ rnB C d (ixN (nI n1)) = none := ⟨c_7, c_17, c32, by rw [ij_n1]; exact f1⟩
            have hC2 : rnC C d (nI n1) = wM C 2 := by unfold rnC; rw [if_pos hOk]
            have hRes : rnR (wM C 2) n1 (n1 - 0) (rn0 C d) = (rnI C d (nI n1), rnD C d (nI n1)) := by unfold rnI rnD; rw [if_pos hOk, if_pos hOk.1, if_neg hOk.2.1, if_pos hOk.2.2, ij_n1]; rfl
            have hRj : rnJ (wM C 2) (n1 - 0) (rn0 C d) j = rnK C d (nI n1) j := by unfold rnK; rw [if_pos hOk, ij_n1]; rfl
            have hcn := fi_inv0 f1
            exact L3 n1 hn1 (hA c_17) hC2 (n1 + 1) 0 (rn0 C d) j (by omega) (by omega) hRes hRj (iOK_mv hI rfl rfl rfl) (sm_mv hSm rfl) (fun s hs => by have := hcn s hs; simp at this; show cntN d s + _ ≤ 120; omega) hJ (hO c_17) hw (hDj c_17) hDn hap _ _ ls (xG_d (xL_v (d' := rn0 C d) rfl) G) (lv_sub hl [0, 3, 1, 2] rfl)
          · have f1 : ¬ rnB C d n1 = none := fun q => by have := (rnB_x hE c_17).mp q; omega
            refine lv_bipush (v := (-104)) hx hb dX0_run_55 (by decide) ?_
            exact xx_iret S hr hlk G (by simp [rnI, rnC, rnD, rnK, c_7, c_17, c32, ij_n1, f1]) (xL_e (by simp [rnI, rnC, rnD, rnK, c_7, c_17, c32, ij_n1, f1]) (by simp [rnI, rnC, rnD, rnK, c_7, c_17, c32, ij_n1, f1]) (by simp [rnI, rnC, rnD, rnK, c_7, c_17, c32, ij_n1, f1])) dX0_run_57
    · refine lv_bipush (v := (-103)) hx hb dX0_run_20 (by decide) ?_
      exact xx_iret S hr hlk G (by simp [rnI, rnC, rnD, rnK, c_7, ij_n1, c_17]) (xL_e (by simp [rnI, rnC, rnD, rnK, c_7, ij_n1, c_17]) (by simp [rnI, rnC, rnD, rnK, c_7, ij_n1, c_17]) (by simp [rnI, rnC, rnD, rnK, c_7, ij_n1, c_17])) dX0_run_22
  · refine lv_bipush (v := (-102)) hx hb dX0_run_10 (by decide) ?_
    exact xx_iret S hr hlk G (by simp [rnI, rnC, rnD, rnK, c_7]) (xL_e (by simp [rnI, rnC, rnD, rnK, c_7]) (by simp [rnI, rnC, rnD, rnK, c_7]) (by simp [rnI, rnC, rnD, rnK, c_7])) dX0_run_12
