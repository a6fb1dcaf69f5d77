set_option maxRecDepth 100000
set_option maxHeartbeats 4000000
theorem dX1_others_0 : decode cX1_others 0 = .ok (.iconst 0, 1) := by decide +kernel
theorem dX1_others_1 : decode cX1_others 1 = .ok (.istore_n 1, 1) := by decide +kernel
theorem dX1_others_2 : decode cX1_others 2 = .ok (.iload_n 1, 1) := by decide +kernel
theorem dX1_others_3 : decode cX1_others 3 = .ok (.aload_n 0, 1) := by decide +kernel
theorem dX1_others_4 : decode cX1_others 4 = .ok (.getfield 158, 3) := by decide +kernel
theorem dX1_others_7 : decode cX1_others 7 = .ok (.if_icmp .ge 230, 3) := by decide +kernel
theorem dX1_others_10 : decode cX1_others 10 = .ok (.aload_n 0, 1) := by decide +kernel
theorem dX1_others_11 : decode cX1_others 11 = .ok (.getfield 7, 3) := by decide +kernel
theorem dX1_others_14 : decode cX1_others 14 = .ok (.iload_n 1, 1) := by decide +kernel
theorem dX1_others_15 : decode cX1_others 15 = .ok (.iaload, 1) := by decide +kernel
theorem dX1_others_16 : decode cX1_others 16 = .ok (.iconst 3, 1) := by decide +kernel
theorem dX1_others_17 : decode cX1_others 17 = .ok (.if_icmp .ne 30, 3) := by decide +kernel
theorem dX1_others_20 : decode cX1_others 20 = .ok (.aload_n 0, 1) := by decide +kernel
theorem dX1_others_21 : decode cX1_others 21 = .ok (.getfield 46, 3) := by decide +kernel
theorem dX1_others_24 : decode cX1_others 24 = .ok (.iload_n 1, 1) := by decide +kernel
theorem dX1_others_25 : decode cX1_others 25 = .ok (.aload_n 0, 1) := by decide +kernel
theorem dX1_others_26 : decode cX1_others 26 = .ok (.getfield 146, 3) := by decide +kernel
theorem dX1_others_29 : decode cX1_others 29 = .ok (.iload_n 1, 1) := by decide +kernel
theorem dX1_others_30 : decode cX1_others 30 = .ok (.daload, 1) := by decide +kernel
theorem dX1_others_31 : decode cX1_others 31 = .ok (.dastore, 1) := by decide +kernel
theorem dX1_others_32 : decode cX1_others 32 = .ok (.aload_n 0, 1) := by decide +kernel
theorem dX1_others_33 : decode cX1_others 33 = .ok (.getfield 49, 3) := by decide +kernel
theorem dX1_others_36 : decode cX1_others 36 = .ok (.iload_n 1, 1) := by decide +kernel
theorem dX1_others_37 : decode cX1_others 37 = .ok (.aload_n 0, 1) := by decide +kernel
theorem dX1_others_38 : decode cX1_others 38 = .ok (.getfield 149, 3) := by decide +kernel
theorem dX1_others_41 : decode cX1_others 41 = .ok (.iload_n 1, 1) := by decide +kernel
theorem dX1_others_42 : decode cX1_others 42 = .ok (.faload, 1) := by decide +kernel
theorem dX1_others_43 : decode cX1_others 43 = .ok (.fastore, 1) := by decide +kernel
theorem dX1_others_44 : decode cX1_others 44 = .ok (.goto 187, 3) := by decide +kernel
theorem dX1_others_47 : decode cX1_others 47 = .ok (.aload_n 0, 1) := by decide +kernel
theorem dX1_others_48 : decode cX1_others 48 = .ok (.getfield 7, 3) := by decide +kernel
theorem dX1_others_51 : decode cX1_others 51 = .ok (.iload_n 1, 1) := by decide +kernel
theorem dX1_others_52 : decode cX1_others 52 = .ok (.iaload, 1) := by decide +kernel
theorem dX1_others_53 : decode cX1_others 53 = .ok (.bipush 11, 2) := by decide +kernel
theorem dX1_others_55 : decode cX1_others 55 = .ok (.if_icmp .ne 115, 3) := by decide +kernel
theorem dX1_others_58 : decode cX1_others 58 = .ok (.aload_n 0, 1) := by decide +kernel
theorem dX1_others_59 : decode cX1_others 59 = .ok (.getfield 13, 3) := by decide +kernel
theorem dX1_others_62 : decode cX1_others 62 = .ok (.iload_n 1, 1) := by decide +kernel
theorem dX1_others_63 : decode cX1_others 63 = .ok (.daload, 1) := by decide +kernel
theorem dX1_others_64 : decode cX1_others 64 = .ok (.d2i, 1) := by decide +kernel
theorem dX1_others_65 : decode cX1_others 65 = .ok (.istore_n 2, 1) := by decide +kernel
theorem dX1_others_66 : decode cX1_others 66 = .ok (.iconst 0, 1) := by decide +kernel
theorem dX1_others_67 : decode cX1_others 67 = .ok (.istore_n 3, 1) := by decide +kernel
theorem dX1_others_68 : decode cX1_others 68 = .ok (.iload_n 3, 1) := by decide +kernel
theorem dX1_others_69 : decode cX1_others 69 = .ok (.iload_n 2, 1) := by decide +kernel
theorem dX1_others_70 : decode cX1_others 70 = .ok (.iconst 1, 1) := by decide +kernel
theorem dX1_others_71 : decode cX1_others 71 = .ok (.isub, 1) := by decide +kernel
theorem dX1_others_72 : decode cX1_others 72 = .ok (.if_icmp .ge 57, 3) := by decide +kernel
theorem dX1_others_75 : decode cX1_others 75 = .ok (.aload_n 0, 1) := by decide +kernel
theorem dX1_others_76 : decode cX1_others 76 = .ok (.getfield 59, 3) := by decide +kernel
theorem dX1_others_79 : decode cX1_others 79 = .ok (.bipush 16, 2) := by decide +kernel
theorem dX1_others_81 : decode cX1_others 81 = .ok (.iload_n 1, 1) := by decide +kernel
theorem dX1_others_82 : decode cX1_others 82 = .ok (.imul, 1) := by decide +kernel
theorem dX1_others_83 : decode cX1_others 83 = .ok (.iload_n 3, 1) := by decide +kernel
theorem dX1_others_84 : decode cX1_others 84 = .ok (.iadd, 1) := by decide +kernel
theorem dX1_others_85 : decode cX1_others 85 = .ok (.aload_n 0, 1) := by decide +kernel
theorem dX1_others_86 : decode cX1_others 86 = .ok (.getfield 59, 3) := by decide +kernel
theorem dX1_others_89 : decode cX1_others 89 = .ok (.bipush 16, 2) := by decide +kernel
theorem dX1_others_91 : decode cX1_others 91 = .ok (.iload_n 1, 1) := by decide +kernel
theorem dX1_others_92 : decode cX1_others 92 = .ok (.imul, 1) := by decide +kernel
theorem dX1_others_93 : decode cX1_others 93 = .ok (.iload_n 3, 1) := by decide +kernel
theorem dX1_others_94 : decode cX1_others 94 = .ok (.iadd, 1) := by decide +kernel
theorem dX1_others_95 : decode cX1_others 95 = .ok (.iconst 1, 1) := by decide +kernel
theorem dX1_others_96 : decode cX1_others 96 = .ok (.iadd, 1) := by decide +kernel
theorem dX1_others_97 : decode cX1_others 97 = .ok (.daload, 1) := by decide +kernel
theorem dX1_others_98 : decode cX1_others 98 = .ok (.dastore, 1) := by decide +kernel
theorem dX1_others_99 : decode cX1_others 99 = .ok (.aload_n 0, 1) := by decide +kernel
theorem dX1_others_100 : decode cX1_others 100 = .ok (.getfield 62, 3) := by decide +kernel
theorem dX1_others_103 : decode cX1_others 103 = .ok (.bipush 16, 2) := by decide +kernel
theorem dX1_others_105 : decode cX1_others 105 = .ok (.iload_n 1, 1) := by decide +kernel
theorem dX1_others_106 : decode cX1_others 106 = .ok (.imul, 1) := by decide +kernel
theorem dX1_others_107 : decode cX1_others 107 = .ok (.iload_n 3, 1) := by decide +kernel
theorem dX1_others_108 : decode cX1_others 108 = .ok (.iadd, 1) := by decide +kernel
theorem dX1_others_109 : decode cX1_others 109 = .ok (.aload_n 0, 1) := by decide +kernel
theorem dX1_others_110 : decode cX1_others 110 = .ok (.getfield 62, 3) := by decide +kernel
theorem dX1_others_113 : decode cX1_others 113 = .ok (.bipush 16, 2) := by decide +kernel
theorem dX1_others_115 : decode cX1_others 115 = .ok (.iload_n 1, 1) := by decide +kernel
theorem dX1_others_116 : decode cX1_others 116 = .ok (.imul, 1) := by decide +kernel
theorem dX1_others_117 : decode cX1_others 117 = .ok (.iload_n 3, 1) := by decide +kernel
theorem dX1_others_118 : decode cX1_others 118 = .ok (.iadd, 1) := by decide +kernel
theorem dX1_others_119 : decode cX1_others 119 = .ok (.iconst 1, 1) := by decide +kernel
theorem dX1_others_120 : decode cX1_others 120 = .ok (.iadd, 1) := by decide +kernel
theorem dX1_others_121 : decode cX1_others 121 = .ok (.faload, 1) := by decide +kernel
theorem dX1_others_122 : decode cX1_others 122 = .ok (.fastore, 1) := by decide +kernel
theorem dX1_others_123 : decode cX1_others 123 = .ok (.iinc 3 1, 3) := by decide +kernel
theorem dX1_others_126 : decode cX1_others 126 = .ok (.goto (-58), 3) := by decide +kernel
theorem dX1_others_129 : decode cX1_others 129 = .ok (.aload_n 0, 1) := by decide +kernel
theorem dX1_others_130 : decode cX1_others 130 = .ok (.getfield 59, 3) := by decide +kernel
theorem dX1_others_133 : decode cX1_others 133 = .ok (.bipush 16, 2) := by decide +kernel
theorem dX1_others_135 : decode cX1_others 135 = .ok (.iload_n 1, 1) := by decide +kernel
theorem dX1_others_136 : decode cX1_others 136 = .ok (.imul, 1) := by decide +kernel
theorem dX1_others_137 : decode cX1_others 137 = .ok (.iload_n 2, 1) := by decide +kernel
theorem dX1_others_138 : decode cX1_others 138 = .ok (.iadd, 1) := by decide +kernel
theorem dX1_others_139 : decode cX1_others 139 = .ok (.iconst 1, 1) := by decide +kernel
theorem dX1_others_140 : decode cX1_others 140 = .ok (.isub, 1) := by decide +kernel
theorem dX1_others_141 : decode cX1_others 141 = .ok (.aload_n 0, 1) := by decide +kernel
theorem dX1_others_142 : decode cX1_others 142 = .ok (.getfield 146, 3) := by decide +kernel
theorem dX1_others_145 : decode cX1_others 145 = .ok (.iload_n 1, 1) := by decide +kernel
theorem dX1_others_146 : decode cX1_others 146 = .ok (.daload, 1) := by decide +kernel
theorem dX1_others_147 : decode cX1_others 147 = .ok (.dastore, 1) := by decide +kernel
theorem dX1_others_148 : decode cX1_others 148 = .ok (.aload_n 0, 1) := by decide +kernel
theorem dX1_others_149 : decode cX1_others 149 = .ok (.getfield 62, 3) := by decide +kernel
theorem dX1_others_152 : decode cX1_others 152 = .ok (.bipush 16, 2) := by decide +kernel
theorem dX1_others_154 : decode cX1_others 154 = .ok (.iload_n 1, 1) := by decide +kernel
theorem dX1_others_155 : decode cX1_others 155 = .ok (.imul, 1) := by decide +kernel
theorem dX1_others_156 : decode cX1_others 156 = .ok (.iload_n 2, 1) := by decide +kernel
theorem dX1_others_157 : decode cX1_others 157 = .ok (.iadd, 1) := by decide +kernel
theorem dX1_others_158 : decode cX1_others 158 = .ok (.iconst 1, 1) := by decide +kernel
theorem dX1_others_159 : decode cX1_others 159 = .ok (.isub, 1) := by decide +kernel
theorem dX1_others_160 : decode cX1_others 160 = .ok (.aload_n 0, 1) := by decide +kernel
theorem dX1_others_161 : decode cX1_others 161 = .ok (.getfield 149, 3) := by decide +kernel
theorem dX1_others_164 : decode cX1_others 164 = .ok (.iload_n 1, 1) := by decide +kernel
theorem dX1_others_165 : decode cX1_others 165 = .ok (.faload, 1) := by decide +kernel
theorem dX1_others_166 : decode cX1_others 166 = .ok (.fastore, 1) := by decide +kernel
theorem dX1_others_167 : decode cX1_others 167 = .ok (.goto 64, 3) := by decide +kernel
theorem dX1_others_170 : decode cX1_others 170 = .ok (.aload_n 0, 1) := by decide +kernel
theorem dX1_others_171 : decode cX1_others 171 = .ok (.getfield 7, 3) := by decide +kernel
theorem dX1_others_174 : decode cX1_others 174 = .ok (.iload_n 1, 1) := by decide +kernel
theorem dX1_others_175 : decode cX1_others 175 = .ok (.iaload, 1) := by decide +kernel
theorem dX1_others_176 : decode cX1_others 176 = .ok (.bipush 13, 2) := by decide +kernel
theorem dX1_others_178 : decode cX1_others 178 = .ok (.if_icmp .ne 53, 3) := by decide +kernel
theorem dX1_others_181 : decode cX1_others 181 = .ok (.aload_n 0, 1) := by decide +kernel
theorem dX1_others_182 : decode cX1_others 182 = .ok (.getfield 65, 3) := by decide +kernel
theorem dX1_others_185 : decode cX1_others 185 = .ok (.iload_n 1, 1) := by decide +kernel
theorem dX1_others_186 : decode cX1_others 186 = .ok (.ldc_w 328, 3) := by decide +kernel
theorem dX1_others_189 : decode cX1_others 189 = .ok (.aload_n 0, 1) := by decide +kernel
theorem dX1_others_190 : decode cX1_others 190 = .ok (.getfield 65, 3) := by decide +kernel
theorem dX1_others_193 : decode cX1_others 193 = .ok (.iload_n 1, 1) := by decide +kernel
theorem dX1_others_194 : decode cX1_others 194 = .ok (.iaload, 1) := by decide +kernel
theorem dX1_others_195 : decode cX1_others 195 = .ok (.imul, 1) := by decide +kernel
theorem dX1_others_196 : decode cX1_others 196 = .ok (.ldc_w 329, 3) := by decide +kernel
theorem dX1_others_199 : decode cX1_others 199 = .ok (.iadd, 1) := by decide +kernel
theorem dX1_others_200 : decode cX1_others 200 = .ok (.iastore, 1) := by decide +kernel
theorem dX1_others_201 : decode cX1_others 201 = .ok (.aload_n 0, 1) := by decide +kernel
theorem dX1_others_202 : decode cX1_others 202 = .ok (.getfield 46, 3) := by decide +kernel
theorem dX1_others_205 : decode cX1_others 205 = .ok (.iload_n 1, 1) := by decide +kernel
theorem dX1_others_206 : decode cX1_others 206 = .ok (.aload_n 0, 1) := by decide +kernel
theorem dX1_others_207 : decode cX1_others 207 = .ok (.getfield 65, 3) := by decide +kernel
theorem dX1_others_210 : decode cX1_others 210 = .ok (.iload_n 1, 1) := by decide +kernel
theorem dX1_others_211 : decode cX1_others 211 = .ok (.iaload, 1) := by decide +kernel
theorem dX1_others_212 : decode cX1_others 212 = .ok (.i2d, 1) := by decide +kernel
theorem dX1_others_213 : decode cX1_others 213 = .ok (.ldc2_w 330, 3) := by decide +kernel
theorem dX1_others_216 : decode cX1_others 216 = .ok (.ddiv, 1) := by decide +kernel
theorem dX1_others_217 : decode cX1_others 217 = .ok (.dastore, 1) := by decide +kernel
theorem dX1_others_218 : decode cX1_others 218 = .ok (.aload_n 0, 1) := by decide +kernel
theorem dX1_others_219 : decode cX1_others 219 = .ok (.getfield 49, 3) := by decide +kernel
theorem dX1_others_222 : decode cX1_others 222 = .ok (.iload_n 1, 1) := by decide +kernel
theorem dX1_others_223 : decode cX1_others 223 = .ok (.aload_n 0, 1) := by decide +kernel
theorem dX1_others_224 : decode cX1_others 224 = .ok (.getfield 46, 3) := by decide +kernel
theorem dX1_others_227 : decode cX1_others 227 = .ok (.iload_n 1, 1) := by decide +kernel
theorem dX1_others_228 : decode cX1_others 228 = .ok (.daload, 1) := by decide +kernel
theorem dX1_others_229 : decode cX1_others 229 = .ok (.d2f, 1) := by decide +kernel
theorem dX1_others_230 : decode cX1_others 230 = .ok (.fastore, 1) := by decide +kernel
theorem dX1_others_231 : decode cX1_others 231 = .ok (.iinc 1 1, 3) := by decide +kernel
theorem dX1_others_234 : decode cX1_others 234 = .ok (.goto (-232), 3) := by decide +kernel
theorem dX1_others_237 : decode cX1_others 237 = .ok (.return_, 1) := by decide +kernel
theorem dX1_differ_0 : decode cX1_differ 0 = .ok (.aload_n 0, 1) := by decide +kernel
theorem dX1_differ_1 : decode cX1_differ 1 = .ok (.getfield 53, 3) := by decide +kernel
theorem dX1_differ_4 : decode cX1_differ 4 = .ok (.iload_n 1, 1) := by decide +kernel
theorem dX1_differ_5 : decode cX1_differ 5 = .ok (.daload, 1) := by decide +kernel
theorem dX1_differ_6 : decode cX1_differ 6 = .ok (.aload_n 0, 1) := by decide +kernel
theorem dX1_differ_7 : decode cX1_differ 7 = .ok (.getfield 56, 3) := by decide +kernel
theorem dX1_differ_10 : decode cX1_differ 10 = .ok (.iload_n 1, 1) := by decide +kernel
theorem dX1_differ_11 : decode cX1_differ 11 = .ok (.faload, 1) := by decide +kernel
theorem dX1_differ_12 : decode cX1_differ 12 = .ok (.f2d, 1) := by decide +kernel
theorem dX1_differ_13 : decode cX1_differ 13 = .ok (.dsub, 1) := by decide +kernel
theorem dX1_differ_14 : decode cX1_differ 14 = .ok (.dstore_n 2, 1) := by decide +kernel
theorem dX1_differ_15 : decode cX1_differ 15 = .ok (.dload_n 2, 1) := by decide +kernel
theorem dX1_differ_16 : decode cX1_differ 16 = .ok (.dconst 0, 1) := by decide +kernel
theorem dX1_differ_17 : decode cX1_differ 17 = .ok (.dcmp .g, 1) := by decide +kernel
theorem dX1_differ_18 : decode cX1_differ 18 = .ok (.ifCond .ge 8, 3) := by decide +kernel
theorem dX1_differ_21 : decode cX1_differ 21 = .ok (.dload_n 2, 1) := by decide +kernel
theorem dX1_differ_22 : decode cX1_differ 22 = .ok (.dneg, 1) := by decide +kernel
theorem dX1_differ_23 : decode cX1_differ 23 = .ok (.goto 4, 3) := by decide +kernel
theorem dX1_differ_26 : decode cX1_differ 26 = .ok (.dload_n 2, 1) := by decide +kernel
theorem dX1_differ_27 : decode cX1_differ 27 = .ok (.dstore_n 2, 1) := by decide +kernel
theorem dX1_differ_28 : decode cX1_differ 28 = .ok (.aload_n 0, 1) := by decide +kernel
theorem dX1_differ_29 : decode cX1_differ 29 = .ok (.getfield 71, 3) := by decide +kernel
theorem dX1_differ_32 : decode cX1_differ 32 = .ok (.iload_n 1, 1) := by decide +kernel
theorem dX1_differ_33 : decode cX1_differ 33 = .ok (.dload_n 2, 1) := by decide +kernel
theorem dX1_differ_34 : decode cX1_differ 34 = .ok (.aload_n 0, 1) := by decide +kernel
theorem dX1_differ_35 : decode cX1_differ 35 = .ok (.getfield 71, 3) := by decide +kernel
theorem dX1_differ_38 : decode cX1_differ 38 = .ok (.iload_n 1, 1) := by decide +kernel
theorem dX1_differ_39 : decode cX1_differ 39 = .ok (.daload, 1) := by decide +kernel
theorem dX1_differ_40 : decode cX1_differ 40 = .ok (.dcmp .l, 1) := by decide +kernel
theorem dX1_differ_41 : decode cX1_differ 41 = .ok (.ifCond .le 7, 3) := by decide +kernel
theorem dX1_differ_44 : decode cX1_differ 44 = .ok (.dload_n 2, 1) := by decide +kernel
theorem dX1_differ_45 : decode cX1_differ 45 = .ok (.goto 9, 3) := by decide +kernel
theorem dX1_differ_48 : decode cX1_differ 48 = .ok (.aload_n 0, 1) := by decide +kernel
theorem dX1_differ_49 : decode cX1_differ 49 = .ok (.getfield 71, 3) := by decide +kernel
theorem dX1_differ_52 : decode cX1_differ 52 = .ok (.iload_n 1, 1) := by decide +kernel
theorem dX1_differ_53 : decode cX1_differ 53 = .ok (.daload, 1) := by decide +kernel
theorem dX1_differ_54 : decode cX1_differ 54 = .ok (.dastore, 1) := by decide +kernel
theorem dX1_differ_55 : decode cX1_differ 55 = .ok (.return_, 1) := by decide +kernel
theorem mt_X1_others (l : Launch) (D : va_G) (dA : Nat → ClassId) (ad : Nat → Nat) (C : tp_C) (d : md_T) (hC : mOK C) (hDl : dlOK C) : mC l D dA ad yX1_others cX1_others 4 none 0 [] C d none C (otD C d) := by
  refine mm_start (by decide) rfl (Nat.le_of_ble_eq_true rfl) ?_
  intro p0 e0 s0 mid bl0 me0 co0 ls S hr hlk G hl
  have hx := S.1; have hb := S.2.1; have hml := S.2.2.1; have hown := S.2.2.2.1; have hts := S.2.2.2.2
  have hl : lv_has ls 4 [(0, .ref (ad 0))] := hl
  have hN := hC.n
  have L2 : ∀ (f : md_T) (m : Nat) (hm : m < cN C) (hd1 : 1 ≤ dlN C m) (hd2 : dlN C m ≤ 16) (n_ k : Nat), k ≤ (dlN C m - 1) → (dlN C m - 1) < k + n_ → ∀ (H : Heap) (locs : List Loc) (ls : Array Slot), mG D dA ad C (rwI f m k) s0 H locs → lv_has ls 4 [(3, .int (nI k)), (2, .int (nI (dlN C m))), (1, .int (nI m)), (0, .ref (ad 0))] → (∀ (H : Heap) (locs : List Loc) (ls : Array Slot), mG D dA ad C (rwI f m (dlN C m - 1)) s0 H locs → lv_has ls 4 [(3, .int (nI (dlN C m - 1))), (2, .int (nI (dlN C m))), (1, .int (nI m)), (0, .ref (ad 0))] → W p0 l e0 (rm_ 0) s0 mid (Value.ref (ad 0) :: []).toArray bl0 me0 co0 H locs 0 0 (MQ bl0 (mQ D dA ad none C (otD C d)) (Value.ref (ad 0) :: []).toArray s0 0 0 (mA ad)) (F0 mid 129 ls [])) → W p0 l e0 (rm_ 0) s0 mid (Value.ref (ad 0) :: []).toArray bl0 me0 co0 H locs 0 0 (MQ bl0 (mQ D dA ad none C (otD C d)) (Value.ref (ad 0) :: []).toArray s0 0 0 (mA ad)) (F0 mid 68 ls []) := by
    intro f m hm hd1 hd2 n_
    induction n_ with
    | zero => intro k h1_ h2_; exact absurd h2_ (by omega)
    | succ n_ ih =>
      intro k h1_ h2_ H locs ls G hl kk
      refine lv_iload_n hx hb dX1_others_68 rfl (lv_at hl 0 rfl) ?_
      refine lv_iload_n hx hb dX1_others_69 rfl (lv_at hl 1 rfl) ?_
      refine lv_iconst (v := nI 1) hx hb dX1_others_70 (by decide) ?_
      refine nn_sub hx hb (by omega) dX1_others_71 ?_
      refine nn_cge (tgt := 129) hx hb (by omega) (by omega) dX1_others_72 (by decide) (fun c_72 => ?_) (fun c_72 => ?_)
      · have hiN : k = (dlN C m - 1) := by omega
        subst hiN
        exact kk H locs ls G (lv_sub hl [0, 1, 2, 3] rfl)
      · refine lv_aload_n hx hb dX1_others_75 rfl (lv_at hl 3 rfl) ?_
        refine mm_get S G 21 (by decide) q1288 rfl (v := .ref (ad 22)) rfl dX1_others_76 ?_
        refine lv_bipush (v := nI 16) hx hb dX1_others_79 (by decide) ?_
        refine lv_iload_n hx hb dX1_others_81 rfl (lv_at hl 2 rfl) ?_
        refine nn_mul hx hb dX1_others_82 ?_
        refine lv_iload_n hx hb dX1_others_83 rfl (lv_at hl 0 rfl) ?_
        refine nn_add hx hb dX1_others_84 ?_
        refine lv_aload_n hx hb dX1_others_85 rfl (lv_at hl 3 rfl) ?_
        refine mm_get S G 21 (by decide) q1288 rfl (v := .ref (ad 22)) rfl dX1_others_86 ?_
        refine lv_bipush (v := nI 16) hx hb dX1_others_89 (by decide) ?_
        refine lv_iload_n hx hb dX1_others_91 rfl (lv_at hl 2 rfl) ?_
        refine nn_mul hx hb dX1_others_92 ?_
        refine lv_iload_n hx hb dX1_others_93 rfl (lv_at hl 0 rfl) ?_
        refine nn_add hx hb dX1_others_94 ?_
        refine lv_iconst (v := nI 1) hx hb dX1_others_95 (by decide) ?_
        refine nn_add hx hb dX1_others_96 ?_
        refine mm_dald S G 21 2 (by decide) (n := 320) rfl rfl (by omega) (by decide) (v := dAD f 21 (16 * m + k + 1)) (shf_at (dAD f 21) m k) dX1_others_97 ?_
        refine mm_dast S G 21 rfl (by decide) (n := 320) rfl (by omega) dX1_others_98 (fun H locs G => ?_)
        refine lv_aload_n hx hb dX1_others_99 rfl (lv_at hl 3 rfl) ?_
        refine mm_get S G 22 (by decide) q1289 rfl (v := .ref (ad 23)) rfl dX1_others_100 ?_
        refine lv_bipush (v := nI 16) hx hb dX1_others_103 (by decide) ?_
        refine lv_iload_n hx hb dX1_others_105 rfl (lv_at hl 2 rfl) ?_
        refine nn_mul hx hb dX1_others_106 ?_
        refine lv_iload_n hx hb dX1_others_107 rfl (lv_at hl 0 rfl) ?_
        refine nn_add hx hb dX1_others_108 ?_
        refine lv_aload_n hx hb dX1_others_109 rfl (lv_at hl 3 rfl) ?_
        refine mm_get S G 22 (by decide) q1289 rfl (v := .ref (ad 23)) rfl dX1_others_110 ?_
        refine lv_bipush (v := nI 16) hx hb dX1_others_113 (by decide) ?_
        refine lv_iload_n hx hb dX1_others_115 rfl (lv_at hl 2 rfl) ?_
        refine nn_mul hx hb dX1_others_116 ?_
        refine lv_iload_n hx hb dX1_others_117 rfl (lv_at hl 0 rfl) ?_
        refine nn_add hx hb dX1_others_118 ?_
        refine lv_iconst (v := nI 1) hx hb dX1_others_119 (by decide) ?_
        refine nn_add hx hb dX1_others_120 ?_
        refine mm_fald S G 22 3 (by decide) (n := 320) rfl rfl (by omega) (by decide) (v := dAF f 22 (16 * m + k + 1)) (shf_at (dAF f 22) m k) dX1_others_121 ?_
        refine mm_fast S G 22 rfl (by decide) (n := 320) rfl (by omega) dX1_others_122 (fun H locs G => ?_)
        refine lv_iinc (v := nI (k + 1)) (lv' := [(3, .int (nI (k + 1))), (2, .int (nI (dlN C m))), (1, .int (nI m)), (0, .ref (ad 0))]) hx hb dX1_others_123 hl (k := 0) rfl (nI_1 _) (by decide) rfl (fun ls hl => ?_)
        refine lv_goto (tgt := 68) hx hb dX1_others_126 (by decide) ?_
        exact ih (k + 1) (by omega) (by omega) H locs ls (mG_d (by exact rwI_s f m k) G) (lv_sub hl [0, 1, 2, 3] rfl) kk
  have L1 : ∀ (n_ m : Nat), m ≤ cN C → cN C < m + n_ → ∀ (H : Heap) (locs : List Loc) (ls : Array Slot), mG D dA ad C (otN C m d) s0 H locs → lv_has ls 4 [(1, .int (nI m)), (0, .ref (ad 0))] → (∀ (H : Heap) (locs : List Loc) (ls : Array Slot), mG D dA ad C (otN C (cN C) d) s0 H locs → lv_has ls 4 [(1, .int (nI (cN C))), (0, .ref (ad 0))] → W p0 l e0 (rm_ 0) s0 mid (Value.ref (ad 0) :: []).toArray bl0 me0 co0 H locs 0 0 (MQ bl0 (mQ D dA ad none C (otD C d)) (Value.ref (ad 0) :: []).toArray s0 0 0 (mA ad)) (F0 mid 237 ls [])) → W p0 l e0 (rm_ 0) s0 mid (Value.ref (ad 0) :: []).toArray bl0 me0 co0 H locs 0 0 (MQ bl0 (mQ D dA ad none C (otD C d)) (Value.ref (ad 0) :: []).toArray s0 0 0 (mA ad)) (F0 mid 2 ls []) := by
    intro n_
    induction n_ with
    | zero => intro m h1_ h2_; exact absurd h2_ (by omega)
    | succ n_ ih =>
      intro m h1_ h2_ H locs ls G hl kk
      have hk14 := hC.k m
      refine lv_iload_n hx hb dX1_others_2 rfl (lv_at hl 0 rfl) ?_
      refine lv_aload_n hx hb dX1_others_3 rfl (lv_at hl 1 rfl) ?_
      refine mm_get S G 0 (by decide) q1267 rfl (v := .int (nI (cN C))) rfl dX1_others_4 ?_
      refine nn_cge (tgt := 237) hx hb (by omega) (by omega) dX1_others_7 (by decide) (fun c_7 => ?_) (fun c_7 => ?_)
      · have hiN : m = cN C := by omega
        subst hiN
        exact kk H locs ls G (lv_sub hl [0, 1] rfl)
      · refine lv_aload_n hx hb dX1_others_10 rfl (lv_at hl 1 rfl) ?_
        refine mm_get S G 1 (by decide) q1268 rfl (v := .ref (ad 2)) rfl dX1_others_11 ?_
        refine lv_iload_n hx hb dX1_others_14 rfl (lv_at hl 0 rfl) ?_
        refine mm_iald S G 1 0 (by decide) (n := 20) rfl rfl (by omega) (by decide) (v := nI (cK C m)) rfl dX1_others_15 ?_
        refine lv_iconst (v := nI 3) hx hb dX1_others_16 (by decide) ?_
        refine nn_cne (tgt := 47) hx hb (by omega) (by omega) dX1_others_17 (by decide) (fun c_17 => ?_) (fun c_17 => ?_)
        · refine lv_aload_n hx hb dX1_others_47 rfl (lv_at hl 1 rfl) ?_
          refine mm_get S G 1 (by decide) q1268 rfl (v := .ref (ad 2)) rfl dX1_others_48 ?_
          refine lv_iload_n hx hb dX1_others_51 rfl (lv_at hl 0 rfl) ?_
          refine mm_iald S G 1 0 (by decide) (n := 20) rfl rfl (by omega) (by decide) (v := nI (cK C m)) rfl dX1_others_52 ?_
          refine lv_bipush (v := nI 11) hx hb dX1_others_53 (by decide) ?_
          refine nn_cne (tgt := 170) hx hb (by omega) (by omega) dX1_others_55 (by decide) (fun c_55 => ?_) (fun c_55 => ?_)
          · refine lv_aload_n hx hb dX1_others_170 rfl (lv_at hl 1 rfl) ?_
            refine mm_get S G 1 (by decide) q1268 rfl (v := .ref (ad 2)) rfl dX1_others_171 ?_
            refine lv_iload_n hx hb dX1_others_174 rfl (lv_at hl 0 rfl) ?_
            refine mm_iald S G 1 0 (by decide) (n := 20) rfl rfl (by omega) (by decide) (v := nI (cK C m)) rfl dX1_others_175 ?_
            refine lv_bipush (v := nI 13) hx hb dX1_others_176 (by decide) ?_
            refine nn_cne (tgt := 231) hx hb (by omega) (by omega) dX1_others_178 (by decide) (fun c_178 => ?_) (fun c_178 => ?_)
            · refine lv_iinc (v := nI (m + 1)) (lv' := [(1, .int (nI (m + 1))), (0, .ref (ad 0))]) hx hb dX1_others_231 hl (k := 0) rfl (nI_1 _) (by decide) rfl (fun ls hl => ?_)
              refine lv_goto (tgt := 2) hx hb dX1_others_234 (by decide) ?_
              exact ih (m + 1) (by omega) (by omega) H locs ls (mG_d (by show _ = otS C m (otN C m d); unfold otS; rw [if_neg c_17, if_neg c_55, if_neg c_178]) G) (lv_sub hl [0, 1] rfl) kk
            · refine lv_aload_n hx hb dX1_others_181 rfl (lv_at hl 1 rfl) ?_
              refine mm_get S G 23 (by decide) q1290 rfl (v := .ref (ad 24)) rfl dX1_others_182 ?_
              refine lv_iload_n hx hb dX1_others_185 rfl (lv_at hl 0 rfl) ?_
              refine lv_ldcw hx hb hown (hts _ q1650) dX1_others_186 ?_
              refine lv_aload_n hx hb dX1_others_189 rfl (lv_at hl 1 rfl) ?_
              refine mm_get S G 23 (by decide) q1290 rfl (v := .ref (ad 24)) rfl dX1_others_190 ?_
              refine lv_iload_n hx hb dX1_others_193 rfl (lv_at hl 0 rfl) ?_
              refine mm_iald S G 23 0 (by decide) (n := 20) rfl rfl (by omega) (by decide) (v := dAI (otN C m d) 23 m) rfl dX1_others_194 ?_
              refine lv_imul hx hb dX1_others_195 ?_
              refine lv_ldcw hx hb hown (hts _ q1651) dX1_others_196 ?_
              refine lv_iadd hx hb dX1_others_199 ?_
              refine w_st (st' := [.int (sdN (dAI (otN C m d) 23 m)), .int (nI m), .ref (ad 24)]) (by rfl) ?_
              refine mm_iast S G 23 rfl (by decide) (n := 20) rfl (by omega) dX1_others_200 (fun H locs G => ?_)
              refine lv_aload_n hx hb dX1_others_201 rfl (lv_at hl 1 rfl) ?_
              refine mm_get S G 17 (by decide) q1284 rfl (v := .ref (ad 18)) rfl dX1_others_202 ?_
              refine lv_iload_n hx hb dX1_others_205 rfl (lv_at hl 0 rfl) ?_
              refine lv_aload_n hx hb dX1_others_206 rfl (lv_at hl 1 rfl) ?_
              refine mm_get S G 23 (by decide) q1290 rfl (v := .ref (ad 24)) rfl dX1_others_207 ?_
              refine lv_iload_n hx hb dX1_others_210 rfl (lv_at hl 0 rfl) ?_
              refine mm_iald S G 23 0 (by decide) (n := 20) rfl rfl (by omega) (by decide) (v := sdN (dAI (otN C m d) 23 m)) (by rw [dAI_self]; simp [upd]) dX1_others_211 ?_
              refine lv_i2d hx hb dX1_others_212 ?_
              refine lv_ldc2d hx hb hown (hts _ q1652) dX1_others_213 ?_
              refine lv_ddiv hx hb dX1_others_216 (bD_n (nsV_b _)) ?_
              refine w_st (st' := [.double (nsV (sdN (dAI (otN C m d) 23 m))), .int (nI m), .ref (ad 18)]) (by rfl) ?_
              refine mm_dast S G 17 rfl (by decide) (n := 20) rfl (by omega) dX1_others_217 (fun H locs G => ?_)
              refine lv_aload_n hx hb dX1_others_218 rfl (lv_at hl 1 rfl) ?_
              refine mm_get S G 18 (by decide) q1285 rfl (v := .ref (ad 19)) rfl dX1_others_219 ?_
              refine lv_iload_n hx hb dX1_others_222 rfl (lv_at hl 0 rfl) ?_
              refine lv_aload_n hx hb dX1_others_223 rfl (lv_at hl 1 rfl) ?_
              refine mm_get S G 17 (by decide) q1284 rfl (v := .ref (ad 18)) rfl dX1_others_224 ?_
              refine lv_iload_n hx hb dX1_others_227 rfl (lv_at hl 0 rfl) ?_
              refine mm_dald S G 17 2 (by decide) (n := 20) rfl rfl (by omega) (by decide) (v := nsV (sdN (dAI (otN C m d) 23 m))) (by rw [dAD_self]; simp [vf_upd]) dX1_others_228 ?_
              refine lv_d2f hx hb dX1_others_229 (nF_d2f (bD_n (nsV_b _))) ?_
              refine mm_fast S G 18 rfl (by decide) (n := 20) rfl (by omega) dX1_others_230 (fun H locs G => ?_)
              refine lv_iinc (v := nI (m + 1)) (lv' := [(1, .int (nI (m + 1))), (0, .ref (ad 0))]) hx hb dX1_others_231 hl (k := 0) rfl (nI_1 _) (by decide) rfl (fun ls hl => ?_)
              refine lv_goto (tgt := 2) hx hb dX1_others_234 (by decide) ?_
              exact ih (m + 1) (by omega) (by omega) H locs ls (mG_d (by show _ = otS C m (otN C m d); unfold otS; rw [if_neg c_17, if_neg c_55, if_pos c_178]) G) (lv_sub hl [0, 1] rfl) kk
          · obtain ⟨hd1, hd2, hd3⟩ := hDl.n c_55
            refine lv_aload_n hx hb dX1_others_58 rfl (lv_at hl 1 rfl) ?_
            refine mm_get S G 2 (by decide) q1269 rfl (v := .ref (ad 3)) rfl dX1_others_59 ?_
            refine lv_iload_n hx hb dX1_others_62 rfl (lv_at hl 0 rfl) ?_
            refine mm_dald S G 2 2 (by decide) (n := 20) rfl rfl (by omega) (by decide) (v := cS C m) rfl dX1_others_63 ?_
            refine lv_d2i hx hb dX1_others_64 ?_
            refine w_st (st' := [.int (nI (dlN C m))]) (by rw [hd3]) ?_
            refine lv_istore_n (lv' := [(2, .int (nI (dlN C m))), (1, .int (nI m)), (0, .ref (ad 0))]) hx hb dX1_others_65 rfl hl (by decide) rfl (fun ls hl => ?_)
            refine lv_iconst (v := nI 0) hx hb dX1_others_66 (by decide) ?_
            refine lv_istore_n (lv' := [(3, .int (nI 0)), (2, .int (nI (dlN C m))), (1, .int (nI m)), (0, .ref (ad 0))]) hx hb dX1_others_67 rfl hl (by decide) rfl (fun ls hl => ?_)
            refine L2 (otN C m d) m (by omega) hd1 hd2 ((dlN C m - 1) + 1) 0 (by omega) (by omega) _ _ ls (mG_d (by exact (rwI_0 _ _).symm) G) (lv_sub hl [0, 1, 2, 3] rfl) (fun H locs ls G hl => ?_)
            refine lv_aload_n hx hb dX1_others_129 rfl (lv_at hl 3 rfl) ?_
            refine mm_get S G 21 (by decide) q1288 rfl (v := .ref (ad 22)) rfl dX1_others_130 ?_
            refine lv_bipush (v := nI 16) hx hb dX1_others_133 (by decide) ?_
            refine lv_iload_n hx hb dX1_others_135 rfl (lv_at hl 2 rfl) ?_
            refine nn_mul hx hb dX1_others_136 ?_
            refine lv_iload_n hx hb dX1_others_137 rfl (lv_at hl 1 rfl) ?_
            refine nn_add hx hb dX1_others_138 ?_
            refine lv_iconst (v := nI 1) hx hb dX1_others_139 (by decide) ?_
            refine nn_sub hx hb (by omega) dX1_others_140 ?_
            refine w_st (st' := [.int (nI (16 * m + (dlN C m - 1))), .ref (ad 22)]) (by rw [show 16 * m + dlN C m - 1 = 16 * m + (dlN C m - 1) from by omega]) ?_
            refine lv_aload_n hx hb dX1_others_141 rfl (lv_at hl 3 rfl) ?_
            refine mm_get S G 54 (by decide) q1321 rfl (v := .ref (ad 55)) rfl dX1_others_142 ?_
            refine lv_iload_n hx hb dX1_others_145 rfl (lv_at hl 2 rfl) ?_
            refine mm_dald S G 54 2 (by decide) (n := 20) rfl rfl (by omega) (by decide) (v := dAD (otN C m d) 54 m) rfl dX1_others_146 ?_
            refine mm_dast S G 21 rfl (by decide) (n := 320) rfl (by omega) dX1_others_147 (fun H locs G => ?_)
            refine lv_aload_n hx hb dX1_others_148 rfl (lv_at hl 3 rfl) ?_
            refine mm_get S G 22 (by decide) q1289 rfl (v := .ref (ad 23)) rfl dX1_others_149 ?_
            refine lv_bipush (v := nI 16) hx hb dX1_others_152 (by decide) ?_
            refine lv_iload_n hx hb dX1_others_154 rfl (lv_at hl 2 rfl) ?_
            refine nn_mul hx hb dX1_others_155 ?_
            refine lv_iload_n hx hb dX1_others_156 rfl (lv_at hl 1 rfl) ?_
            refine nn_add hx hb dX1_others_157 ?_
            refine lv_iconst (v := nI 1) hx hb dX1_others_158 (by decide) ?_
            refine nn_sub hx hb (by omega) dX1_others_159 ?_
            refine w_st (st' := [.int (nI (16 * m + (dlN C m - 1))), .ref (ad 23)]) (by rw [show 16 * m + dlN C m - 1 = 16 * m + (dlN C m - 1) from by omega]) ?_
            refine lv_aload_n hx hb dX1_others_160 rfl (lv_at hl 3 rfl) ?_
            refine mm_get S G 55 (by decide) q1322 rfl (v := .ref (ad 56)) rfl dX1_others_161 ?_
            refine lv_iload_n hx hb dX1_others_164 rfl (lv_at hl 2 rfl) ?_
            refine mm_fald S G 55 3 (by decide) (n := 20) rfl rfl (by omega) (by decide) (v := dAF (otN C m d) 55 m) rfl dX1_others_165 ?_
            refine mm_fast S G 22 rfl (by decide) (n := 320) rfl (by omega) dX1_others_166 (fun H locs G => ?_)
            refine lv_goto (tgt := 231) hx hb dX1_others_167 (by decide) ?_
            refine lv_iinc (v := nI (m + 1)) (lv' := [(1, .int (nI (m + 1))), (3, .int (nI (dlN C m - 1))), (2, .int (nI (dlN C m))), (0, .ref (ad 0))]) hx hb dX1_others_231 hl (k := 2) rfl (nI_1 _) (by decide) rfl (fun ls hl => ?_)
            refine lv_goto (tgt := 2) hx hb dX1_others_234 (by decide) ?_
            exact ih (m + 1) (by omega) (by omega) H locs ls (mG_d (by show _ = otS C m (otN C m d); unfold otS; rw [if_neg c_17, if_pos c_55]) G) (lv_sub hl [0, 3] rfl) kk
        · refine lv_aload_n hx hb dX1_others_20 rfl (lv_at hl 1 rfl) ?_
          refine mm_get S G 17 (by decide) q1284 rfl (v := .ref (ad 18)) rfl dX1_others_21 ?_
          refine lv_iload_n hx hb dX1_others_24 rfl (lv_at hl 0 rfl) ?_
          refine lv_aload_n hx hb dX1_others_25 rfl (lv_at hl 1 rfl) ?_
          refine mm_get S G 54 (by decide) q1321 rfl (v := .ref (ad 55)) rfl dX1_others_26 ?_
          refine lv_iload_n hx hb dX1_others_29 rfl (lv_at hl 0 rfl) ?_
          refine mm_dald S G 54 2 (by decide) (n := 20) rfl rfl (by omega) (by decide) (v := dAD (otN C m d) 54 m) rfl dX1_others_30 ?_
          refine mm_dast S G 17 rfl (by decide) (n := 20) rfl (by omega) dX1_others_31 (fun H locs G => ?_)
          refine lv_aload_n hx hb dX1_others_32 rfl (lv_at hl 1 rfl) ?_
          refine mm_get S G 18 (by decide) q1285 rfl (v := .ref (ad 19)) rfl dX1_others_33 ?_
          refine lv_iload_n hx hb dX1_others_36 rfl (lv_at hl 0 rfl) ?_
          refine lv_aload_n hx hb dX1_others_37 rfl (lv_at hl 1 rfl) ?_
          refine mm_get S G 55 (by decide) q1322 rfl (v := .ref (ad 56)) rfl dX1_others_38 ?_
          refine lv_iload_n hx hb dX1_others_41 rfl (lv_at hl 0 rfl) ?_
          refine mm_fald S G 55 3 (by decide) (n := 20) rfl rfl (by omega) (by decide) (v := dAF (otN C m d) 55 m) rfl dX1_others_42 ?_
          refine mm_fast S G 18 rfl (by decide) (n := 20) rfl (by omega) dX1_others_43 (fun H locs G => ?_)
          refine lv_goto (tgt := 231) hx hb dX1_others_44 (by decide) ?_
          refine lv_iinc (v := nI (m + 1)) (lv' := [(1, .int (nI (m + 1))), (0, .ref (ad 0))]) hx hb dX1_others_231 hl (k := 0) rfl (nI_1 _) (by decide) rfl (fun ls hl => ?_)
          refine lv_goto (tgt := 2) hx hb dX1_others_234 (by decide) ?_
          exact ih (m + 1) (by omega) (by omega) H locs ls (mG_d (by show _ = otS C m (otN C m d); unfold otS; rw [if_pos c_17]) G) (lv_sub hl [0, 1] rfl) kk
  refine lv_iconst (v := nI 0) hx hb dX1_others_0 (by decide) ?_
  refine lv_istore_n (lv' := [(1, .int (nI 0)), (0, .ref (ad 0))]) hx hb dX1_others_1 rfl hl (by decide) rfl (fun ls hl => ?_)
  refine L1 (cN C + 1) 0 (by omega) (by omega) _ _ ls (mG_d (by rfl) G) (lv_sub hl [0, 1] rfl) (fun H locs ls G hl => ?_)
  exact mm_vret S hr hlk G rfl (by rfl) dX1_others_237
theorem mt_X1_differ (l : Launch) (D : va_G) (dA : Nat → ClassId) (ad : Nat → Nat) (C : tp_C) (d : md_T) (m : Nat) (hm : m < 20) (hR : rOK d) : mC l D dA ad yX1_differ cX1_differ 4 none 0 [.int (nI m)] C d none C (dfS m d) := by
  refine mm_start (by decide) rfl (Nat.le_of_ble_eq_true rfl) ?_
  intro p0 e0 s0 mid bl0 me0 co0 ls S hr hlk G hl
  have hx := S.1; have hb := S.2.1; have hml := S.2.2.1; have hown := S.2.2.2.1; have hts := S.2.2.2.2
  have hl : lv_has ls 4 [(0, .ref (ad 0)), (1, .int (nI m))] := hl
  refine lv_aload_n hx hb dX1_differ_0 rfl (lv_at hl 0 rfl) ?_
  refine mm_get S G 19 (by decide) q1286 rfl (v := .ref (ad 20)) rfl dX1_differ_1 ?_
  refine lv_iload_n hx hb dX1_differ_4 rfl (lv_at hl 1 rfl) ?_
  refine mm_dald S G 19 2 (by decide) (n := 20) rfl rfl (by omega) (by decide) (v := dAD d 19 m) rfl dX1_differ_5 ?_
  refine lv_aload_n hx hb dX1_differ_6 rfl (lv_at hl 0 rfl) ?_
  refine mm_get S G 20 (by decide) q1287 rfl (v := .ref (ad 21)) rfl dX1_differ_7 ?_
  refine lv_iload_n hx hb dX1_differ_10 rfl (lv_at hl 1 rfl) ?_
  refine mm_fald S G 20 3 (by decide) (n := 20) rfl rfl (by omega) (by decide) (v := dAF d 20 m) rfl dX1_differ_11 ?_
  refine lv_f2d hx hb dX1_differ_12 (nD_f2d (bF_n (hR.rf m))) ?_
  refine lv_dsub hx hb dX1_differ_13 (nD_sub (hR.rd m) (bD_f2d (hR.rf m))) ?_
  refine w_st (st' := [.double (dfV d m)]) (by rfl) ?_
  refine lv_dstore_n (lv' := [(2, .double (dfV d m)), (0, .ref (ad 0)), (1, .int (nI m))]) hx hb dX1_differ_14 rfl hl (by decide) rfl (fun ls hl => ?_)
  refine lv_dload_n hx hb dX1_differ_15 rfl (lv_at hl 0 rfl) ?_
  refine lv_dconst0 hx hb dX1_differ_16 ?_
  refine fx_jgge (tgt := 26) hx hb dX1_differ_17 dX1_differ_18 (by decide) (fun c_18 => ?_) (fun c_18 => ?_)
  · refine lv_dload_n hx hb dX1_differ_26 rfl (lv_at hl 0 rfl) ?_
    refine w_st (st' := [.double (dfA d m)]) (by simp [dfA, c_18]) ?_
    refine lv_dstore_n (lv' := [(2, .double (dfA d m)), (0, .ref (ad 0)), (1, .int (nI m))]) hx hb dX1_differ_27 rfl hl (by decide) rfl (fun ls hl => ?_)
    refine lv_aload_n hx hb dX1_differ_28 rfl (lv_at hl 1 rfl) ?_
    refine mm_get S G 25 (by decide) q1292 rfl (v := .ref (ad 26)) rfl dX1_differ_29 ?_
    refine lv_iload_n hx hb dX1_differ_32 rfl (lv_at hl 2 rfl) ?_
    refine lv_dload_n hx hb dX1_differ_33 rfl (lv_at hl 0 rfl) ?_
    refine lv_aload_n hx hb dX1_differ_34 rfl (lv_at hl 1 rfl) ?_
    refine mm_get S G 25 (by decide) q1292 rfl (v := .ref (ad 26)) rfl dX1_differ_35 ?_
    refine lv_iload_n hx hb dX1_differ_38 rfl (lv_at hl 2 rfl) ?_
    refine mm_dald S G 25 2 (by decide) (n := 20) rfl rfl (by omega) (by decide) (v := dAD d 25 m) rfl dX1_differ_39 ?_
    refine fx_jlle (tgt := 48) hx hb dX1_differ_40 dX1_differ_41 (by decide) (fun c_41 => ?_) (fun c_41 => ?_)
    · refine lv_aload_n hx hb dX1_differ_48 rfl (lv_at hl 1 rfl) ?_
      refine mm_get S G 25 (by decide) q1292 rfl (v := .ref (ad 26)) rfl dX1_differ_49 ?_
      refine lv_iload_n hx hb dX1_differ_52 rfl (lv_at hl 2 rfl) ?_
      refine mm_dald S G 25 2 (by decide) (n := 20) rfl rfl (by omega) (by decide) (v := dAD d 25 m) rfl dX1_differ_53 ?_
      refine mm_dast S G 25 rfl (by decide) (n := 20) rfl (by omega) dX1_differ_54 (fun H locs G => ?_)
      exact mm_vret S hr hlk G rfl (by simp [dfS, c_18, c_41]) dX1_differ_55
    · refine lv_dload_n hx hb dX1_differ_44 rfl (lv_at hl 0 rfl) ?_
      refine lv_goto (tgt := 54) hx hb dX1_differ_45 (by decide) ?_
      refine mm_dast S G 25 rfl (by decide) (n := 20) rfl (by omega) dX1_differ_54 (fun H locs G => ?_)
      exact mm_vret S hr hlk G rfl (by simp [dfS, c_18, c_41]) dX1_differ_55
  · refine lv_dload_n hx hb dX1_differ_21 rfl (lv_at hl 0 rfl) ?_
    refine lv_dneg hx hb dX1_differ_22 ?_
    refine w_st (st' := [.double (dfA d m)]) (by simp [dfA, c_18]) ?_
    refine lv_goto (tgt := 27) hx hb dX1_differ_23 (by decide) ?_
    refine lv_dstore_n (lv' := [(2, .double (dfA d m)), (0, .ref (ad 0)), (1, .int (nI m))]) hx hb dX1_differ_27 rfl hl (by decide) rfl (fun ls hl => ?_)
    refine lv_aload_n hx hb dX1_differ_28 rfl (lv_at hl 1 rfl) ?_
    refine mm_get S G 25 (by decide) q1292 rfl (v := .ref (ad 26)) rfl dX1_differ_29 ?_
    refine lv_iload_n hx hb dX1_differ_32 rfl (lv_at hl 2 rfl) ?_
    refine lv_dload_n hx hb dX1_differ_33 rfl (lv_at hl 0 rfl) ?_
    refine lv_aload_n hx hb dX1_differ_34 rfl (lv_at hl 1 rfl) ?_
    refine mm_get S G 25 (by decide) q1292 rfl (v := .ref (ad 26)) rfl dX1_differ_35 ?_
    refine lv_iload_n hx hb dX1_differ_38 rfl (lv_at hl 2 rfl) ?_
    refine mm_dald S G 25 2 (by decide) (n := 20) rfl rfl (by omega) (by decide) (v := dAD d 25 m) rfl dX1_differ_39 ?_
    refine fx_jlle (tgt := 48) hx hb dX1_differ_40 dX1_differ_41 (by decide) (fun c_41 => ?_) (fun c_41 => ?_)
    · refine lv_aload_n hx hb dX1_differ_48 rfl (lv_at hl 1 rfl) ?_
      refine mm_get S G 25 (by decide) q1292 rfl (v := .ref (ad 26)) rfl dX1_differ_49 ?_
      refine lv_iload_n hx hb dX1_differ_52 rfl (lv_at hl 2 rfl) ?_
      refine mm_dald S G 25 2 (by decide) (n := 20) rfl rfl (by omega) (by decide) (v := dAD d 25 m) rfl dX1_differ_53 ?_
      refine mm_dast S G 25 rfl (by decide) (n := 20) rfl (by omega) dX1_differ_54 (fun H locs G => ?_)
      exact mm_vret S hr hlk G rfl (by simp [dfS, c_18, c_41]) dX1_differ_55
    · refine lv_dload_n hx hb dX1_differ_44 rfl (lv_at hl 0 rfl) ?_
      refine lv_goto (tgt := 54) hx hb dX1_differ_45 (by decide) ?_
      refine mm_dast S G 25 rfl (by decide) (n := 20) rfl (by omega) dX1_differ_54 (fun H locs G => ?_)
      exact mm_vret S hr hlk G rfl (by simp [dfS, c_18, c_41]) dX1_differ_55
