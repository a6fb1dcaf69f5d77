set_option maxRecDepth 100000
set_option maxHeartbeats 4000000
theorem dX1_scaled_0 : decode cX1_scaled 0 = .ok (.lload_n 0, 1) := by decide +kernel
theorem dX1_scaled_1 : decode cX1_scaled 1 = .ok (.l2d, 1) := by decide +kernel
theorem dX1_scaled_2 : decode cX1_scaled 2 = .ok (.dstore_n 3, 1) := by decide +kernel
theorem dX1_scaled_3 : decode cX1_scaled 3 = .ok (.iload_n 2, 1) := by decide +kernel
theorem dX1_scaled_4 : decode cX1_scaled 4 = .ok (.sipush 1023, 3) := by decide +kernel
theorem dX1_scaled_7 : decode cX1_scaled 7 = .ok (.iadd, 1) := by decide +kernel
theorem dX1_scaled_8 : decode cX1_scaled 8 = .ok (.i2l, 1) := by decide +kernel
theorem dX1_scaled_9 : decode cX1_scaled 9 = .ok (.bipush 52, 2) := by decide +kernel
theorem dX1_scaled_11 : decode cX1_scaled 11 = .ok (.lshl, 1) := by decide +kernel
theorem dX1_scaled_12 : decode cX1_scaled 12 = .ok (.invokestatic 185, 3) := by decide +kernel
theorem dX1_scaled_15 : decode cX1_scaled 15 = .ok (.dstore 5, 2) := by decide +kernel
theorem dX1_scaled_17 : decode cX1_scaled 17 = .ok (.dload_n 3, 1) := by decide +kernel
theorem dX1_scaled_18 : decode cX1_scaled 18 = .ok (.dload 5, 2) := by decide +kernel
theorem dX1_scaled_20 : decode cX1_scaled 20 = .ok (.dmul, 1) := by decide +kernel
theorem dX1_scaled_21 : decode cX1_scaled 21 = .ok (.dreturn, 1) := by decide +kernel
theorem dX1_root_0 : decode cX1_root 0 = .ok (.dload_n 0, 1) := by decide +kernel
theorem dX1_root_1 : decode cX1_root 1 = .ok (.dconst 0, 1) := by decide +kernel
theorem dX1_root_2 : decode cX1_root 2 = .ok (.dcmp .l, 1) := by decide +kernel
theorem dX1_root_3 : decode cX1_root 3 = .ok (.ifCond .ne 5, 3) := by decide +kernel
theorem dX1_root_6 : decode cX1_root 6 = .ok (.dload_n 0, 1) := by decide +kernel
theorem dX1_root_7 : decode cX1_root 7 = .ok (.dreturn, 1) := by decide +kernel
theorem dX1_root_8 : decode cX1_root 8 = .ok (.dload_n 0, 1) := by decide +kernel
theorem dX1_root_9 : decode cX1_root 9 = .ok (.invokestatic 250, 3) := by decide +kernel
theorem dX1_root_12 : decode cX1_root 12 = .ok (.lstore_n 2, 1) := by decide +kernel
theorem dX1_root_13 : decode cX1_root 13 = .ok (.lload_n 2, 1) := by decide +kernel
theorem dX1_root_14 : decode cX1_root 14 = .ok (.bipush 52, 2) := by decide +kernel
theorem dX1_root_16 : decode cX1_root 16 = .ok (.lshr, 1) := by decide +kernel
theorem dX1_root_17 : decode cX1_root 17 = .ok (.l2i, 1) := by decide +kernel
theorem dX1_root_18 : decode cX1_root 18 = .ok (.istore 4, 2) := by decide +kernel
theorem dX1_root_20 : decode cX1_root 20 = .ok (.lload_n 2, 1) := by decide +kernel
theorem dX1_root_21 : decode cX1_root 21 = .ok (.ldc2_w 254, 3) := by decide +kernel
theorem dX1_root_24 : decode cX1_root 24 = .ok (.land, 1) := by decide +kernel
theorem dX1_root_25 : decode cX1_root 25 = .ok (.lstore 5, 2) := by decide +kernel
theorem dX1_root_27 : decode cX1_root 27 = .ok (.iload 4, 2) := by decide +kernel
theorem dX1_root_29 : decode cX1_root 29 = .ok (.ifCond .ne 27, 3) := by decide +kernel
theorem dX1_root_32 : decode cX1_root 32 = .ok (.iconst 1, 1) := by decide +kernel
theorem dX1_root_33 : decode cX1_root 33 = .ok (.istore 4, 2) := by decide +kernel
theorem dX1_root_35 : decode cX1_root 35 = .ok (.lload 5, 2) := by decide +kernel
theorem dX1_root_37 : decode cX1_root 37 = .ok (.ldc2_w 256, 3) := by decide +kernel
theorem dX1_root_40 : decode cX1_root 40 = .ok (.lcmp, 1) := by decide +kernel
theorem dX1_root_41 : decode cX1_root 41 = .ok (.ifCond .ge 23, 3) := by decide +kernel
theorem dX1_root_44 : decode cX1_root 44 = .ok (.lload 5, 2) := by decide +kernel
theorem dX1_root_46 : decode cX1_root 46 = .ok (.iconst 1, 1) := by decide +kernel
theorem dX1_root_47 : decode cX1_root 47 = .ok (.lshl, 1) := by decide +kernel
theorem dX1_root_48 : decode cX1_root 48 = .ok (.lstore 5, 2) := by decide +kernel
theorem dX1_root_50 : decode cX1_root 50 = .ok (.iinc 4 (-1), 3) := by decide +kernel
theorem dX1_root_53 : decode cX1_root 53 = .ok (.goto (-18), 3) := by decide +kernel
theorem dX1_root_56 : decode cX1_root 56 = .ok (.lload 5, 2) := by decide +kernel
theorem dX1_root_58 : decode cX1_root 58 = .ok (.ldc2_w 256, 3) := by decide +kernel
theorem dX1_root_61 : decode cX1_root 61 = .ok (.lor, 1) := by decide +kernel
theorem dX1_root_62 : decode cX1_root 62 = .ok (.lstore 5, 2) := by decide +kernel
theorem dX1_root_64 : decode cX1_root 64 = .ok (.iload 4, 2) := by decide +kernel
theorem dX1_root_66 : decode cX1_root 66 = .ok (.sipush 1075, 3) := by decide +kernel
theorem dX1_root_69 : decode cX1_root 69 = .ok (.isub, 1) := by decide +kernel
theorem dX1_root_70 : decode cX1_root 70 = .ok (.istore 7, 2) := by decide +kernel
theorem dX1_root_72 : decode cX1_root 72 = .ok (.iload 7, 2) := by decide +kernel
theorem dX1_root_74 : decode cX1_root 74 = .ok (.iconst 2, 1) := by decide +kernel
theorem dX1_root_75 : decode cX1_root 75 = .ok (.irem, 1) := by decide +kernel
theorem dX1_root_76 : decode cX1_root 76 = .ok (.ifCond .eq 12, 3) := by decide +kernel
theorem dX1_root_79 : decode cX1_root 79 = .ok (.lload 5, 2) := by decide +kernel
theorem dX1_root_81 : decode cX1_root 81 = .ok (.iconst 1, 1) := by decide +kernel
theorem dX1_root_82 : decode cX1_root 82 = .ok (.lshl, 1) := by decide +kernel
theorem dX1_root_83 : decode cX1_root 83 = .ok (.lstore 5, 2) := by decide +kernel
theorem dX1_root_85 : decode cX1_root 85 = .ok (.iinc 7 (-1), 3) := by decide +kernel
theorem dX1_root_88 : decode cX1_root 88 = .ok (.lconst 0, 1) := by decide +kernel
theorem dX1_root_89 : decode cX1_root 89 = .ok (.lstore 8, 2) := by decide +kernel
theorem dX1_root_91 : decode cX1_root 91 = .ok (.lconst 0, 1) := by decide +kernel
theorem dX1_root_92 : decode cX1_root 92 = .ok (.lstore 10, 2) := by decide +kernel
theorem dX1_root_94 : decode cX1_root 94 = .ok (.iconst 0, 1) := by decide +kernel
theorem dX1_root_95 : decode cX1_root 95 = .ok (.istore 12, 2) := by decide +kernel
theorem dX1_root_97 : decode cX1_root 97 = .ok (.iload 12, 2) := by decide +kernel
theorem dX1_root_99 : decode cX1_root 99 = .ok (.bipush 54, 2) := by decide +kernel
theorem dX1_root_101 : decode cX1_root 101 = .ok (.if_icmp .ge 80, 3) := by decide +kernel
theorem dX1_root_104 : decode cX1_root 104 = .ok (.iload 12, 2) := by decide +kernel
theorem dX1_root_106 : decode cX1_root 106 = .ok (.bipush 27, 2) := by decide +kernel
theorem dX1_root_108 : decode cX1_root 108 = .ok (.if_icmp .ge 20, 3) := by decide +kernel
theorem dX1_root_111 : decode cX1_root 111 = .ok (.lload 5, 2) := by decide +kernel
theorem dX1_root_113 : decode cX1_root 113 = .ok (.bipush 52, 2) := by decide +kernel
theorem dX1_root_115 : decode cX1_root 115 = .ok (.iconst 2, 1) := by decide +kernel
theorem dX1_root_116 : decode cX1_root 116 = .ok (.iload 12, 2) := by decide +kernel
theorem dX1_root_118 : decode cX1_root 118 = .ok (.imul, 1) := by decide +kernel
theorem dX1_root_119 : decode cX1_root 119 = .ok (.isub, 1) := by decide +kernel
theorem dX1_root_120 : decode cX1_root 120 = .ok (.lshr, 1) := by decide +kernel
theorem dX1_root_121 : decode cX1_root 121 = .ok (.ldc2_w 258, 3) := by decide +kernel
theorem dX1_root_124 : decode cX1_root 124 = .ok (.land, 1) := by decide +kernel
theorem dX1_root_125 : decode cX1_root 125 = .ok (.goto 4, 3) := by decide +kernel
theorem dX1_root_128 : decode cX1_root 128 = .ok (.lconst 0, 1) := by decide +kernel
theorem dX1_root_129 : decode cX1_root 129 = .ok (.lstore 13, 2) := by decide +kernel
theorem dX1_root_131 : decode cX1_root 131 = .ok (.lload 10, 2) := by decide +kernel
theorem dX1_root_133 : decode cX1_root 133 = .ok (.iconst 2, 1) := by decide +kernel
theorem dX1_root_134 : decode cX1_root 134 = .ok (.lshl, 1) := by decide +kernel
theorem dX1_root_135 : decode cX1_root 135 = .ok (.lload 13, 2) := by decide +kernel
theorem dX1_root_137 : decode cX1_root 137 = .ok (.lor, 1) := by decide +kernel
theorem dX1_root_138 : decode cX1_root 138 = .ok (.lstore 10, 2) := by decide +kernel
theorem dX1_root_140 : decode cX1_root 140 = .ok (.lload 8, 2) := by decide +kernel
theorem dX1_root_142 : decode cX1_root 142 = .ok (.iconst 2, 1) := by decide +kernel
theorem dX1_root_143 : decode cX1_root 143 = .ok (.lshl, 1) := by decide +kernel
theorem dX1_root_144 : decode cX1_root 144 = .ok (.lconst 1, 1) := by decide +kernel
theorem dX1_root_145 : decode cX1_root 145 = .ok (.lor, 1) := by decide +kernel
theorem dX1_root_146 : decode cX1_root 146 = .ok (.lstore 15, 2) := by decide +kernel
theorem dX1_root_148 : decode cX1_root 148 = .ok (.lload 8, 2) := by decide +kernel
theorem dX1_root_150 : decode cX1_root 150 = .ok (.iconst 1, 1) := by decide +kernel
theorem dX1_root_151 : decode cX1_root 151 = .ok (.lshl, 1) := by decide +kernel
theorem dX1_root_152 : decode cX1_root 152 = .ok (.lstore 8, 2) := by decide +kernel
theorem dX1_root_154 : decode cX1_root 154 = .ok (.lload 10, 2) := by decide +kernel
theorem dX1_root_156 : decode cX1_root 156 = .ok (.lload 15, 2) := by decide +kernel
theorem dX1_root_158 : decode cX1_root 158 = .ok (.lcmp, 1) := by decide +kernel
theorem dX1_root_159 : decode cX1_root 159 = .ok (.ifCond .lt 16, 3) := by decide +kernel
theorem dX1_root_162 : decode cX1_root 162 = .ok (.lload 10, 2) := by decide +kernel
theorem dX1_root_164 : decode cX1_root 164 = .ok (.lload 15, 2) := by decide +kernel
theorem dX1_root_166 : decode cX1_root 166 = .ok (.lsub, 1) := by decide +kernel
theorem dX1_root_167 : decode cX1_root 167 = .ok (.lstore 10, 2) := by decide +kernel
theorem dX1_root_169 : decode cX1_root 169 = .ok (.lload 8, 2) := by decide +kernel
theorem dX1_root_171 : decode cX1_root 171 = .ok (.lconst 1, 1) := by decide +kernel
theorem dX1_root_172 : decode cX1_root 172 = .ok (.lor, 1) := by decide +kernel
theorem dX1_root_173 : decode cX1_root 173 = .ok (.lstore 8, 2) := by decide +kernel
theorem dX1_root_175 : decode cX1_root 175 = .ok (.iinc 12 1, 3) := by decide +kernel
theorem dX1_root_178 : decode cX1_root 178 = .ok (.goto (-81), 3) := by decide +kernel
theorem dX1_root_181 : decode cX1_root 181 = .ok (.lload 8, 2) := by decide +kernel
theorem dX1_root_183 : decode cX1_root 183 = .ok (.iconst 1, 1) := by decide +kernel
theorem dX1_root_184 : decode cX1_root 184 = .ok (.lshr, 1) := by decide +kernel
theorem dX1_root_185 : decode cX1_root 185 = .ok (.lload 8, 2) := by decide +kernel
theorem dX1_root_187 : decode cX1_root 187 = .ok (.lconst 1, 1) := by decide +kernel
theorem dX1_root_188 : decode cX1_root 188 = .ok (.land, 1) := by decide +kernel
theorem dX1_root_189 : decode cX1_root 189 = .ok (.ladd, 1) := by decide +kernel
theorem dX1_root_190 : decode cX1_root 190 = .ok (.lstore 12, 2) := by decide +kernel
theorem dX1_root_192 : decode cX1_root 192 = .ok (.iload 7, 2) := by decide +kernel
theorem dX1_root_194 : decode cX1_root 194 = .ok (.iconst 2, 1) := by decide +kernel
theorem dX1_root_195 : decode cX1_root 195 = .ok (.idiv, 1) := by decide +kernel
theorem dX1_root_196 : decode cX1_root 196 = .ok (.bipush 27, 2) := by decide +kernel
theorem dX1_root_198 : decode cX1_root 198 = .ok (.isub, 1) := by decide +kernel
theorem dX1_root_199 : decode cX1_root 199 = .ok (.iconst 1, 1) := by decide +kernel
theorem dX1_root_200 : decode cX1_root 200 = .ok (.iadd, 1) := by decide +kernel
theorem dX1_root_201 : decode cX1_root 201 = .ok (.istore 14, 2) := by decide +kernel
theorem dX1_root_203 : decode cX1_root 203 = .ok (.lload 12, 2) := by decide +kernel
theorem dX1_root_205 : decode cX1_root 205 = .ok (.iload 14, 2) := by decide +kernel
theorem dX1_root_207 : decode cX1_root 207 = .ok (.invokestatic 260, 3) := by decide +kernel
theorem dX1_root_210 : decode cX1_root 210 = .ok (.dreturn, 1) := by decide +kernel
theorem hd_X1_scaled : yX1_scaled.cls ≠ "java/lang/invoke/MethodHandle" ∧ yX1_scaled.cls ≠ "java/lang/invoke/VarHandle" ∧ (parseMethodDescriptor yX1_scaled.desc).map (fun d => d.parameters.length) = some 2 := by decide +kernel
theorem lN_bv (n : Nat) : (lN n).toBitVec = BitVec.ofNat 64 n := rfl
theorem lN_k : ∀ k, k < 64 → (nI k).toInt64 &&& 63 = lN k := by decide
theorem lN_smod : ∀ k, k < 64 → (BitVec.ofNat 64 k).smod 64#64 = BitVec.ofNat 64 k := by decide
theorem lN_shr {a k : Nat} (ha : a < 2 ^ 63) (hk : k < 64) : (lN a) >>> ((nI k).toInt64 &&& 63) = lN (a / 2 ^ k) := by
  rw [lN_k k hk]
  apply Int64.toBitVec_inj.mp
  show BitVec.sshiftRight' (lN a).toBitVec ((lN k).toBitVec.smod 64#64) = _
  rw [lN_bv, lN_bv, lN_bv, lN_smod k hk]
  show BitVec.sshiftRight (BitVec.ofNat 64 a) (BitVec.ofNat 64 k).toNat = _
  have hk' : (BitVec.ofNat 64 k).toNat = k := by simp; omega
  rw [hk', BitVec.sshiftRight_eq_of_msb_false (by rw [BitVec.msb_eq_decide]; simp; omega)]
  apply BitVec.eq_of_toNat_eq
  simp [BitVec.toNat_ushiftRight, Nat.shiftRight_eq_div_pow]
  rw [Nat.mod_eq_of_lt (show a < 18446744073709551616 by omega), Nat.mod_eq_of_lt]
  exact Nat.lt_of_le_of_lt (Nat.div_le_self _ _) (by omega)
theorem lN_shl {a k : Nat} (hk : k < 64) : (lN a) <<< ((nI k).toInt64 &&& 63) = lN (a * 2 ^ k) := by
  rw [lN_k k hk]
  apply Int64.toBitVec_inj.mp
  show (lN a).toBitVec <<< ((lN k).toBitVec.smod 64#64) = _
  rw [lN_bv, lN_bv, lN_bv, lN_smod k hk]
  apply BitVec.eq_of_toNat_eq
  simp [BitVec.toNat_shiftLeft, Nat.shiftLeft_eq]
  rw [show k % 18446744073709551616 = k by omega]
theorem lN_and (a b : Nat) : lN a &&& lN b = lN (a &&& b) := by
  apply Int64.toBitVec_inj.mp
  show (lN a).toBitVec &&& (lN b).toBitVec = _
  rw [lN_bv, lN_bv, lN_bv]
  apply BitVec.eq_of_toNat_eq
  simp [BitVec.toNat_and]
theorem lN_or (a b : Nat) : lN a ||| lN b = lN (a ||| b) := by
  apply Int64.toBitVec_inj.mp
  show (lN a).toBitVec ||| (lN b).toBitVec = _
  rw [lN_bv, lN_bv, lN_bv]
  apply BitVec.eq_of_toNat_eq
  simp [BitVec.toNat_or]
theorem lK_le {a b : Nat} (ha : a < 2 ^ 63) (hb : b < 2 ^ 63) : lN a ≤ lN b ↔ a ≤ b := by
  rw [Int64.le_iff_toInt_le, lK_toInt ha, lK_toInt hb]; omega
theorem lK_lt {a b : Nat} (ha : a < 2 ^ 63) (hb : b < 2 ^ 63) : lN a < lN b ↔ a < b := by
  rw [Int64.lt_iff_toInt_lt, lK_toInt ha, lK_toInt hb]; omega
theorem lN_u (v : UInt64) : v.toInt64 = lN v.toNat := by
  apply Int64.toBitVec_inj.mp
  show v.toBitVec = BitVec.ofNat 64 v.toNat
  apply BitVec.eq_of_toNat_eq
  simp
theorem or_add {a b k : Nat} (h : b < 2 ^ k) : (a * 2 ^ k) ||| b = a * 2 ^ k + b := by
  rw [Nat.mul_comm]; exact (Nat.two_pow_add_eq_or_of_lt h a).symm
theorem and_m (a k : Nat) : a &&& (2 ^ k - 1) = a % 2 ^ k := Nat.and_two_pow_sub_one_eq_mod a k
theorem iZ_toInt {z : Int} (h1 : -2147483648 ≤ z) (h2 : z < 2147483648) : (Int32.ofInt z).toInt = z := Int32.toInt_ofInt_of_le h1 h2
theorem iZ_of {x : Int32} {z : Int} (h1 : -2147483648 ≤ z) (h2 : z < 2147483648) (h : x.toInt = z) : x = Int32.ofInt z := Int32.toInt_inj.mp (by rw [iZ_toInt h1 h2, h])
theorem iZ_nI (n : Nat) : nI n = Int32.ofInt (n : Int) := (Int32.ofInt_eq_ofNat).symm
theorem iZ_sub (a b : Int) : Int32.ofInt a - Int32.ofInt b = Int32.ofInt (a - b) := (Int32.ofInt_sub a b).symm
theorem iZ_add (a b : Int) : Int32.ofInt a + Int32.ofInt b = Int32.ofInt (a + b) := (Int32.ofInt_add a b).symm
theorem iZ_mul (a b : Int) : Int32.ofInt a * Int32.ofInt b = Int32.ofInt (a * b) := (Int32.ofInt_mul a b).symm
theorem iZ_tdiv {z : Int} (h1 : -2147483648 < z) (h2 : z < 2147483648) : Int32.ofInt z / nI 2 = Int32.ofInt (z.tdiv 2) := by
  have hb : (z.tdiv 2).natAbs ≤ z.natAbs := by rw [Int.natAbs_tdiv]; exact Nat.div_le_self _ _
  refine iZ_of (by omega) (by omega) ?_
  rw [Int32.toInt_div_of_ne_right _ _ (by decide), iZ_toInt (by omega) h2]
  rfl
theorem iZ_rem {z : Int} (h1 : -2147483648 < z) (h2 : z < 2147483648) : (Int32.ofInt z - Int32.ofInt z / nI 2 * nI 2 = 0) ↔ z % 2 = 0 := by
  rw [iZ_tdiv h1 h2, show nI 2 = Int32.ofInt 2 from rfl, iZ_mul, iZ_sub]
  have e : z - z.tdiv 2 * 2 = z.tmod 2 := by have := Int.tmod_add_mul_tdiv z 2; omega
  rw [e]
  have hb : (z.tmod 2).natAbs < 2 := by rw [Int.natAbs_tmod]; exact Nat.mod_lt _ (by decide)
  constructor
  · intro h
    have h3 := congrArg Int32.toInt h
    rw [iZ_toInt (by omega) (by omega)] at h3
    exact Int.emod_eq_zero_of_dvd (Int.dvd_of_tmod_eq_zero h3)
  · intro h
    rw [Int.tmod_eq_zero_of_dvd (Int.dvd_of_emod_eq_zero h)]; rfl
theorem iZ_div {z : Int} (h1 : -2147483648 < z) (h2 : z < 2147483648) (h : z % 2 = 0) : Int32.ofInt z / nI 2 = Int32.ofInt (z / 2) := by
  rw [iZ_tdiv h1 h2, Int.tdiv_eq_ediv_of_dvd (Int.dvd_of_emod_eq_zero h)]
def scD (a : Int64) (x : Int32) : UInt64 := FP.dmul (FP.l2d a) (((x + nI 1023).toInt64 <<< ((nI 52).toInt64 &&& 63)).toUInt64)
theorem st_X1_scaled (l : Launch) (a : Int64) (x : Int32) (h1 : vn_snl2d ((x + nI 1023).toInt64 <<< ((nI 52).toInt64 &&& 63)) = false) (h2 : vf_n64 (scD a x)) : sC l yX1_scaled cX1_scaled 7 (some .double) 1 [.long a, .int x] (some (.double (scD a x))) := by
  refine ss_start (own := RX1) (by decide) rfl (Nat.le_of_ble_eq_true rfl) ?_
  intro p0 e0 s0 mid bl0 me0 co0 ls S hr hlk hl
  have hx := S.1; have hb := S.2.1; have hml := S.2.2.1; have hown := S.2.2.2.1; have hts := S.2.2.2.2
  have hl : lv_has ls 7 [(0, .long a), (2, .int x)] := hl
  refine lv_lload_n hx hb dX1_scaled_0 rfl (lv_at hl 0 rfl) ?_
  refine lv_l2d hx hb dX1_scaled_1 ?_
  refine lv_dstore_n (lv' := [(3, .double (FP.l2d a)), (0, .long a), (2, .int x)]) hx hb dX1_scaled_2 rfl hl (by decide) rfl (fun ls hl => ?_)
  refine lv_iload_n hx hb dX1_scaled_3 rfl (lv_at hl 2 rfl) ?_
  refine lv_sipush (v := nI 1023) hx hb dX1_scaled_4 (by decide) ?_
  refine lv_iadd hx hb dX1_scaled_7 ?_
  refine lv_i2l (v := ((x + (nI 1023))).toInt64) hx hb dX1_scaled_8 rfl ?_
  refine lv_bipush (v := nI 52) hx hb dX1_scaled_9 (by decide) ?_
  refine lv_lshl (v := ((((x + (nI 1023))).toInt64) <<< ((nI 52).toInt64 &&& 63))) hx hb dX1_scaled_11 rfl ?_
  refine vn_l2d hx hb (hml.trans hl.1.symm) hown (hts _ q1463) (hts _ q166) (hts _ q165) (hts _ q55) h1 (Nat.le_of_ble_eq_true rfl) (Nat.le_of_ble_eq_true rfl) dX1_scaled_12 ?_
  refine lv_dstore (lv' := [(5, .double ((((((x + (nI 1023))).toInt64) <<< ((nI 52).toInt64 &&& 63))).toUInt64)), (3, .double (FP.l2d a)), (0, .long a), (2, .int x)]) hx hb dX1_scaled_15 hl (by decide) rfl (fun ls hl => ?_)
  refine lv_dload_n hx hb dX1_scaled_17 rfl (lv_at hl 1 rfl) ?_
  refine lv_dload hx hb dX1_scaled_18 (lv_at hl 0 rfl) ?_
  refine lv_dmul hx hb dX1_scaled_20 h2 ?_
  exact ss_dret S hr hlk (by rfl) dX1_scaled_21
theorem nI_lN {n : Nat} (h : n < 2 ^ 31) : (nI n).toInt64 = lN n := by
  apply Int64.toInt_inj.mp
  rw [Int32.toInt_toInt64, nI_toInt h, lK_toInt (by omega)]
theorem st_X1_root' (l : Launch) (v : UInt64) (hv : rtOK v) : sC l yX1_root cX1_root 17 (some .double) 2 [.double v] (some (.double (rtD v))) := by
  refine ss_start (own := RX1) (by decide) rfl (Nat.le_of_ble_eq_true rfl) ?_
  intro p0 e0 s0 mid bl0 me0 co0 ls S hr hlk hl
  have hx := S.1; have hb := S.2.1; have hml := S.2.2.1; have hown := S.2.2.2.1; have hts := S.2.2.2.2
  have hl : lv_has ls 17 [(0, .double v)] := hl
  have L1 : fx_eq v FP.dconst0 = false → ∀ (n_ i : Nat), i ≤ 54 → 54 < i + n_ → ∀ (ls : Array Slot), lv_has ls 17 [(12, .int (nI i)), (10, .long (lN ((rtQ (rtM v) i).2))), (8, .long (lN ((rtQ (rtM v) i).1))), (7, .int (Int32.ofInt (rtP v))), (5, .long (lN (rtM v)))] → W p0 l e0 (rm_ 2) s0 mid ([.double v] : List Value).toArray bl0 me0 co0 s0.heap [] 0 0 (MQ bl0 (sQ (some (.double (rtD v)))) ([.double v] : List Value).toArray s0 0 0 (fun _ => False)) (F0 mid 97 ls []) := by
    intro h0 n_
    obtain ⟨va, vb⟩ := rtOK_p hv h0
    obtain ⟨m1, m2⟩ := rtM_rng va vb
    obtain ⟨p1, p2⟩ := rtP_rng vb va
    have pe := rtP_ev v
    have hR := rtR_rng va vb
    induction n_ with
    | zero => intro i h1_ h2_; exact absurd h2_ (by omega)
    | succ n_ ih =>
      intro i h1_ h2_ ls hl
      obtain ⟨b1, b2⟩ := rtQ_b m2 i h1_
      have b3 : 2 ^ i ≤ 2 ^ 54 := Nat.pow_le_pow_right (by decide) h1_
      have b4 := dg_4 (rtM v) i
      refine lv_iload hx hb dX1_root_97 (lv_at hl 0 rfl) ?_
      refine lv_bipush (v := nI 54) hx hb dX1_root_99 (by decide) ?_
      refine nn_cge (tgt := 181) hx hb (by omega) (by omega) dX1_root_101 (by decide) (fun c_101 => ?_) (fun c_101 => ?_)
      · have i54 : i = 54 := by omega
        subst i54
        have b5 := (rtQ_rng m1 m2).2
        refine lv_lload hx hb dX1_root_181 (lv_at hl 2 rfl) ?_
        refine lv_iconst (v := nI 1) hx hb dX1_root_183 (by decide) ?_
        refine lv_lshr (v := lN ((rtQ (rtM v) 54).1 / 2 ^ 1)) hx hb dX1_root_184 (lN_shr (by omega) (by decide)) ?_
        refine lv_lload hx hb dX1_root_185 (lv_at hl 2 rfl) ?_
        refine lv_lconst (v := lN 1) hx hb dX1_root_187 (by decide) ?_
        refine lv_land hx hb dX1_root_188 ?_
        refine w_st (st' := [.long (lN ((rtQ (rtM v) 54).1 % 2 ^ 1)), .long (lN ((rtQ (rtM v) 54).1 / 2 ^ 1))]) (by rw [lN_and, show (1 : Nat) = 2 ^ 1 - 1 from rfl, and_m]) ?_
        refine lv_ladd hx hb dX1_root_189 ?_
        refine w_st (st' := [.long (lN (rtR v))]) (by rw [lN_add]; unfold rtR; rw [show (rtQ (rtM v) 54).1 / 2 ^ 1 + (rtQ (rtM v) 54).1 % 2 ^ 1 = ((rtQ (rtM v) 54).1 + 1) / 2 by omega]) ?_
        refine lv_lstore (lv' := [(12, .long (lN (rtR v))), (10, .long (lN ((rtQ (rtM v) 54).2))), (8, .long (lN ((rtQ (rtM v) 54).1))), (7, .int (Int32.ofInt (rtP v))), (5, .long (lN (rtM v)))]) hx hb dX1_root_190 hl (by decide) rfl (fun ls hl => ?_)
        refine lv_iload hx hb dX1_root_192 (lv_at hl 3 rfl) ?_
        refine lv_iconst (v := nI 2) hx hb dX1_root_194 (by decide) ?_
        refine lv_idiv hx hb dX1_root_195 (by decide) ?_
        refine w_st (st' := [.int (Int32.ofInt (rtP v / 2))]) (by rw [iZ_div (by omega) (by omega) pe]) ?_
        refine lv_bipush (v := nI 27) hx hb dX1_root_196 (by decide) ?_
        refine lv_isub hx hb dX1_root_198 ?_
        refine w_st (st' := [.int (Int32.ofInt (rtP v / 2 - 27))]) (by rw [show nI 27 = Int32.ofInt 27 from rfl, iZ_sub]) ?_
        refine lv_iconst (v := nI 1) hx hb dX1_root_199 (by decide) ?_
        refine lv_iadd hx hb dX1_root_200 ?_
        refine w_st (st' := [.int (Int32.ofInt (rtP v / 2 - 26))]) (by rw [show nI 1 = Int32.ofInt 1 from rfl, iZ_add, show rtP v / 2 - 27 + 1 = rtP v / 2 - 26 by omega]) ?_
        refine lv_istore (lv' := [(14, .int (Int32.ofInt (rtP v / 2 - 26))), (12, .long (lN (rtR v))), (10, .long (lN ((rtQ (rtM v) 54).2))), (8, .long (lN ((rtQ (rtM v) 54).1))), (7, .int (Int32.ofInt (rtP v))), (5, .long (lN (rtM v)))]) hx hb dX1_root_201 hl (by decide) rfl (fun ls hl => ?_)
        refine lv_lload hx hb dX1_root_203 (lv_at hl 1 rfl) ?_
        refine lv_iload hx hb dX1_root_205 (lv_at hl 0 rfl) ?_
        have hE : Int32.ofInt (rtP v / 2 - 26) + nI 1023 = nI (rtP v / 2 - 26 + 1023).toNat := by rw [show nI 1023 = Int32.ofInt 1023 from rfl, iZ_add, iZ_nI]; congr 1; omega
        have hE2 : (Int32.ofInt (rtP v / 2 - 26) + nI 1023).toInt64 <<< ((nI 52).toInt64 &&& 63) = lN ((rtP v / 2 - 26 + 1023).toNat * 2 ^ 52) := by rw [hE, show (nI (rtP v / 2 - 26 + 1023).toNat).toInt64 = lN (rtP v / 2 - 26 + 1023).toNat from nI_lN (by omega), lN_shl (by decide)]
        have hE3 : (lN ((rtP v / 2 - 26 + 1023).toNat * 2 ^ 52)).toUInt64 = rtB v := rfl
        have hS : scD (lN (rtR v)) (Int32.ofInt (rtP v / 2 - 26)) = rtD v := by unfold scD rtD; rw [if_neg (by rw [h0]; decide), hE2, hE3]
        have hEn : (rtP v / 2 - 26 + 1023).toNat ≤ 1600 := by omega
        have hBn : (rtB v).toNat = (rtP v / 2 - 26 + 1023).toNat * 2 ^ 52 := UInt64.toNat_ofNat_of_lt' (by show (rtP v / 2 - 26 + 1023).toNat * 2 ^ 52 < 2 ^ 64; omega)
        refine sC_call (As := [.long (lN (rtR v)), .int (Int32.ofInt (rtP v / 2 - 26))]) (rest := []) S (st_X1_scaled l (lN (rtR v)) (Int32.ofInt (rtP v / 2 - 26)) (by rw [hE2]; exact nb_sn (by rw [hE3, nD_iff, hBn]; omega)) (by rw [hS]; exact rt_n' hv)) q1573 q1574 q53 q1575 hd_X1_scaled ⟨Nat.le_of_ble_eq_true rfl, Nat.le_of_ble_eq_true rfl⟩ rfl hl.1 rfl (Nat.le_of_ble_eq_true rfl) dX1_root_207 ⟨Nat.zero_le _, Nat.zero_le _⟩ ?_
        refine W.eq (g2 := F0 mid 210 ls [.double (rtD v)]) (by rw [← hS]; rfl) ?_
        exact ss_dret S hr hlk rfl dX1_root_210
      · refine lv_iload hx hb dX1_root_104 (lv_at hl 0 rfl) ?_
        refine lv_bipush (v := nI 27) hx hb dX1_root_106 (by decide) ?_
        refine nn_cge (tgt := 128) hx hb (by omega) (by omega) dX1_root_108 (by decide) (fun c_108 => ?_) (fun c_108 => ?_)
        · refine lv_lconst (v := lN (dg_ (rtM v) i)) hx hb dX1_root_128 (by unfold dg_; rw [if_neg (by omega)]; rfl) ?_
          refine lv_lstore (lv' := [(13, .long (lN (dg_ (rtM v) i))), (12, .int (nI i)), (10, .long (lN ((rtQ (rtM v) i).2))), (8, .long (lN ((rtQ (rtM v) i).1))), (7, .int (Int32.ofInt (rtP v))), (5, .long (lN (rtM v)))]) hx hb dX1_root_129 hl (by decide) rfl (fun ls hl => ?_)
          refine lv_lload hx hb dX1_root_131 (lv_at hl 2 rfl) ?_
          refine lv_iconst (v := nI 2) hx hb dX1_root_133 (by decide) ?_
          refine lv_lshl (v := lN ((rtQ (rtM v) i).2 * 2 ^ 2)) hx hb dX1_root_134 (lN_shl (by decide)) ?_
          refine lv_lload hx hb dX1_root_135 (lv_at hl 0 rfl) ?_
          refine lv_lor hx hb dX1_root_137 ?_
          refine w_st (st' := [.long (lN (4 * (rtQ (rtM v) i).2 + dg_ (rtM v) i))]) (by rw [lN_or, or_add (k := 2) b4]; rw [show (rtQ (rtM v) i).2 * 2 ^ 2 = 4 * (rtQ (rtM v) i).2 by omega]) ?_
          refine lv_lstore (lv' := [(10, .long (lN (4 * (rtQ (rtM v) i).2 + dg_ (rtM v) i))), (13, .long (lN (dg_ (rtM v) i))), (12, .int (nI i)), (8, .long (lN ((rtQ (rtM v) i).1))), (7, .int (Int32.ofInt (rtP v))), (5, .long (lN (rtM v)))]) hx hb dX1_root_138 hl (by decide) rfl (fun ls hl => ?_)
          refine lv_lload hx hb dX1_root_140 (lv_at hl 3 rfl) ?_
          refine lv_iconst (v := nI 2) hx hb dX1_root_142 (by decide) ?_
          refine lv_lshl (v := lN ((rtQ (rtM v) i).1 * 2 ^ 2)) hx hb dX1_root_143 (lN_shl (by decide)) ?_
          refine lv_lconst (v := lN 1) hx hb dX1_root_144 (by decide) ?_
          refine lv_lor hx hb dX1_root_145 ?_
          refine w_st (st' := [.long (lN (4 * (rtQ (rtM v) i).1 + 1))]) (by rw [lN_or, or_add (k := 2) (by decide)]; rw [show (rtQ (rtM v) i).1 * 2 ^ 2 = 4 * (rtQ (rtM v) i).1 by omega]) ?_
          refine lv_lstore (lv' := [(15, .long (lN (4 * (rtQ (rtM v) i).1 + 1))), (10, .long (lN (4 * (rtQ (rtM v) i).2 + dg_ (rtM v) i))), (13, .long (lN (dg_ (rtM v) i))), (12, .int (nI i)), (8, .long (lN ((rtQ (rtM v) i).1))), (7, .int (Int32.ofInt (rtP v))), (5, .long (lN (rtM v)))]) hx hb dX1_root_146 hl (by decide) rfl (fun ls hl => ?_)
          refine lv_lload hx hb dX1_root_148 (lv_at hl 4 rfl) ?_
          refine lv_iconst (v := nI 1) hx hb dX1_root_150 (by decide) ?_
          refine lv_lshl (v := lN ((rtQ (rtM v) i).1 * 2 ^ 1)) hx hb dX1_root_151 (lN_shl (by decide)) ?_
          refine lv_lstore (lv' := [(8, .long (lN ((rtQ (rtM v) i).1 * 2 ^ 1))), (15, .long (lN (4 * (rtQ (rtM v) i).1 + 1))), (10, .long (lN (4 * (rtQ (rtM v) i).2 + dg_ (rtM v) i))), (13, .long (lN (dg_ (rtM v) i))), (12, .int (nI i)), (7, .int (Int32.ofInt (rtP v))), (5, .long (lN (rtM v)))]) hx hb dX1_root_152 hl (by decide) rfl (fun ls hl => ?_)
          refine lv_lload hx hb dX1_root_154 (lv_at hl 2 rfl) ?_
          refine lv_lload hx hb dX1_root_156 (lv_at hl 1 rfl) ?_
          refine ll_lt (tgt := 175) hx hb dX1_root_158 dX1_root_159 (by decide) (fun c_159 => ?_) (fun c_159 => ?_)
          · rw [lK_lt (by omega) (by omega)] at c_159
            have e_ : rtQ (rtM v) (i + 1) = (2 * (rtQ (rtM v) i).1, 4 * (rtQ (rtM v) i).2 + dg_ (rtM v) i) := by rw [rtQ_s, rtS_e, if_neg (by omega)]
            refine lv_iinc (v := nI (i + 1)) (lv' := [(12, .int (nI (i + 1))), (8, .long (lN ((rtQ (rtM v) i).1 * 2 ^ 1))), (15, .long (lN (4 * (rtQ (rtM v) i).1 + 1))), (10, .long (lN (4 * (rtQ (rtM v) i).2 + dg_ (rtM v) i))), (13, .long (lN (dg_ (rtM v) i))), (7, .int (Int32.ofInt (rtP v))), (5, .long (lN (rtM v)))]) hx hb dX1_root_175 hl (k := 4) rfl (nI_1 _) (by decide) rfl (fun ls hl => ?_)
            refine lv_goto (tgt := 97) hx hb dX1_root_178 (by decide) ?_
            exact ih (i + 1) (by omega) (by omega) ls (lv_eq (lv_sub (l' := [(12, .int (nI (i + 1))), (10, .long (lN (4 * (rtQ (rtM v) i).2 + dg_ (rtM v) i))), (8, .long (lN ((rtQ (rtM v) i).1 * 2 ^ 1))), (7, .int (Int32.ofInt (rtP v))), (5, .long (lN (rtM v)))]) hl [0, 3, 1, 5, 6] rfl) (by rw [e_]; rw [show (rtQ (rtM v) i).1 * 2 ^ 1 = 2 * (rtQ (rtM v) i).1 by omega]))
          · rw [lK_lt (by omega) (by omega)] at c_159
            have e_ : rtQ (rtM v) (i + 1) = (2 * (rtQ (rtM v) i).1 + 1, 4 * (rtQ (rtM v) i).2 + dg_ (rtM v) i - (4 * (rtQ (rtM v) i).1 + 1)) := by rw [rtQ_s, rtS_e, if_pos (by omega)]
            refine lv_lload hx hb dX1_root_162 (lv_at hl 2 rfl) ?_
            refine lv_lload hx hb dX1_root_164 (lv_at hl 1 rfl) ?_
            refine lv_lsub hx hb dX1_root_166 ?_
            refine w_st (st' := [.long (lN (4 * (rtQ (rtM v) i).2 + dg_ (rtM v) i - (4 * (rtQ (rtM v) i).1 + 1)))]) (by rw [lN_sub (by omega)]) ?_
            refine lv_lstore (lv' := [(10, .long (lN (4 * (rtQ (rtM v) i).2 + dg_ (rtM v) i - (4 * (rtQ (rtM v) i).1 + 1)))), (8, .long (lN ((rtQ (rtM v) i).1 * 2 ^ 1))), (15, .long (lN (4 * (rtQ (rtM v) i).1 + 1))), (13, .long (lN (dg_ (rtM v) i))), (12, .int (nI i)), (7, .int (Int32.ofInt (rtP v))), (5, .long (lN (rtM v)))]) hx hb dX1_root_167 hl (by decide) rfl (fun ls hl => ?_)
            refine lv_lload hx hb dX1_root_169 (lv_at hl 1 rfl) ?_
            refine lv_lconst (v := lN 1) hx hb dX1_root_171 (by decide) ?_
            refine lv_lor hx hb dX1_root_172 ?_
            refine w_st (st' := [.long (lN (2 * (rtQ (rtM v) i).1 + 1))]) (by rw [lN_or, or_add (k := 1) (by decide)]; rw [show (rtQ (rtM v) i).1 * 2 ^ 1 = 2 * (rtQ (rtM v) i).1 by omega]) ?_
            refine lv_lstore (lv' := [(8, .long (lN (2 * (rtQ (rtM v) i).1 + 1))), (10, .long (lN (4 * (rtQ (rtM v) i).2 + dg_ (rtM v) i - (4 * (rtQ (rtM v) i).1 + 1)))), (15, .long (lN (4 * (rtQ (rtM v) i).1 + 1))), (13, .long (lN (dg_ (rtM v) i))), (12, .int (nI i)), (7, .int (Int32.ofInt (rtP v))), (5, .long (lN (rtM v)))]) hx hb dX1_root_173 hl (by decide) rfl (fun ls hl => ?_)
            refine lv_iinc (v := nI (i + 1)) (lv' := [(12, .int (nI (i + 1))), (8, .long (lN (2 * (rtQ (rtM v) i).1 + 1))), (10, .long (lN (4 * (rtQ (rtM v) i).2 + dg_ (rtM v) i - (4 * (rtQ (rtM v) i).1 + 1)))), (15, .long (lN (4 * (rtQ (rtM v) i).1 + 1))), (13, .long (lN (dg_ (rtM v) i))), (7, .int (Int32.ofInt (rtP v))), (5, .long (lN (rtM v)))]) hx hb dX1_root_175 hl (k := 4) rfl (nI_1 _) (by decide) rfl (fun ls hl => ?_)
            refine lv_goto (tgt := 97) hx hb dX1_root_178 (by decide) ?_
            exact ih (i + 1) (by omega) (by omega) ls (lv_eq (lv_sub (l' := [(12, .int (nI (i + 1))), (10, .long (lN (4 * (rtQ (rtM v) i).2 + dg_ (rtM v) i - (4 * (rtQ (rtM v) i).1 + 1)))), (8, .long (lN (2 * (rtQ (rtM v) i).1 + 1))), (7, .int (Int32.ofInt (rtP v))), (5, .long (lN (rtM v)))]) hl [0, 2, 1, 5, 6] rfl) (by rw [e_]))
        · refine lv_lload hx hb dX1_root_111 (lv_at hl 4 rfl) ?_
          refine lv_bipush (v := nI 52) hx hb dX1_root_113 (by decide) ?_
          refine lv_iconst (v := nI 2) hx hb dX1_root_115 (by decide) ?_
          refine lv_iload hx hb dX1_root_116 (lv_at hl 0 rfl) ?_
          refine nn_mul hx hb dX1_root_118 ?_
          refine nn_sub hx hb (by omega) dX1_root_119 ?_
          refine lv_lshr (v := lN (rtM v / 2 ^ (52 - 2 * i))) hx hb dX1_root_120 (lN_shr (by omega) (by omega)) ?_
          refine lv_ldc2 hx hb hown (hts _ q1572) dX1_root_121 ?_
          refine w_st (st' := [.long (lN 3), .long (lN (rtM v / 2 ^ (52 - 2 * i)))]) (by rfl) ?_
          refine lv_land hx hb dX1_root_124 ?_
          refine w_st (st' := [.long (lN (dg_ (rtM v) i))]) (by rw [lN_and, show (3 : Nat) = 2 ^ 2 - 1 from rfl, and_m]; unfold dg_; rw [if_pos (by omega)]) ?_
          refine lv_goto (tgt := 129) hx hb dX1_root_125 (by decide) ?_
          refine lv_lstore (lv' := [(13, .long (lN (dg_ (rtM v) i))), (12, .int (nI i)), (10, .long (lN ((rtQ (rtM v) i).2))), (8, .long (lN ((rtQ (rtM v) i).1))), (7, .int (Int32.ofInt (rtP v))), (5, .long (lN (rtM v)))]) hx hb dX1_root_129 hl (by decide) rfl (fun ls hl => ?_)
          refine lv_lload hx hb dX1_root_131 (lv_at hl 2 rfl) ?_
          refine lv_iconst (v := nI 2) hx hb dX1_root_133 (by decide) ?_
          refine lv_lshl (v := lN ((rtQ (rtM v) i).2 * 2 ^ 2)) hx hb dX1_root_134 (lN_shl (by decide)) ?_
          refine lv_lload hx hb dX1_root_135 (lv_at hl 0 rfl) ?_
          refine lv_lor hx hb dX1_root_137 ?_
          refine w_st (st' := [.long (lN (4 * (rtQ (rtM v) i).2 + dg_ (rtM v) i))]) (by rw [lN_or, or_add (k := 2) b4]; rw [show (rtQ (rtM v) i).2 * 2 ^ 2 = 4 * (rtQ (rtM v) i).2 by omega]) ?_
          refine lv_lstore (lv' := [(10, .long (lN (4 * (rtQ (rtM v) i).2 + dg_ (rtM v) i))), (13, .long (lN (dg_ (rtM v) i))), (12, .int (nI i)), (8, .long (lN ((rtQ (rtM v) i).1))), (7, .int (Int32.ofInt (rtP v))), (5, .long (lN (rtM v)))]) hx hb dX1_root_138 hl (by decide) rfl (fun ls hl => ?_)
          refine lv_lload hx hb dX1_root_140 (lv_at hl 3 rfl) ?_
          refine lv_iconst (v := nI 2) hx hb dX1_root_142 (by decide) ?_
          refine lv_lshl (v := lN ((rtQ (rtM v) i).1 * 2 ^ 2)) hx hb dX1_root_143 (lN_shl (by decide)) ?_
          refine lv_lconst (v := lN 1) hx hb dX1_root_144 (by decide) ?_
          refine lv_lor hx hb dX1_root_145 ?_
          refine w_st (st' := [.long (lN (4 * (rtQ (rtM v) i).1 + 1))]) (by rw [lN_or, or_add (k := 2) (by decide)]; rw [show (rtQ (rtM v) i).1 * 2 ^ 2 = 4 * (rtQ (rtM v) i).1 by omega]) ?_
          refine lv_lstore (lv' := [(15, .long (lN (4 * (rtQ (rtM v) i).1 + 1))), (10, .long (lN (4 * (rtQ (rtM v) i).2 + dg_ (rtM v) i))), (13, .long (lN (dg_ (rtM v) i))), (12, .int (nI i)), (8, .long (lN ((rtQ (rtM v) i).1))), (7, .int (Int32.ofInt (rtP v))), (5, .long (lN (rtM v)))]) hx hb dX1_root_146 hl (by decide) rfl (fun ls hl => ?_)
          refine lv_lload hx hb dX1_root_148 (lv_at hl 4 rfl) ?_
          refine lv_iconst (v := nI 1) hx hb dX1_root_150 (by decide) ?_
          refine lv_lshl (v := lN ((rtQ (rtM v) i).1 * 2 ^ 1)) hx hb dX1_root_151 (lN_shl (by decide)) ?_
          refine lv_lstore (lv' := [(8, .long (lN ((rtQ (rtM v) i).1 * 2 ^ 1))), (15, .long (lN (4 * (rtQ (rtM v) i).1 + 1))), (10, .long (lN (4 * (rtQ (rtM v) i).2 + dg_ (rtM v) i))), (13, .long (lN (dg_ (rtM v) i))), (12, .int (nI i)), (7, .int (Int32.ofInt (rtP v))), (5, .long (lN (rtM v)))]) hx hb dX1_root_152 hl (by decide) rfl (fun ls hl => ?_)
          refine lv_lload hx hb dX1_root_154 (lv_at hl 2 rfl) ?_
          refine lv_lload hx hb dX1_root_156 (lv_at hl 1 rfl) ?_
          refine ll_lt (tgt := 175) hx hb dX1_root_158 dX1_root_159 (by decide) (fun c_159 => ?_) (fun c_159 => ?_)
          · rw [lK_lt (by omega) (by omega)] at c_159
            have e_ : rtQ (rtM v) (i + 1) = (2 * (rtQ (rtM v) i).1, 4 * (rtQ (rtM v) i).2 + dg_ (rtM v) i) := by rw [rtQ_s, rtS_e, if_neg (by omega)]
            refine lv_iinc (v := nI (i + 1)) (lv' := [(12, .int (nI (i + 1))), (8, .long (lN ((rtQ (rtM v) i).1 * 2 ^ 1))), (15, .long (lN (4 * (rtQ (rtM v) i).1 + 1))), (10, .long (lN (4 * (rtQ (rtM v) i).2 + dg_ (rtM v) i))), (13, .long (lN (dg_ (rtM v) i))), (7, .int (Int32.ofInt (rtP v))), (5, .long (lN (rtM v)))]) hx hb dX1_root_175 hl (k := 4) rfl (nI_1 _) (by decide) rfl (fun ls hl => ?_)
            refine lv_goto (tgt := 97) hx hb dX1_root_178 (by decide) ?_
            exact ih (i + 1) (by omega) (by omega) ls (lv_eq (lv_sub (l' := [(12, .int (nI (i + 1))), (10, .long (lN (4 * (rtQ (rtM v) i).2 + dg_ (rtM v) i))), (8, .long (lN ((rtQ (rtM v) i).1 * 2 ^ 1))), (7, .int (Int32.ofInt (rtP v))), (5, .long (lN (rtM v)))]) hl [0, 3, 1, 5, 6] rfl) (by rw [e_]; rw [show (rtQ (rtM v) i).1 * 2 ^ 1 = 2 * (rtQ (rtM v) i).1 by omega]))
          · rw [lK_lt (by omega) (by omega)] at c_159
            have e_ : rtQ (rtM v) (i + 1) = (2 * (rtQ (rtM v) i).1 + 1, 4 * (rtQ (rtM v) i).2 + dg_ (rtM v) i - (4 * (rtQ (rtM v) i).1 + 1)) := by rw [rtQ_s, rtS_e, if_pos (by omega)]
            refine lv_lload hx hb dX1_root_162 (lv_at hl 2 rfl) ?_
            refine lv_lload hx hb dX1_root_164 (lv_at hl 1 rfl) ?_
            refine lv_lsub hx hb dX1_root_166 ?_
            refine w_st (st' := [.long (lN (4 * (rtQ (rtM v) i).2 + dg_ (rtM v) i - (4 * (rtQ (rtM v) i).1 + 1)))]) (by rw [lN_sub (by omega)]) ?_
            refine lv_lstore (lv' := [(10, .long (lN (4 * (rtQ (rtM v) i).2 + dg_ (rtM v) i - (4 * (rtQ (rtM v) i).1 + 1)))), (8, .long (lN ((rtQ (rtM v) i).1 * 2 ^ 1))), (15, .long (lN (4 * (rtQ (rtM v) i).1 + 1))), (13, .long (lN (dg_ (rtM v) i))), (12, .int (nI i)), (7, .int (Int32.ofInt (rtP v))), (5, .long (lN (rtM v)))]) hx hb dX1_root_167 hl (by decide) rfl (fun ls hl => ?_)
            refine lv_lload hx hb dX1_root_169 (lv_at hl 1 rfl) ?_
            refine lv_lconst (v := lN 1) hx hb dX1_root_171 (by decide) ?_
            refine lv_lor hx hb dX1_root_172 ?_
            refine w_st (st' := [.long (lN (2 * (rtQ (rtM v) i).1 + 1))]) (by rw [lN_or, or_add (k := 1) (by decide)]; rw [show (rtQ (rtM v) i).1 * 2 ^ 1 = 2 * (rtQ (rtM v) i).1 by omega]) ?_
            refine lv_lstore (lv' := [(8, .long (lN (2 * (rtQ (rtM v) i).1 + 1))), (10, .long (lN (4 * (rtQ (rtM v) i).2 + dg_ (rtM v) i - (4 * (rtQ (rtM v) i).1 + 1)))), (15, .long (lN (4 * (rtQ (rtM v) i).1 + 1))), (13, .long (lN (dg_ (rtM v) i))), (12, .int (nI i)), (7, .int (Int32.ofInt (rtP v))), (5, .long (lN (rtM v)))]) hx hb dX1_root_173 hl (by decide) rfl (fun ls hl => ?_)
            refine lv_iinc (v := nI (i + 1)) (lv' := [(12, .int (nI (i + 1))), (8, .long (lN (2 * (rtQ (rtM v) i).1 + 1))), (10, .long (lN (4 * (rtQ (rtM v) i).2 + dg_ (rtM v) i - (4 * (rtQ (rtM v) i).1 + 1)))), (15, .long (lN (4 * (rtQ (rtM v) i).1 + 1))), (13, .long (lN (dg_ (rtM v) i))), (7, .int (Int32.ofInt (rtP v))), (5, .long (lN (rtM v)))]) hx hb dX1_root_175 hl (k := 4) rfl (nI_1 _) (by decide) rfl (fun ls hl => ?_)
            refine lv_goto (tgt := 97) hx hb dX1_root_178 (by decide) ?_
            exact ih (i + 1) (by omega) (by omega) ls (lv_eq (lv_sub (l' := [(12, .int (nI (i + 1))), (10, .long (lN (4 * (rtQ (rtM v) i).2 + dg_ (rtM v) i - (4 * (rtQ (rtM v) i).1 + 1)))), (8, .long (lN (2 * (rtQ (rtM v) i).1 + 1))), (7, .int (Int32.ofInt (rtP v))), (5, .long (lN (rtM v)))]) hl [0, 2, 1, 5, 6] rfl) (by rw [e_]))
  have J88 : fx_eq v FP.dconst0 = false → ∀ (ls : Array Slot), lv_has ls 17 [(7, .int (Int32.ofInt (rtP v))), (5, .long (lN (rtM v)))] → W p0 l e0 (rm_ 2) s0 mid ([.double v] : List Value).toArray bl0 me0 co0 s0.heap [] 0 0 (MQ bl0 (sQ (some (.double (rtD v)))) ([.double v] : List Value).toArray s0 0 0 (fun _ => False)) (F0 mid 88 ls []) := by
    intro h0 ls hl
    refine lv_lconst (v := lN 0) hx hb dX1_root_88 (by decide) ?_
    refine lv_lstore (lv' := [(8, .long (lN 0)), (7, .int (Int32.ofInt (rtP v))), (5, .long (lN (rtM v)))]) hx hb dX1_root_89 hl (by decide) rfl (fun ls hl => ?_)
    refine lv_lconst (v := lN 0) hx hb dX1_root_91 (by decide) ?_
    refine lv_lstore (lv' := [(10, .long (lN 0)), (8, .long (lN 0)), (7, .int (Int32.ofInt (rtP v))), (5, .long (lN (rtM v)))]) hx hb dX1_root_92 hl (by decide) rfl (fun ls hl => ?_)
    refine lv_iconst (v := nI 0) hx hb dX1_root_94 (by decide) ?_
    refine lv_istore (lv' := [(12, .int (nI 0)), (10, .long (lN 0)), (8, .long (lN 0)), (7, .int (Int32.ofInt (rtP v))), (5, .long (lN (rtM v)))]) hx hb dX1_root_95 hl (by decide) rfl (fun ls hl => ?_)
    exact L1 h0 55 0 (by omega) (by omega) ls (lv_eq (lv_sub (l' := [(12, .int (nI 0)), (10, .long (lN 0)), (8, .long (lN 0)), (7, .int (Int32.ofInt (rtP v))), (5, .long (lN (rtM v)))]) hl [0, 1, 2, 3, 4] rfl) (by rfl))
  have J64 : fx_eq v FP.dconst0 = false → ∀ (ls : Array Slot), lv_has ls 17 [(5, .long (lN (rtM0 v))), (4, .int (Int32.ofInt (rtE v + 1075)))] → W p0 l e0 (rm_ 2) s0 mid ([.double v] : List Value).toArray bl0 me0 co0 s0.heap [] 0 0 (MQ bl0 (sQ (some (.double (rtD v)))) ([.double v] : List Value).toArray s0 0 0 (fun _ => False)) (F0 mid 64 ls []) := by
    intro h0 ls hl
    obtain ⟨va, vb⟩ := rtOK_p hv h0
    obtain ⟨e1, e2⟩ := rtE_rng vb va
    obtain ⟨m1, m2⟩ := rtM0_rng va vb
    refine lv_iload hx hb dX1_root_64 (lv_at hl 1 rfl) ?_
    refine lv_sipush (v := nI 1075) hx hb dX1_root_66 (by decide) ?_
    refine lv_isub hx hb dX1_root_69 ?_
    refine w_st (st' := [.int (Int32.ofInt (rtE v))]) (by rw [show nI 1075 = Int32.ofInt 1075 from rfl, iZ_sub, show rtE v + 1075 - 1075 = rtE v by omega]) ?_
    refine lv_istore (lv' := [(7, .int (Int32.ofInt (rtE v))), (5, .long (lN (rtM0 v))), (4, .int (Int32.ofInt (rtE v + 1075)))]) hx hb dX1_root_70 hl (by decide) rfl (fun ls hl => ?_)
    refine lv_iload hx hb dX1_root_72 (lv_at hl 0 rfl) ?_
    refine lv_iconst (v := nI 2) hx hb dX1_root_74 (by decide) ?_
    refine lv_irem hx hb dX1_root_75 (by decide) ?_
    refine lv_if_eq (tgt := 88) hx hb dX1_root_76 (by decide) (fun c_76 => ?_) (fun c_76 => ?_)
    · rw [iZ_rem (by omega) (by omega)] at c_76
      exact J88 h0 ls (lv_eq (lv_sub (l' := [(7, .int (Int32.ofInt (rtE v))), (5, .long (lN (rtM0 v)))]) hl [0, 1] rfl) (by unfold rtP rtM; rw [if_pos c_76, if_pos c_76]))
    · rw [iZ_rem (by omega) (by omega)] at c_76
      refine lv_lload hx hb dX1_root_79 (lv_at hl 1 rfl) ?_
      refine lv_iconst (v := nI 1) hx hb dX1_root_81 (by decide) ?_
      refine lv_lshl (v := lN (rtM0 v * 2 ^ 1)) hx hb dX1_root_82 (lN_shl (by decide)) ?_
      refine lv_lstore (lv' := [(5, .long (lN (rtM0 v * 2 ^ 1))), (7, .int (Int32.ofInt (rtE v))), (4, .int (Int32.ofInt (rtE v + 1075)))]) hx hb dX1_root_83 hl (by decide) rfl (fun ls hl => ?_)
      refine lv_iinc (v := Int32.ofInt (rtE v - 1)) (lv' := [(7, .int (Int32.ofInt (rtE v - 1))), (5, .long (lN (rtM0 v * 2 ^ 1))), (4, .int (Int32.ofInt (rtE v + 1075)))]) hx hb dX1_root_85 hl (k := 1) rfl (by first | (rw [iZ_add]; rfl) | (rw [show ((-1 : Int32)) = Int32.ofInt (-1) from rfl, iZ_add]; rfl)) (by decide) rfl (fun ls hl => ?_)
      exact J88 h0 ls (lv_eq (lv_sub (l' := [(7, .int (Int32.ofInt (rtE v - 1))), (5, .long (lN (rtM0 v * 2 ^ 1)))]) hl [0, 1] rfl) (by unfold rtP rtM; rw [if_neg c_76, if_neg c_76, show rtM0 v * 2 ^ 1 = 2 * rtM0 v by omega]))
  have L2 : fx_eq v FP.dconst0 = false → v.toNat / 2 ^ 52 = 0 → ∀ (n_ F k : Nat), F * 2 ^ rtU n_ F = v.toNat % 2 ^ 52 * 2 ^ rtU 53 (v.toNat % 2 ^ 52) → rtU n_ F + k = rtU 53 (v.toNat % 2 ^ 52) → 0 < F → F < 2 ^ 53 → 2 ^ 52 ≤ F * 2 ^ n_ → k ≤ 53 → ∀ (ls : Array Slot), lv_has ls 17 [(5, .long (lN F)), (4, .int (Int32.ofInt (1 - (k : Int))))] → W p0 l e0 (rm_ 2) s0 mid ([.double v] : List Value).toArray bl0 me0 co0 s0.heap [] 0 0 (MQ bl0 (sQ (some (.double (rtD v)))) ([.double v] : List Value).toArray s0 0 0 (fun _ => False)) (F0 mid 35 ls []) := by
    intro h0 hz n_
    obtain ⟨va, vb⟩ := rtOK_p hv h0
    induction n_ with
    | zero =>
      intro F k e1 e2 f0 f1 f2 hk ls hl
      refine lv_lload hx hb dX1_root_35 (lv_at hl 0 rfl) ?_
      refine lv_ldc2 hx hb hown (hts _ q1571) dX1_root_37 ?_
      refine w_st (st' := [.long (lN 4503599627370496), .long (lN F)]) (by rfl) ?_
      refine ll_ge (tgt := 64) hx hb dX1_root_40 dX1_root_41 (by decide) (fun c_41 => ?_) (fun c_41 => ?_)
      · rw [show (4503599627370496 : Nat) = 2 ^ 52 by decide, lK_le (by decide) (by omega)] at c_41
        have hU : rtU 0 F = 0 := by rfl
        rw [hU] at e1 e2
        exact J64 h0 ls (lv_eq (lv_sub (l' := [(5, .long (lN F)), (4, .int (Int32.ofInt (1 - (k : Int))))]) hl [0, 1] rfl) (by unfold rtM0 rtE; rw [if_pos hz, if_pos hz, ← e1, ← e2, Nat.pow_zero, Nat.mul_one, show 1 - ((0 + k : Nat) : Int) - 1075 + 1075 = 1 - (k : Int) by omega]))
      · rw [show (4503599627370496 : Nat) = 2 ^ 52 by decide, lK_le (by decide) (by omega)] at c_41
        exfalso
        rw [Nat.pow_zero, Nat.mul_one] at f2
        omega
    | succ n_ ih =>
      intro F k e1 e2 f0 f1 f2 hk ls hl
      refine lv_lload hx hb dX1_root_35 (lv_at hl 0 rfl) ?_
      refine lv_ldc2 hx hb hown (hts _ q1571) dX1_root_37 ?_
      refine w_st (st' := [.long (lN 4503599627370496), .long (lN F)]) (by rfl) ?_
      refine ll_ge (tgt := 64) hx hb dX1_root_40 dX1_root_41 (by decide) (fun c_41 => ?_) (fun c_41 => ?_)
      · rw [show (4503599627370496 : Nat) = 2 ^ 52 by decide, lK_le (by decide) (by omega)] at c_41
        have hU : rtU (n_ + 1) F = 0 := by exact if_neg (by omega)
        rw [hU] at e1 e2
        exact J64 h0 ls (lv_eq (lv_sub (l' := [(5, .long (lN F)), (4, .int (Int32.ofInt (1 - (k : Int))))]) hl [0, 1] rfl) (by unfold rtM0 rtE; rw [if_pos hz, if_pos hz, ← e1, ← e2, Nat.pow_zero, Nat.mul_one, show 1 - ((0 + k : Nat) : Int) - 1075 + 1075 = 1 - (k : Int) by omega]))
      · rw [show (4503599627370496 : Nat) = 2 ^ 52 by decide, lK_le (by decide) (by omega)] at c_41
        have hU : rtU (n_ + 1) F = rtU n_ (2 * F) + 1 := if_pos (by omega)
        rw [hU] at e1 e2
        refine lv_lload hx hb dX1_root_44 (lv_at hl 0 rfl) ?_
        refine lv_iconst (v := nI 1) hx hb dX1_root_46 (by decide) ?_
        refine lv_lshl (v := lN (F * 2 ^ 1)) hx hb dX1_root_47 (lN_shl (by decide)) ?_
        refine lv_lstore (lv' := [(5, .long (lN (F * 2 ^ 1))), (4, .int (Int32.ofInt (1 - (k : Int))))]) hx hb dX1_root_48 hl (by decide) rfl (fun ls hl => ?_)
        refine lv_iinc (v := Int32.ofInt (1 - (k : Int) - 1)) (lv' := [(4, .int (Int32.ofInt (1 - (k : Int) - 1))), (5, .long (lN (F * 2 ^ 1)))]) hx hb dX1_root_50 hl (k := 1) rfl (by first | (rw [iZ_add]; rfl) | (rw [show ((-1 : Int32)) = Int32.ofInt (-1) from rfl, iZ_add]; rfl)) (by decide) rfl (fun ls hl => ?_)
        refine lv_goto (tgt := 35) hx hb dX1_root_53 (by decide) ?_
        exact ih (2 * F) (k + 1) (by rw [← e1, Nat.pow_succ, Nat.mul_comm (2 ^ _) 2, ← Nat.mul_assoc, Nat.mul_comm F 2]) (by omega) (by omega) (by omega) (by rw [Nat.pow_succ] at f2; rw [Nat.mul_comm 2 F, Nat.mul_assoc, Nat.mul_comm 2]; exact f2) (by have := (rtU_ok 53 (v.toNat % 2 ^ 52) (by omega) (by omega) (Nat.le_trans (by decide) (Nat.mul_le_mul_right (2 ^ 53) (show 1 ≤ v.toNat % 2 ^ 52 by omega)))).2.2; omega) ls (lv_eq (lv_sub (l' := [(5, .long (lN (F * 2 ^ 1))), (4, .int (Int32.ofInt (1 - (k : Int) - 1)))]) hl [1, 0] rfl) (by rw [show F * 2 ^ 1 = 2 * F by omega, show 1 - (k : Int) - 1 = 1 - ((k + 1 : Nat) : Int) by omega]))
  refine lv_dload_n hx hb dX1_root_0 rfl (lv_at hl 0 rfl) ?_
  refine lv_dconst0 hx hb dX1_root_1 ?_
  refine fx_jlne (tgt := 8) hx hb dX1_root_2 dX1_root_3 (by decide) (fun c_3 => ?_) (fun c_3 => ?_)
  · have h0 : fx_eq v FP.dconst0 = false := c_3
    obtain ⟨va, vb⟩ := rtOK_p hv h0
    refine lv_dload_n hx hb dX1_root_8 rfl (lv_at hl 0 rfl) ?_
    refine sC_call (As := [.double v]) (rest := []) S (st_J0_doubleToLongBits l v (bD_n hv.1)) q1569 q1156 q55 q1157 hd_J0_doubleToLongBits ⟨Nat.le_of_ble_eq_true rfl, Nat.le_of_ble_eq_true rfl⟩ rfl hl.1 rfl (Nat.le_of_ble_eq_true rfl) dX1_root_9 ⟨Nat.zero_le _, Nat.zero_le _⟩ ?_
    refine W.eq (g2 := F0 mid 12 ls [.long ((v).toInt64)]) rfl ?_
    refine w_st (st' := [.long (lN v.toNat)]) (by rw [lN_u]) ?_
    refine lv_lstore_n (lv' := [(2, .long (lN v.toNat)), (0, .double v)]) hx hb dX1_root_12 rfl hl (by decide) rfl (fun ls hl => ?_)
    refine lv_lload_n hx hb dX1_root_13 rfl (lv_at hl 0 rfl) ?_
    refine lv_bipush (v := nI 52) hx hb dX1_root_14 (by decide) ?_
    refine lv_lshr (v := lN (v.toNat / 2 ^ 52)) hx hb dX1_root_16 (lN_shr (by omega) (by decide)) ?_
    refine lv_l2i (v := nI (v.toNat / 2 ^ 52)) hx hb dX1_root_17 (lN_i _) ?_
    refine lv_istore (lv' := [(4, .int (nI (v.toNat / 2 ^ 52))), (2, .long (lN v.toNat)), (0, .double v)]) hx hb dX1_root_18 hl (by decide) rfl (fun ls hl => ?_)
    refine lv_lload_n hx hb dX1_root_20 rfl (lv_at hl 1 rfl) ?_
    refine lv_ldc2 hx hb hown (hts _ q1570) dX1_root_21 ?_
    refine w_st (st' := [.long (lN 4503599627370495), .long (lN v.toNat)]) (by rfl) ?_
    refine lv_land hx hb dX1_root_24 ?_
    refine w_st (st' := [.long (lN (v.toNat % 2 ^ 52))]) (by rw [lN_and, show (4503599627370495 : Nat) = 2 ^ 52 - 1 by decide, and_m]) ?_
    refine lv_lstore (lv' := [(5, .long (lN (v.toNat % 2 ^ 52))), (4, .int (nI (v.toNat / 2 ^ 52))), (2, .long (lN v.toNat)), (0, .double v)]) hx hb dX1_root_25 hl (by decide) rfl (fun ls hl => ?_)
    refine lv_iload hx hb dX1_root_27 (lv_at hl 1 rfl) ?_
    refine nz_ne (tgt := 56) hx hb (by omega) dX1_root_29 (by decide) (fun c_29 => ?_) (fun c_29 => ?_)
    · refine lv_lload hx hb dX1_root_56 (lv_at hl 0 rfl) ?_
      refine lv_ldc2 hx hb hown (hts _ q1571) dX1_root_58 ?_
      refine w_st (st' := [.long (lN 4503599627370496), .long (lN (v.toNat % 2 ^ 52))]) (by rfl) ?_
      refine lv_lor hx hb dX1_root_61 ?_
      refine w_st (st' := [.long (lN (v.toNat % 2 ^ 52 + 2 ^ 52))]) (by rw [lN_or, Nat.or_comm, show (4503599627370496 : Nat) = 1 * 2 ^ 52 by decide, or_add (k := 52) (Nat.mod_lt _ (by decide))]; rw [show 1 * 2 ^ 52 + v.toNat % 2 ^ 52 = v.toNat % 2 ^ 52 + 2 ^ 52 by omega]) ?_
      refine lv_lstore (lv' := [(5, .long (lN (v.toNat % 2 ^ 52 + 2 ^ 52))), (4, .int (nI (v.toNat / 2 ^ 52))), (2, .long (lN v.toNat)), (0, .double v)]) hx hb dX1_root_62 hl (by decide) rfl (fun ls hl => ?_)
      exact J64 h0 ls (lv_eq (lv_sub (l' := [(5, .long (lN (v.toNat % 2 ^ 52 + 2 ^ 52))), (4, .int (nI (v.toNat / 2 ^ 52)))]) hl [0, 1] rfl) (by unfold rtM0 rtE; rw [if_neg c_29, if_neg c_29, iZ_nI, show ((v.toNat / 2 ^ 52 : Nat) : Int) = (v.toNat / 2 ^ 52 : Int) - 1075 + 1075 by omega]))
    · refine lv_iconst (v := nI 1) hx hb dX1_root_32 (by decide) ?_
      refine lv_istore (lv' := [(4, .int (nI 1)), (5, .long (lN (v.toNat % 2 ^ 52))), (2, .long (lN v.toNat)), (0, .double v)]) hx hb dX1_root_33 hl (by decide) rfl (fun ls hl => ?_)
      exact L2 h0 (by omega) 53 (v.toNat % 2 ^ 52) 0 rfl rfl (by omega) (by omega) (Nat.le_trans (by decide) (Nat.mul_le_mul_right (2 ^ 53) (show 1 ≤ v.toNat % 2 ^ 52 by omega))) (by omega) ls (lv_eq (lv_sub (l' := [(5, .long (lN (v.toNat % 2 ^ 52))), (4, .int (nI 1))]) hl [1, 0] rfl) (by rfl))
  · have h0 : fx_eq v FP.dconst0 = true := c_3
    refine lv_dload_n hx hb dX1_root_6 rfl (lv_at hl 0 rfl) ?_
    exact ss_dret S hr hlk (by unfold rtD; rw [if_pos h0]) dX1_root_7
