set_option maxRecDepth 100000
set_option maxHeartbeats 4000000
theorem dX0_sweep_0 : decode cX0_sweep 0 = .ok (.aload_n 0, 1) := by decide +kernel
theorem dX0_sweep_1 : decode cX0_sweep 1 = .ok (.iload_n 1, 1) := by decide +kernel
theorem dX0_sweep_2 : decode cX0_sweep 2 = .ok (.invokevirtual 138, 3) := by decide +kernel
theorem dX0_sweep_5 : decode cX0_sweep 5 = .ok (.ifCond .eq 12, 3) := by decide +kernel
theorem dX0_sweep_8 : decode cX0_sweep 8 = .ok (.aload_n 0, 1) := by decide +kernel
theorem dX0_sweep_9 : decode cX0_sweep 9 = .ok (.iload 8, 2) := by decide +kernel
theorem dX0_sweep_11 : decode cX0_sweep 11 = .ok (.invokevirtual 138, 3) := by decide +kernel
theorem dX0_sweep_14 : decode cX0_sweep 14 = .ok (.ifCond .ne 6, 3) := by decide +kernel
theorem dX0_sweep_17 : decode cX0_sweep 17 = .ok (.bipush (-101), 2) := by decide +kernel
theorem dX0_sweep_19 : decode cX0_sweep 19 = .ok (.ireturn, 1) := by decide +kernel
theorem dX0_sweep_20 : decode cX0_sweep 20 = .ok (.iload 6, 2) := by decide +kernel
theorem dX0_sweep_22 : decode cX0_sweep 22 = .ok (.iconst 1, 1) := by decide +kernel
theorem dX0_sweep_23 : decode cX0_sweep 23 = .ok (.bipush 6, 2) := by decide +kernel
theorem dX0_sweep_25 : decode cX0_sweep 25 = .ok (.invokestatic 94, 3) := by decide +kernel
theorem dX0_sweep_28 : decode cX0_sweep 28 = .ok (.ifCond .eq 29, 3) := by decide +kernel
theorem dX0_sweep_31 : decode cX0_sweep 31 = .ok (.iload 7, 2) := by decide +kernel
theorem dX0_sweep_33 : decode cX0_sweep 33 = .ok (.iconst 1, 1) := by decide +kernel
theorem dX0_sweep_34 : decode cX0_sweep 34 = .ok (.bipush 40, 2) := by decide +kernel
theorem dX0_sweep_36 : decode cX0_sweep 36 = .ok (.invokestatic 94, 3) := by decide +kernel
theorem dX0_sweep_39 : decode cX0_sweep 39 = .ok (.ifCond .eq 18, 3) := by decide +kernel
theorem dX0_sweep_42 : decode cX0_sweep 42 = .ok (.lload_n 2, 1) := by decide +kernel
theorem dX0_sweep_43 : decode cX0_sweep 43 = .ok (.invokestatic 102, 3) := by decide +kernel
theorem dX0_sweep_46 : decode cX0_sweep 46 = .ok (.ifCond .eq 11, 3) := by decide +kernel
theorem dX0_sweep_49 : decode cX0_sweep 49 = .ok (.lload 4, 2) := by decide +kernel
theorem dX0_sweep_51 : decode cX0_sweep 51 = .ok (.invokestatic 102, 3) := by decide +kernel
theorem dX0_sweep_54 : decode cX0_sweep 54 = .ok (.ifCond .ne 6, 3) := by decide +kernel
theorem dX0_sweep_57 : decode cX0_sweep 57 = .ok (.bipush (-102), 2) := by decide +kernel
theorem dX0_sweep_59 : decode cX0_sweep 59 = .ok (.ireturn, 1) := by decide +kernel
theorem dX0_sweep_60 : decode cX0_sweep 60 = .ok (.lload_n 2, 1) := by decide +kernel
theorem dX0_sweep_61 : decode cX0_sweep 61 = .ok (.invokestatic 106, 3) := by decide +kernel
theorem dX0_sweep_64 : decode cX0_sweep 64 = .ok (.dstore 9, 2) := by decide +kernel
theorem dX0_sweep_66 : decode cX0_sweep 66 = .ok (.lload 4, 2) := by decide +kernel
theorem dX0_sweep_68 : decode cX0_sweep 68 = .ok (.invokestatic 106, 3) := by decide +kernel
theorem dX0_sweep_71 : decode cX0_sweep 71 = .ok (.dstore 11, 2) := by decide +kernel
theorem dX0_sweep_73 : decode cX0_sweep 73 = .ok (.dload 9, 2) := by decide +kernel
theorem dX0_sweep_75 : decode cX0_sweep 75 = .ok (.invokestatic 318, 3) := by decide +kernel
theorem dX0_sweep_78 : decode cX0_sweep 78 = .ok (.ldc2_w 321, 3) := by decide +kernel
theorem dX0_sweep_81 : decode cX0_sweep 81 = .ok (.dcmp .l, 1) := by decide +kernel
theorem dX0_sweep_82 : decode cX0_sweep 82 = .ok (.ifCond .gt 15, 3) := by decide +kernel
theorem dX0_sweep_85 : decode cX0_sweep 85 = .ok (.dload 11, 2) := by decide +kernel
theorem dX0_sweep_87 : decode cX0_sweep 87 = .ok (.invokestatic 318, 3) := by decide +kernel
theorem dX0_sweep_90 : decode cX0_sweep 90 = .ok (.ldc2_w 321, 3) := by decide +kernel
theorem dX0_sweep_93 : decode cX0_sweep 93 = .ok (.dcmp .l, 1) := by decide +kernel
theorem dX0_sweep_94 : decode cX0_sweep 94 = .ok (.ifCond .le 6, 3) := by decide +kernel
theorem dX0_sweep_97 : decode cX0_sweep 97 = .ok (.bipush (-102), 2) := by decide +kernel
theorem dX0_sweep_99 : decode cX0_sweep 99 = .ok (.ireturn, 1) := by decide +kernel
theorem dX0_sweep_100 : decode cX0_sweep 100 = .ok (.iconst 0, 1) := by decide +kernel
theorem dX0_sweep_101 : decode cX0_sweep 101 = .ok (.istore 13, 2) := by decide +kernel
theorem dX0_sweep_103 : decode cX0_sweep 103 = .ok (.iload 13, 2) := by decide +kernel
theorem dX0_sweep_105 : decode cX0_sweep 105 = .ok (.iload 6, 2) := by decide +kernel
theorem dX0_sweep_107 : decode cX0_sweep 107 = .ok (.if_icmp .ge 39, 3) := by decide +kernel
theorem dX0_sweep_110 : decode cX0_sweep 110 = .ok (.aload_n 0, 1) := by decide +kernel
theorem dX0_sweep_111 : decode cX0_sweep 111 = .ok (.getfield 55, 3) := by decide +kernel
theorem dX0_sweep_114 : decode cX0_sweep 114 = .ok (.iload_n 1, 1) := by decide +kernel
theorem dX0_sweep_115 : decode cX0_sweep 115 = .ok (.aaload, 1) := by decide +kernel
theorem dX0_sweep_116 : decode cX0_sweep 116 = .ok (.getfield 151, 3) := by decide +kernel
theorem dX0_sweep_119 : decode cX0_sweep 119 = .ok (.dload 9, 2) := by decide +kernel
theorem dX0_sweep_121 : decode cX0_sweep 121 = .ok (.iload 13, 2) := by decide +kernel
theorem dX0_sweep_123 : decode cX0_sweep 123 = .ok (.i2d, 1) := by decide +kernel
theorem dX0_sweep_124 : decode cX0_sweep 124 = .ok (.dload 11, 2) := by decide +kernel
theorem dX0_sweep_126 : decode cX0_sweep 126 = .ok (.dmul, 1) := by decide +kernel
theorem dX0_sweep_127 : decode cX0_sweep 127 = .ok (.dadd, 1) := by decide +kernel
theorem dX0_sweep_128 : decode cX0_sweep 128 = .ok (.invokestatic 288, 3) := by decide +kernel
theorem dX0_sweep_131 : decode cX0_sweep 131 = .ok (.invokestatic 130, 3) := by decide +kernel
theorem dX0_sweep_134 : decode cX0_sweep 134 = .ok (.ifCond .ne 6, 3) := by decide +kernel
theorem dX0_sweep_137 : decode cX0_sweep 137 = .ok (.bipush (-102), 2) := by decide +kernel
theorem dX0_sweep_139 : decode cX0_sweep 139 = .ok (.ireturn, 1) := by decide +kernel
theorem dX0_sweep_140 : decode cX0_sweep 140 = .ok (.iinc 13 1, 3) := by decide +kernel
theorem dX0_sweep_143 : decode cX0_sweep 143 = .ok (.goto (-40), 3) := by decide +kernel
theorem dX0_sweep_146 : decode cX0_sweep 146 = .ok (.aload_n 0, 1) := by decide +kernel
theorem dX0_sweep_147 : decode cX0_sweep 147 = .ok (.getfield 88, 3) := by decide +kernel
theorem dX0_sweep_150 : decode cX0_sweep 150 = .ok (.ifCond .ne 6, 3) := by decide +kernel
theorem dX0_sweep_153 : decode cX0_sweep 153 = .ok (.bipush (-103), 2) := by decide +kernel
theorem dX0_sweep_155 : decode cX0_sweep 155 = .ok (.ireturn, 1) := by decide +kernel
theorem dX0_sweep_156 : decode cX0_sweep 156 = .ok (.aload_n 0, 1) := by decide +kernel
theorem dX0_sweep_157 : decode cX0_sweep 157 = .ok (.invokevirtual 323, 3) := by decide +kernel
theorem dX0_sweep_160 : decode cX0_sweep 160 = .ok (.astore 13, 2) := by decide +kernel
theorem dX0_sweep_162 : decode cX0_sweep 162 = .ok (.aload_n 0, 1) := by decide +kernel
theorem dX0_sweep_163 : decode cX0_sweep 163 = .ok (.getfield 59, 3) := by decide +kernel
theorem dX0_sweep_166 : decode cX0_sweep 166 = .ok (.invokestatic 270, 3) := by decide +kernel
theorem dX0_sweep_169 : decode cX0_sweep 169 = .ok (.dstore 14, 2) := by decide +kernel
theorem dX0_sweep_171 : decode cX0_sweep 171 = .ok (.iconst 0, 1) := by decide +kernel
theorem dX0_sweep_172 : decode cX0_sweep 172 = .ok (.istore 16, 2) := by decide +kernel
theorem dX0_sweep_174 : decode cX0_sweep 174 = .ok (.iload 16, 2) := by decide +kernel
theorem dX0_sweep_176 : decode cX0_sweep 176 = .ok (.iload 6, 2) := by decide +kernel
theorem dX0_sweep_178 : decode cX0_sweep 178 = .ok (.if_icmp .ge 77, 3) := by decide +kernel
theorem dX0_sweep_181 : decode cX0_sweep 181 = .ok (.aload 13, 2) := by decide +kernel
theorem dX0_sweep_183 : decode cX0_sweep 183 = .ok (.getfield 55, 3) := by decide +kernel
theorem dX0_sweep_186 : decode cX0_sweep 186 = .ok (.iload_n 1, 1) := by decide +kernel
theorem dX0_sweep_187 : decode cX0_sweep 187 = .ok (.aaload, 1) := by decide +kernel
theorem dX0_sweep_188 : decode cX0_sweep 188 = .ok (.dload 9, 2) := by decide +kernel
theorem dX0_sweep_190 : decode cX0_sweep 190 = .ok (.iload 16, 2) := by decide +kernel
theorem dX0_sweep_192 : decode cX0_sweep 192 = .ok (.i2d, 1) := by decide +kernel
theorem dX0_sweep_193 : decode cX0_sweep 193 = .ok (.dload 11, 2) := by decide +kernel
theorem dX0_sweep_195 : decode cX0_sweep 195 = .ok (.dmul, 1) := by decide +kernel
theorem dX0_sweep_196 : decode cX0_sweep 196 = .ok (.dadd, 1) := by decide +kernel
theorem dX0_sweep_197 : decode cX0_sweep 197 = .ok (.putfield 171, 3) := by decide +kernel
theorem dX0_sweep_200 : decode cX0_sweep 200 = .ok (.aload 13, 2) := by decide +kernel
theorem dX0_sweep_202 : decode cX0_sweep 202 = .ok (.invokevirtual 255, 3) := by decide +kernel
theorem dX0_sweep_205 : decode cX0_sweep 205 = .ok (.iconst 0, 1) := by decide +kernel
theorem dX0_sweep_206 : decode cX0_sweep 206 = .ok (.istore 17, 2) := by decide +kernel
theorem dX0_sweep_208 : decode cX0_sweep 208 = .ok (.iload 17, 2) := by decide +kernel
theorem dX0_sweep_210 : decode cX0_sweep 210 = .ok (.iload 7, 2) := by decide +kernel
theorem dX0_sweep_212 : decode cX0_sweep 212 = .ok (.if_icmp .ge 16, 3) := by decide +kernel
theorem dX0_sweep_215 : decode cX0_sweep 215 = .ok (.aload 13, 2) := by decide +kernel
theorem dX0_sweep_217 : decode cX0_sweep 217 = .ok (.dload 14, 2) := by decide +kernel
theorem dX0_sweep_219 : decode cX0_sweep 219 = .ok (.invokevirtual 278, 3) := by decide +kernel
theorem dX0_sweep_222 : decode cX0_sweep 222 = .ok (.iinc 17 1, 3) := by decide +kernel
theorem dX0_sweep_225 : decode cX0_sweep 225 = .ok (.goto (-17), 3) := by decide +kernel
theorem dX0_sweep_228 : decode cX0_sweep 228 = .ok (.aload_n 0, 1) := by decide +kernel
theorem dX0_sweep_229 : decode cX0_sweep 229 = .ok (.getfield 74, 3) := by decide +kernel
theorem dX0_sweep_232 : decode cX0_sweep 232 = .ok (.iload 16, 2) := by decide +kernel
theorem dX0_sweep_234 : decode cX0_sweep 234 = .ok (.aload 13, 2) := by decide +kernel
theorem dX0_sweep_236 : decode cX0_sweep 236 = .ok (.getfield 55, 3) := by decide +kernel
theorem dX0_sweep_239 : decode cX0_sweep 239 = .ok (.iload 8, 2) := by decide +kernel
theorem dX0_sweep_241 : decode cX0_sweep 241 = .ok (.aaload, 1) := by decide +kernel
theorem dX0_sweep_242 : decode cX0_sweep 242 = .ok (.getfield 252, 3) := by decide +kernel
theorem dX0_sweep_245 : decode cX0_sweep 245 = .ok (.invokestatic 288, 3) := by decide +kernel
theorem dX0_sweep_248 : decode cX0_sweep 248 = .ok (.lastore, 1) := by decide +kernel
theorem dX0_sweep_249 : decode cX0_sweep 249 = .ok (.iinc 16 1, 3) := by decide +kernel
theorem dX0_sweep_252 : decode cX0_sweep 252 = .ok (.goto (-78), 3) := by decide +kernel
theorem dX0_sweep_255 : decode cX0_sweep 255 = .ok (.aload_n 0, 1) := by decide +kernel
theorem dX0_sweep_256 : decode cX0_sweep 256 = .ok (.iload 6, 2) := by decide +kernel
theorem dX0_sweep_258 : decode cX0_sweep 258 = .ok (.putfield 327, 3) := by decide +kernel
theorem dX0_sweep_261 : decode cX0_sweep 261 = .ok (.iload 6, 2) := by decide +kernel
theorem dX0_sweep_263 : decode cX0_sweep 263 = .ok (.ireturn, 1) := by decide +kernel
section TE6_
variable {p : Program} {l : Launch} {e : Env} {R : Room} {s : State} {m : MethodId} {args : Array Value} {below : List Frame} {meth : Method} {c : Code} {H : Heap} {locs : List Loc} {cells slots : Nat} {Q : State → Prop}
variable {cc : ByteArray} {pc nL : Nat} {ls : Array Slot} {rest st0 : List Value} {D : va_G} {dA : Nat → ClassId} {A : Nat → Prop} {own : String} {w : wr_F} {C C' : tp_C} {d d' : md_T} {j j' : xj_T}
theorem gA_s {r a q : Nat} {x x' : va_E} (h : w r = some (a, x)) (hq : gA (wr_s w r (a, x')) q) : gA w q := by
  obtain ⟨r', y, hr, hy⟩ := hq
  by_cases e : r' = r
  · subst e; rw [wr_s_self] at hy; cases hy; exact ⟨r', x, hr, h⟩
  · rw [wr_s_ne e] at hy; exact ⟨r', y, hr, hy⟩
theorem gA_x {r a q : Nat} {x x' : va_E} (h : xW dA C d j r = some (a, x)) (e : wr_s (xW dA C d j) r (a, x') = xW dA C' d' j') (hq : xA dA C' d' j' q) : xA dA C d j q := by
  have hq : gA (xW dA C' d' j') q := hq
  rw [← e] at hq
  exact gA_s h hq
/-- a module's setting is put, another world stays -/
theorem w2_set {w2 : wr_F} (S : CallFix p m c cc nL s args lw_all own) (G : xG D dA A C d j s H locs) (G2 : wG D dA A w2 s H locs) (hdis : ∀ q, gA w2 q → ¬ xA dA C d j q) {mm : Nat} (hmm : mm < cN C) (hN : cN C ≤ 20) (hk : cK C mm < 14) {v : UInt64} {index : Nat} (hq : Cond.fieldLink own index RX2 (TX3 1).2.1 (TX3 1).2.2.1 ∈ lw_all) (hdg : decode cc pc = .ok (.putfield index, 3))
    (kk : ∀ (H1 : Heap) (locs1 : List Loc), xG D dA A (swC C mm v) d j s H1 locs1 → wG D dA A w2 s H1 locs1 → (∀ q, gA w2 q → ¬ xA dA (swC C mm v) d j q) → W p l e R s m args below meth c H1 locs1 cells slots Q (F0 m (pc + 3) ls rest)) : W p l e R s m args below meth c H locs cells slots Q (F0 m pc ls (.double v :: .ref (jA j (xr mm 0)) :: rest)) := by
  have e := k_T (cK C mm) hk 1 (by decide)
  have e2 := k_Ty (cK C mm) hk 1 (by decide)
  have hw := xW_m (dA := dA) (C := C) (d := d) (j := j) (m := mm) (i := 0) (by decide) hmm rfl
  have hs := xs_setting (dA := dA) (C := C) (d := d) (j := j) (mm := mm) (v := v) hmm
  refine w2_put (ref := RX2) (ci := cK C mm + 2) (Cl := kC (cK C mm)) (T := kT (cK C mm)) (N := kN (cK C mm)) S (xG_w G) G2 (fun q a b => hdis q b a) (k_cl hk) (k_in hk) (kTy (cK C mm)) (k_ty hk) (k_nm hk) (r := xr mm 0) (xr_lt (by decide) (by omega)) hw (xFs_len _ _ _ _) 1 (Nat.lt_of_lt_of_le (by decide) (k_11 _)) (by rw [e]; exact hq) (fun x h => by rw [e] at h ⊢; exact h) (by rw [e]; rfl) (by rw [e2]; rfl) (by rw [e2]; rfl) hdg (fun H1 locs1 G1 G3 => ?_)
  exact kk H1 locs1 (wG_x hs G1) G3 (fun q a b => hdis q a (gA_x hw hs b))
/-- what was swept is noted, another world stays -/
theorem w2_swept {w2 : wr_F} (S : CallFix p m c cc nL s args lw_all own) (G : xG D dA A C d j s H locs) (G2 : wG D dA A w2 s H locs) (hdis : ∀ q, xA dA C d j q → ¬ gA w2 q) {i : Nat} (hi : i < 6) {v : UInt64} (hdg : decode cc pc = .ok (.lastore, 1))
    (kk : ∀ (H1 : Heap) (locs1 : List Loc), xG D dA A C (uAD d 42 i v) j s H1 locs1 → wG D dA A w2 s H1 locs1 → (∀ q, xA dA C (uAD d 42 i v) j q → ¬ gA w2 q) → W p l e R s m args below meth c H1 locs1 cells slots Q (F0 m (pc + 1) ls rest)) : W p l e R s m args below meth c H locs cells slots Q (F0 m pc ls (.long v.toInt64 :: .int (nI i) :: .ref (jA j 5) :: rest)) := by
  have hw : xW dA C d j 5 = some (jA j 5, e_L (dA 4) 6 (fun i => (dAD d 42 i).toInt64)) := xW_p (by decide) rfl
  have hs : wr_s (xW dA C d j) 5 (jA j 5, e_L (dA 4) 6 (vp_updL (fun i => (dAD d 42 i).toInt64) i v.toInt64)) = xW dA C (uAD d 42 i v.toInt64.toUInt64) j := xs_R5
  have hs : wr_s (xW dA C d j) 5 (jA j 5, e_L (dA 4) 6 (vp_updL (fun i => (dAD d 42 i).toInt64) i v.toInt64)) = xW dA C (uAD d 42 i v) j := hs
  refine w2_last S (xG_w G) G2 (fun q a b => hdis q a b) (r := 5) (by decide) hw hi (by decide) hdg (fun H1 locs1 G1 G3 => ?_)
  exact kk H1 locs1 (wG_x hs G1) G3 (fun q a b => hdis q (gA_x hw hs a) b)
end TE6_
theorem swA_le {C : tp_C} {m : Nat} {a b : Int64} {i : Nat} : ∀ {c : Nat}, i ≤ c → swA C m a b c = true → swA C m a b i = true
  | 0, h, q => by rw [show i = 0 by omega]; exact q
  | c + 1, h, q => by
    by_cases e : i = c + 1
    · rw [e]; exact q
    · rw [swA_s, Bool.and_eq_true] at q; exact swA_le (by omega) q.1
theorem swA_no {C : tp_C} {m : Nat} {a b : Int64} {i c : Nat} (hi : i < c) (h : ¬ stB (cK C m) (swV a b i) = true) : swA C m a b c = false := by
  cases e : swA C m a b c with
  | false => rfl
  | true => exact absurd (swA_at e i hi) h
theorem nb_of {v : UInt64} (h : vf_n64 v) : nbB v.toInt64 = true := by
  unfold nbB
  rw [nD_iff] at h
  have e : ¬ ((9218868437227405312 : Int64) < (v.toInt64 &&& (9223372036854775807 : Int64))) := by
    rw [Int64.lt_iff_toInt_lt, and_max, show (9218868437227405312 : Int64).toInt = 9218868437227405312 by decide]
    show ¬ ((9218868437227405312 : Int) < ((v.toNat % 2 ^ 63 : Nat) : Int))
    omega
  rw [decide_eq_false e]; rfl
def dMX : UInt64 := 9218868437227405311
theorem kMX : v64 dMX = .fin false 9007199254740991 971 := by decide +kernel
theorem kINF : v64 9218868437227405312 = .inf false := by decide +kernel
theorem sx_g {a : Int64} (hn : nbB a = true) : fx_gt (abD a.toUInt64) dMX = decide ((9218868437227405312 : Int64) ≤ (a &&& (9223372036854775807 : Int64))) := by
  have hn1 := nb_n hn
  by_cases h : (9218868437227405312 : Int64) ≤ (a &&& (9223372036854775807 : Int64))
  · rw [decide_eq_true h]
    rw [Int64.le_iff_toInt_le, and_max, show (9218868437227405312 : Int64).toInt = 9218868437227405312 by decide] at h
    rw [nD_iff] at hn1
    have e : abD a.toUInt64 = 9218868437227405312 := UInt64.toNat_inj.mp (by
      rw [abD_nat]
      show _ = 9218868437227405312
      omega)
    rw [e]
    unfold fx_gt
    have e2 : FP.dcmp 9218868437227405312 dMX = some (compare (FP.Core.signed false 1) 0) := by
      show FP.Core.order (v64 9218868437227405312) (v64 dMX) = _
      rw [kINF, kMX]; rfl
    rw [e2]; rfl
  · rw [decide_eq_false h]
    obtain ⟨b1, b2, b3⟩ := abD_z (fin_of h)
    rw [fx_gt_z b1 ⟨_, _, _, kMX⟩]
    refine decide_eq_false ?_
    obtain ⟨s_, c_, q_, hv⟩ := b1
    obtain ⟨g1, g2, g3⟩ := fl_q64 hv
    have e1 : zD dMX = ((9007199254740991 * 2 ^ 2045 : Nat) : Int) := by unfold zD; rw [kMX]; rfl
    have e3 : zD (abD a.toUInt64) ≤ ((c_ * 2 ^ (q_ + 1074).toNat : Nat) : Int) := by
      unfold zD; rw [hv]
      show FP.Core.signed s_ _ ≤ _
      generalize c_ * 2 ^ (q_ + 1074).toNat = V
      cases s_
      · exact Int.le_refl _
      · show -(V : Int) ≤ V; omega
    have e4 : c_ * 2 ^ (q_ + 1074).toNat ≤ 9007199254740991 * 2 ^ 2045 := Nat.mul_le_mul (by omega) (Nat.pow_le_pow_right (by decide) (by omega))
    rw [e1]
    generalize c_ * 2 ^ (q_ + 1074).toNat = V at e3 e4
    generalize 9007199254740991 * 2 ^ 2045 = U at e4 ⊢
    omega
theorem fx_le_of {x : UInt64} (hx : vf_n64 x) (h : fx_gt x dMX = false) : fx_le x dMX = true := by
  unfold fx_gt at h; unfold fx_le
  cases e : FP.dcmp x dMX with
  | none =>
    exfalso
    have e : FP.Core.order (v64 x) (v64 dMX) = none := e
    rw [kMX] at e
    have hx := (nD_val x).mp hx
    cases hv : v64 x with
    | nan => exact hx hv
    | inf b => rw [hv] at e; cases e
    | fin a c q => rw [hv] at e; cases e
  | some o => rw [e] at h; cases o <;> first | rfl | exact absurd h (by decide)
/-- trials of a sweep -/
def xtE (C : tp_C) (t : UInt64) (n : Nat) (e : md_T) : md_T := it_ (fun _ => xsD C t) n (beD C e)
def xwE (C : tp_C) (m n : Nat) (a b : Int64) : Nat → md_T
  | 0 => nmd
  | i + 1 => xtE (swC (twC C) m (swV a b i)) (hvT (cH C)) n (xwE C m n a b i)
def xwS (C : tp_C) (m q n : Nat) (a b : Int64) : Nat → md_T → md_T := fun i e => uAD e 42 i (dAD (xwE C m n a b (i + 1)) 19 q)
def xwN (C : tp_C) (m q n : Nat) (a b : Int64) (c : Nat) (d : md_T) : md_T := it_ (xwS C m q n a b) c d
def xwD (C : tp_C) (d : md_T) (m : Int32) (a b : Int64) (c n q : Int32) : md_T := if swO C m a b c n q then xwN C (ixN m) (ixN q) (ixN n) a b (ixN c) d else d
def ciOK (C Ci : tp_C) : Prop := mOK Ci ∧ vOK Ci ∧ vfOK Ci ∧ aOK Ci ∧ dlOK Ci ∧ (∀ m, cK Ci m = 11 → m < cN Ci) ∧ orG Ci ∧ cN Ci = cN C
theorem ci_sw {C : tp_C} {m : Nat} {v : UInt64} (hC : mOK C) (hV : vOK C) (hW : vfOK C) (hA : aOK C) (hDl : dlOK C) (h11 : ∀ m, cK C m = 11 → m < cN C) (hO : ∀ m v, orG (swC (twC C) m v)) (hv : stB (cK C m) v = true) : ciOK C (swC (twC C) m v) := ⟨(show mOK (twC C) from tw_mOK hC), sw_v (C := twC C) hV (st_b hv), hW, hA, sw_dl (C := twC C) hDl hv, h11, hO m v, rfl⟩
theorem iOK_sw {C C' : tp_C} {f : Nat → Int32} {e : md_T} (hk : cK C' = cK C) (hN : cN C' = cN C) (h : iOK C f e) : iOK C' f e := ⟨h.1, h.2.1, h.2.2.1, h.2.2.2.1, fun k hk' => h.2.2.2.2.1 k (by rw [hk, hN] at hk'; exact hk'), h.2.2.2.2.2⟩
/-- what is left of a twin's run -/
def twJ (C : tp_C) (e : md_T) (jj : xj_T) : Prop := iOK C (dAI e 10) e ∧ wrOK jj ∧ dnOK jj ∧ apOK e
theorem twJ_0 (C : tp_C) (ad : Nat → Nat) : twJ C nmd (nmj ad) := ⟨nm_I _, nm_w _, nm_n _, nm_a⟩
theorem twJ_I {C C' : tp_C} {f : Nat → Int32} {e : md_T} {jj : xj_T} (hk : cK C' = cK C) (hN : cN C' = cN C) (h : twI C f e jj) : twJ C' e jj := ⟨by rw [h.1.l]; exact iOK_sw hk hN h.1, h.2.2.2.1, h.2.2.2.2.2.1, h.2.2.2.2.2.2⟩
theorem xt_X0_sweep (l : Launch) (D : va_G) (dA : Nat → ClassId) (C : tp_C) (d : md_T) (j : xj_T) (m : Int32) (a : Int64) (b : Int64) (c : Int32) (n : Int32) (q : Int32) (hC : mOK C) (hV : vOK C) (hW : vfOK C) (hA_ : (¬ cM C = 0 → aOK C)) (hDl : dlOK C) (h11 : ∀ m, cK C m = 11 → m < cN C) (hfC : fdC C) (hfE : fdE C) (hOG_ : (¬ cM C = 0 → ∀ m v, orG (swC (twC C) m v))) : xR l D dA yX0_sweep cX0_sweep 18 (some .int) { frames := 11, cells := 369, slots := 5715, locals := 1200 } [.ref (jA j 0), .int m, .long a, .long b, .int c, .int n, .int q] C d j (fun o C' d' j' => o = some (.int (swI C m a b c n q)) ∧ C' = swCC C m a b c n q ∧ d' = xwD C d m a b c n q ∧ j' = j) := by
  refine xx_startR (own := RX0) (by decide) rfl (Nat.le_of_ble_eq_true rfl) ?_
  intro p0 e0 s0 mid bl0 me0 co0 ls S hr hlk G hl
  have hx := S.1; have hb := S.2.1; have hml := S.2.2.1; have hown := S.2.2.2.1; have hts := S.2.2.2.2; have hN := hC.n
  have hA : ∀ q, s0.heap.size ≤ q → xB (xA dA C d j) s0.heap.size q := fun q h => Or.inr h
  have hl : lv_has ls 18 [(0, .ref (jA j 0)), (1, .int m), (2, .long a), (4, .long b), (6, .int c), (7, .int n), (8, .int q)] := hl
  have hH := hC.hv
  have hMo := hC.mo
  have hw6 := hC.w
  have ht1 : tOK (hvT (cH C)) := hv_ok (by omega)
  have ht2 : tOK (hf_ (hvT (cH C))) := hv_ok (k := cH C + 1) (by omega)
  have L1 : ∀ (m1 q1 n1 c1 : Nat) (hm1 : m1 < cN C) (hq1 : q1 < cN C) (hn1 : n1 ≤ 40) (hc1 : c1 ≤ 6) (fa : fD (a).toUInt64) (fb : fD (b).toUInt64) (hR1 : swA C m1 a b c1 = false → swI C m a b c n q = -102 ∧ swCC C m a b c n q = C ∧ xwD C d m a b c n q = d) (n_ i : Nat), i ≤ c1 → c1 < i + n_ → (swA C m1 a b i = true) → ∀ (H : Heap) (locs : List Loc) (ls : Array Slot), xG D dA (xB (xA dA C d j) s0.heap.size) C d j s0 H locs → lv_has ls 18 [(13, .int (nI i)), (11, .double ((b).toUInt64)), (9, .double ((a).toUInt64)), (8, .int (nI q1)), (7, .int (nI n1)), (6, .int (nI c1)), (1, .int (nI m1)), (0, .ref (jA j 0))] → (∀ (H : Heap) (locs : List Loc) (ls : Array Slot), (swA C m1 a b c1 = true) → xG D dA (xB (xA dA C d j) s0.heap.size) C d j s0 H locs → lv_has ls 18 [(13, .int (nI c1)), (11, .double ((b).toUInt64)), (9, .double ((a).toUInt64)), (8, .int (nI q1)), (7, .int (nI n1)), (6, .int (nI c1)), (1, .int (nI m1)), (0, .ref (jA j 0))] → W p0 l e0 { frames := 11, cells := 369, slots := 5715, locals := 1200 } s0 mid ([.ref (jA j 0), .int m, .long a, .long b, .int c, .int n, .int q] : List Value).toArray bl0 me0 co0 H locs 0 0 (MQ bl0 (xQN D dA C d j s0.heap.size (fun o C' d' j' => o = some (.int (swI C m a b c n q)) ∧ C' = swCC C m a b c n q ∧ d' = xwD C d m a b c n q ∧ j' = j)) ([.ref (jA j 0), .int m, .long a, .long b, .int c, .int n, .int q] : List Value).toArray s0 369 5715 (xB (xA dA C d j) s0.heap.size)) (F0 mid 146 ls [])) → W p0 l e0 { frames := 11, cells := 369, slots := 5715, locals := 1200 } s0 mid ([.ref (jA j 0), .int m, .long a, .long b, .int c, .int n, .int q] : List Value).toArray bl0 me0 co0 H locs 0 0 (MQ bl0 (xQN D dA C d j s0.heap.size (fun o C' d' j' => o = some (.int (swI C m a b c n q)) ∧ C' = swCC C m a b c n q ∧ d' = xwD C d m a b c n q ∧ j' = j)) ([.ref (jA j 0), .int m, .long a, .long b, .int c, .int n, .int q] : List Value).toArray s0 369 5715 (xB (xA dA C d j) s0.heap.size)) (F0 mid 103 ls []) := by
    intro m1 q1 n1 c1 hm1 hq1 hn1 hc1 fa fb hR1 n_
    induction n_ with
    | zero => intro i h1_ h2_; exact absurd h2_ (by omega)
    | succ n_ ih =>
      intro i h1_ h2_ hh0 H locs ls G hl kk
      refine lv_iload hx hb dX0_sweep_103 (lv_at hl 0 rfl) ?_
      refine lv_iload hx hb dX0_sweep_105 (lv_at hl 5 rfl) ?_
      refine nn_cge (tgt := 146) hx hb (by omega) (by omega) dX0_sweep_107 (by decide) (fun c_107 => ?_) (fun c_107 => ?_)
      · have hiN : i = c1 := by omega
        subst hiN
        exact kk H locs ls hh0 G (lv_sub hl [0, 1, 2, 3, 4, 5, 6, 7] rfl)
      · refine lv_aload_n hx hb dX0_sweep_110 rfl (lv_at hl 7 rfl) ?_
        refine xx_getP S G 0 (by decide) q89 rfl (v := .ref (jA j 1)) rfl dX0_sweep_111 ?_
        refine lv_iload_n hx hb dX0_sweep_114 rfl (lv_at hl 6 rfl) ?_
        refine xx_aald S G (r := 1) (by decide) (xW_p (by decide) rfl) (i := m1) (by omega) (by decide) (o := some (jA j (xr m1 0))) (if_pos (by omega)) dX0_sweep_115 ?_
        refine W.eq (g2 := F0 mid 116 ls [.ref (jA j (xr m1 0))]) rfl ?_
        refine xx_get11 S G (mm := m1) (by omega) hN (hC.k _) 0 (by decide) q203 rfl (v := .int (nI (cK C m1))) rfl dX0_sweep_116 ?_
        refine lv_dload hx hb dX0_sweep_119 (lv_at hl 2 rfl) ?_
        refine lv_iload hx hb dX0_sweep_121 (lv_at hl 0 rfl) ?_
        refine lv_i2d hx hb dX0_sweep_123 ?_
        refine lv_dload hx hb dX0_sweep_124 (lv_at hl 1 rfl) ?_
        refine lv_dmul hx hb dX0_sweep_126 (sw_n1 fb) ?_
        refine lv_dadd hx hb dX0_sweep_127 (sw_n2 fa fb) ?_
        refine w_st (st' := [.double (swV a b i), .int (nI (cK C m1))]) (by rfl) ?_
        refine sC_call (As := [.double (swV a b i)]) (rest := [.int (nI (cK C m1))]) S (st_J0_doubleToLongBits l (swV a b i) (sw_n2 fa fb)) q1155 q1156 q55 q1157 hd_J0_doubleToLongBits ⟨Nat.le_of_ble_eq_true rfl, Nat.le_of_ble_eq_true rfl⟩ rfl hl.1 rfl (Nat.le_of_ble_eq_true rfl) dX0_sweep_128 ⟨(show 0 ≤ 369 by omega), (show 0 ≤ 5715 by omega)⟩ ?_
        refine W.eq (g2 := F0 mid 131 ls [.long (((swV a b i)).toInt64), .int (nI (cK C m1))]) rfl ?_
        refine sR_call (As := [.int (nI (cK C m1)), .long (((swV a b i)).toInt64)]) (rest := []) S (st_X0_isSetting l (cK C m1) (((swV a b i)).toInt64) (hC.k _)) q152 q153 q52 q154 hd_X0_isSetting ⟨Nat.le_of_ble_eq_true rfl, Nat.le_of_ble_eq_true rfl⟩ rfl hl.1 rfl (Nat.le_of_ble_eq_true rfl) dX0_sweep_131 ⟨(show 0 ≤ 369 by omega), (show 0 ≤ 5715 by omega)⟩ ?_
        refine W.eq (g2 := F0 mid 134 ls [.int (bI (nbB (((swV a b i)).toInt64) && stB (cK C m1) (((swV a b i)).toInt64).toUInt64))]) rfl ?_
        refine bb_ne (tgt := 140) hx hb dX0_sweep_134 (by decide) (fun c_134 => ?_) (fun c_134 => ?_)
        · refine lv_iinc (v := nI (i + 1)) (lv' := [(13, .int (nI (i + 1))), (11, .double ((b).toUInt64)), (9, .double ((a).toUInt64)), (8, .int (nI q1)), (7, .int (nI n1)), (6, .int (nI c1)), (1, .int (nI m1)), (0, .ref (jA j 0))]) hx hb dX0_sweep_140 hl (k := 0) rfl (nI_1 _) (by decide) rfl (fun ls hl => ?_)
          refine lv_goto (tgt := 103) hx hb dX0_sweep_143 (by decide) ?_
          exact ih (i + 1) (by omega) (by omega) (by rw [swA_s, hh0, show stB (cK C m1) (swV a b i) = true from by rw [nb_of (sw_n2 fa fb)] at c_134; exact c_134]; rfl) H locs ls G (lv_sub hl [0, 1, 2, 3, 4, 5, 6, 7] rfl) kk
        · refine lv_bipush (v := (-102)) hx hb dX0_sweep_137 (by decide) ?_
          exact xx_iretN S hr hlk G (show 0 ≤ 369 by omega) (show 0 ≤ 5715 by omega) (by obtain ⟨g1, g2, g3⟩ := hR1 (swA_no (i := i) (by omega) (fun z => by have c2 := c_134; rw [nb_of (sw_n2 fa fb)] at c2; have c2 : stB (cK C m1) (swV a b i) = false := c2; rw [z] at c2; cases c2)); exact ⟨by rw [g1], g2.symm, g3.symm, rfl⟩) dX0_sweep_139
  have L3 : ∀ (m1 q1 n1 c1 : Nat) (hm1 : m1 < cN C) (hq1 : q1 < cN C) (hn1 : n1 ≤ 40) (hc1 : c1 ≤ 6) (fa : fD (a).toUInt64) (fb : fD (b).toUInt64) (i cl sl : Nat) (hcl : cl ≤ 369) (hsl : sl ≤ 5715) (Ci : tp_C) (hci : ciOK C Ci) (ez ds : md_T) (f : Nat → Int32) (n_ k : Nat) (jp : xj_T), k ≤ n1 → n1 < k + n_ → twI Ci f (xtE Ci (hvT (cH C)) k ez) jp → (∀ q, xA dA C ds j q → ¬ xA dA Ci (xtE Ci (hvT (cH C)) k ez) jp q) → ∀ (H : Heap) (locs : List Loc) (ls : Array Slot), xG D dA (xB (xA dA C d j) s0.heap.size) C ds j s0 H locs → xG D dA (xB (xA dA C d j) s0.heap.size) Ci (xtE Ci (hvT (cH C)) k ez) jp s0 H locs → lv_has ls 18 [(17, .int (nI k)), (16, .int (nI i)), (14, .double (hvT (cH C))), (13, .ref (jA jp 0)), (11, .double ((b).toUInt64)), (9, .double ((a).toUInt64)), (8, .int (nI q1)), (7, .int (nI n1)), (6, .int (nI c1)), (1, .int (nI m1)), (0, .ref (jA j 0))] → (∀ (jp : xj_T) (H : Heap) (locs : List Loc) (ls : Array Slot), twI Ci f (xtE Ci (hvT (cH C)) n1 ez) jp → (∀ q, xA dA C ds j q → ¬ xA dA Ci (xtE Ci (hvT (cH C)) n1 ez) jp q) → xG D dA (xB (xA dA C d j) s0.heap.size) C ds j s0 H locs → xG D dA (xB (xA dA C d j) s0.heap.size) Ci (xtE Ci (hvT (cH C)) n1 ez) jp s0 H locs → lv_has ls 18 [(17, .int (nI n1)), (16, .int (nI i)), (14, .double (hvT (cH C))), (13, .ref (jA jp 0)), (11, .double ((b).toUInt64)), (9, .double ((a).toUInt64)), (8, .int (nI q1)), (7, .int (nI n1)), (6, .int (nI c1)), (1, .int (nI m1)), (0, .ref (jA j 0))] → W p0 l e0 { frames := 11, cells := 369, slots := 5715, locals := 1200 } s0 mid ([.ref (jA j 0), .int m, .long a, .long b, .int c, .int n, .int q] : List Value).toArray bl0 me0 co0 H locs cl sl (MQ bl0 (xQN D dA C d j s0.heap.size (fun o C' d' j' => o = some (.int (swI C m a b c n q)) ∧ C' = swCC C m a b c n q ∧ d' = xwD C d m a b c n q ∧ j' = j)) ([.ref (jA j 0), .int m, .long a, .long b, .int c, .int n, .int q] : List Value).toArray s0 369 5715 (xB (xA dA C d j) s0.heap.size)) (F0 mid 228 ls [])) → W p0 l e0 { frames := 11, cells := 369, slots := 5715, locals := 1200 } s0 mid ([.ref (jA j 0), .int m, .long a, .long b, .int c, .int n, .int q] : List Value).toArray bl0 me0 co0 H locs cl sl (MQ bl0 (xQN D dA C d j s0.heap.size (fun o C' d' j' => o = some (.int (swI C m a b c n q)) ∧ C' = swCC C m a b c n q ∧ d' = xwD C d m a b c n q ∧ j' = j)) ([.ref (jA j 0), .int m, .long a, .long b, .int c, .int n, .int q] : List Value).toArray s0 369 5715 (xB (xA dA C d j) s0.heap.size)) (F0 mid 208 ls []) := by
    intro m1 q1 n1 c1 hm1 hq1 hn1 hc1 fa fb i cl sl hcl hsl Ci hci ez ds f n_
    induction n_ with
    | zero => intro k jp h1_ h2_; exact absurd h2_ (by omega)
    | succ n_ ih =>
      intro k jp h1_ h2_ tp d1 H locs ls G Gp hl kk
      obtain ⟨hC0, hV0, hW0, hA0, hDl0, h110, hOG, hci8⟩ := hci
      refine lv_iload hx hb dX0_sweep_208 (lv_at hl 0 rfl) ?_
      refine lv_iload hx hb dX0_sweep_210 (lv_at hl 7 rfl) ?_
      refine nn_cge (tgt := 228) hx hb (by omega) (by omega) dX0_sweep_212 (by decide) (fun c_212 => ?_) (fun c_212 => ?_)
      · have hkn : k = n1 := by omega
        subst hkn
        exact kk jp H locs ls tp d1 G Gp (lv_sub hl [0, 1, 2, 3, 4, 5, 6, 7, 8, 9, 10] rfl)
      · refine lv_aload hx hb dX0_sweep_215 (lv_at hl 3 rfl) ?_
        refine lv_dload hx hb dX0_sweep_217 (lv_at hl 2 rfl) ?_
        have Gp := xG_44 Gp
        refine xx_callPF (As := [.double (hvT (cH C))]) (rest := []) S Gp (xt_tstep l D dA hC0 hV0 hA0 hDl0 h110 ht1 ht2 (hv_h (by omega)) tp) q1026 q1028 qs10 q1029 hd_X0_step ⟨Nat.le_of_ble_eq_true rfl, Nat.le_of_ble_eq_true rfl⟩ rfl hl.1 rfl (Nat.le_of_ble_eq_true rfl) dX0_sweep_219 ⟨hcl, hsl⟩ (fun H locs Gp O_ => ?_)
        have O_ := oth_44 O_
        obtain ⟨G, d1⟩ := O_ _ (xG_w G) d1
        have G : xG D dA (xB (xA dA C d j) s0.heap.size) C ds j s0 H locs := G
        obtain ⟨tp, y_⟩ := twI_s hC0 hV0 hA0 hDl0 h110 ht1 ht2 tp
        generalize hg_ : xsJ Ci (hvT (cH C)) (xtE Ci (hvT (cH C)) k ez) jp = jp1 at Gp tp y_ d1
        rw [← y_] at hl
        refine W.eq (g2 := F0 mid 222 ls []) rfl ?_
        refine lv_iinc (v := nI (k + 1)) (lv' := [(17, .int (nI (k + 1))), (16, .int (nI i)), (14, .double (hvT (cH C))), (13, .ref (jA jp1 0)), (11, .double ((b).toUInt64)), (9, .double ((a).toUInt64)), (8, .int (nI q1)), (7, .int (nI n1)), (6, .int (nI c1)), (1, .int (nI m1)), (0, .ref (jA j 0))]) hx hb dX0_sweep_222 hl (k := 0) rfl (nI_1 _) (by decide) rfl (fun ls hl => ?_)
        refine lv_goto (tgt := 208) hx hb dX0_sweep_225 (by decide) ?_
        exact ih (k + 1) jp1 (by omega) (by omega) tp d1 H locs ls G Gp (lv_sub hl [0, 1, 2, 3, 4, 5, 6, 7, 8, 9, 10] rfl) kk
  have L4 : ∀ (m1 q1 n1 c1 : Nat) (hm1 : m1 < cN C) (hq1 : q1 < cN C) (hn1 : n1 ≤ 40) (hc1 : c1 ≤ 6) (fa : fD (a).toUInt64) (fb : fD (b).toUInt64) (hst : ∀ i, i < c1 → stB (cK C m1) (swV a b i) = true) (hA1 : aOK C) (hOG : ∀ m v, orG (swC (twC C) m v)) (n_ i : Nat) (jp : xj_T), i ≤ c1 → c1 < i + n_ → twJ (twC C) (xwE C m1 n1 a b i) jp → (∀ q, xA dA C (xwN C m1 q1 n1 a b i d) j q → ¬ xA dA (cjS (twC C) m1 a b i) (xwE C m1 n1 a b i) jp q) → ∀ (H : Heap) (locs : List Loc) (ls : Array Slot), xG D dA (xB (xA dA C d j) s0.heap.size) C (xwN C m1 q1 n1 a b i d) j s0 H locs → xG D dA (xB (xA dA C d j) s0.heap.size) (cjS (twC C) m1 a b i) (xwE C m1 n1 a b i) jp s0 H locs → lv_has ls 18 [(16, .int (nI i)), (14, .double (hvT (cH C))), (13, .ref (jA jp 0)), (11, .double ((b).toUInt64)), (9, .double ((a).toUInt64)), (8, .int (nI q1)), (7, .int (nI n1)), (6, .int (nI c1)), (1, .int (nI m1)), (0, .ref (jA j 0))] → (∀ (jp : xj_T) (H : Heap) (locs : List Loc) (ls : Array Slot), xG D dA (xB (xA dA C d j) s0.heap.size) C (xwN C m1 q1 n1 a b c1 d) j s0 H locs → lv_has ls 18 [(16, .int (nI c1)), (14, .double (hvT (cH C))), (13, .ref (jA jp 0)), (11, .double ((b).toUInt64)), (9, .double ((a).toUInt64)), (8, .int (nI q1)), (7, .int (nI n1)), (6, .int (nI c1)), (1, .int (nI m1)), (0, .ref (jA j 0))] → W p0 l e0 { frames := 11, cells := 369, slots := 5715, locals := 1200 } s0 mid ([.ref (jA j 0), .int m, .long a, .long b, .int c, .int n, .int q] : List Value).toArray bl0 me0 co0 H locs (129 + 40 * c1) (1875 + 640 * c1) (MQ bl0 (xQN D dA C d j s0.heap.size (fun o C' d' j' => o = some (.int (swI C m a b c n q)) ∧ C' = swCC C m a b c n q ∧ d' = xwD C d m a b c n q ∧ j' = j)) ([.ref (jA j 0), .int m, .long a, .long b, .int c, .int n, .int q] : List Value).toArray s0 369 5715 (xB (xA dA C d j) s0.heap.size)) (F0 mid 255 ls [])) → W p0 l e0 { frames := 11, cells := 369, slots := 5715, locals := 1200 } s0 mid ([.ref (jA j 0), .int m, .long a, .long b, .int c, .int n, .int q] : List Value).toArray bl0 me0 co0 H locs (129 + 40 * i) (1875 + 640 * i) (MQ bl0 (xQN D dA C d j s0.heap.size (fun o C' d' j' => o = some (.int (swI C m a b c n q)) ∧ C' = swCC C m a b c n q ∧ d' = xwD C d m a b c n q ∧ j' = j)) ([.ref (jA j 0), .int m, .long a, .long b, .int c, .int n, .int q] : List Value).toArray s0 369 5715 (xB (xA dA C d j) s0.heap.size)) (F0 mid 174 ls []) := by
    intro m1 q1 n1 c1 hm1 hq1 hn1 hc1 fa fb hst hA1 hOG n_
    induction n_ with
    | zero => intro i jp h1_ h2_; exact absurd h2_ (by omega)
    | succ n_ ih =>
      intro i jp h1_ h2_ tj d1 H locs ls G Gp hl kk
      have hci8 : cN (cjS (twC C) m1 a b i) = cN C := by unfold cjS; split <;> rfl
      have hC0 : mOK (cjS (twC C) m1 a b i) := by unfold cjS; split <;> exact (show mOK (twC C) from tw_mOK hC)
      refine lv_iload hx hb dX0_sweep_174 (lv_at hl 0 rfl) ?_
      refine lv_iload hx hb dX0_sweep_176 (lv_at hl 7 rfl) ?_
      refine nn_cge (tgt := 255) hx hb (by omega) (by omega) dX0_sweep_178 (by decide) (fun c_178 => ?_) (fun c_178 => ?_)
      · have hic : i = c1 := by omega
        subst hic
        exact kk jp H locs ls G (lv_sub hl [0, 1, 2, 3, 4, 5, 6, 7, 8, 9] rfl)
      · refine lv_aload hx hb dX0_sweep_181 (lv_at hl 2 rfl) ?_
        refine xx_getP (j := jp) S Gp 0 (by decide) q89 rfl (v := .ref (jA jp 1)) rfl dX0_sweep_183 ?_
        refine lv_iload_n hx hb dX0_sweep_186 rfl (lv_at hl 8 rfl) ?_
        refine xx_aald (j := jp) S Gp (r := 1) (by decide) (xW_p (by decide) rfl) (i := m1) (by omega) (by decide) (o := some (jA jp (xr m1 0))) (if_pos (by rw [hci8]; exact hm1)) dX0_sweep_187 ?_
        refine W.eq (g2 := F0 mid 188 ls [.ref (jA jp (xr m1 0))]) rfl ?_
        refine lv_dload hx hb dX0_sweep_188 (lv_at hl 4 rfl) ?_
        refine lv_iload hx hb dX0_sweep_190 (lv_at hl 0 rfl) ?_
        refine lv_i2d hx hb dX0_sweep_192 ?_
        refine lv_dload hx hb dX0_sweep_193 (lv_at hl 3 rfl) ?_
        refine lv_dmul hx hb dX0_sweep_195 (sw_n1 fb) ?_
        refine lv_dadd hx hb dX0_sweep_196 (sw_n2 fa fb) ?_
        refine w_st (st' := [.double (swV a b i), .ref (jA jp (xr m1 0))]) (by rfl) ?_
        refine w2_set S Gp (xG_w G) d1 (mm := m1) (by rw [hci8]; exact hm1) (by rw [hci8]; exact hN) (hC0.k _) q213 dX0_sweep_197 (fun H locs Gp G d1 => ?_)
        have G : xG D dA (xB (xA dA C d j) s0.heap.size) C (xwN C m1 q1 n1 a b i d) j s0 H locs := G
        rw [show swC (cjS (twC C) m1 a b i) m1 (swV a b i) = (swC (twC C) m1 (swV a b i)) from (cjS_s (twC C) m1 a b i).trans (cjS_p (twC C) m1 a b i)] at Gp d1
        have hci : ciOK C (swC (twC C) m1 (swV a b i)) := ci_sw hC hV hW hA1 hDl h11 hOG (hst i (by omega))
        refine lv_aload hx hb dX0_sweep_200 (lv_at hl 2 rfl) ?_
        obtain ⟨hC0, hV0, hW0, hA0, hDl0, h110, hOGi, hci8⟩ := id hci
        obtain ⟨j1_, j2_, j3_, j4_⟩ := tj
        refine xx_callNF (As := []) (rest := []) S Gp hA (xt_X0_start l D dA (swC (twC C) m1 (swV a b i)) (xwE C m1 n1 a b i) jp hC0 hV0 hW0 hA0 hDl0 (iOK_sw (C := twC C) rfl rfl j1_) j3_ j4_ h110 (hOGi _ _)) q681 q683 qs5 q684 hd_X0_start ⟨Nat.le_of_ble_eq_true rfl, Nat.le_of_ble_eq_true rfl⟩ rfl hl.1 rfl (Nat.le_of_ble_eq_true rfl) dX0_sweep_202 ⟨(show 129 + 40 * i + 40 ≤ 369 by omega), (show 1875 + 640 * i + 640 ≤ 5715 by omega)⟩ (fun o_ C_ e_ jp2 H locs hp Gp O_ => ?_)
        obtain ⟨rfl, rfl, rfl, hbs⟩ := hp
        obtain ⟨G, d1⟩ := O_ _ (xG_w G) d1
        have G : xG D dA (xB (xA dA C d j) s0.heap.size) C (xwN C m1 q1 n1 a b i d) j s0 H locs := G
        have tp := twI_b hC0 hV0 hW0 hA0 hDl0 h110 (iOK_sw (C := twC C) rfl rfl j1_) j4_ j2_ (hOGi _ _) hbs
        have hAp := bsP_0A hbs
        have hAp : jA jp2 0 = jA jp 0 := hAp
        rw [← hAp] at hl
        refine W.eq (g2 := F0 mid 205 ls []) rfl ?_
        refine lv_iconst (v := nI 0) hx hb dX0_sweep_205 (by decide) ?_
        refine lv_istore (lv' := [(17, .int (nI 0)), (16, .int (nI i)), (14, .double (hvT (cH C))), (13, .ref (jA jp2 0)), (11, .double ((b).toUInt64)), (9, .double ((a).toUInt64)), (8, .int (nI q1)), (7, .int (nI n1)), (6, .int (nI c1)), (1, .int (nI m1)), (0, .ref (jA j 0))]) hx hb dX0_sweep_206 hl (by decide) rfl (fun ls hl => ?_)
        refine L3 m1 q1 n1 c1 hm1 hq1 hn1 hc1 fa fb i (129 + 40 * i + 40) (1875 + 640 * i + 640) (by omega) (by omega) (swC (twC C) m1 (swV a b i)) hci (xwE C m1 n1 a b i) (xwN C m1 q1 n1 a b i d) _ (n1 + 1) 0 jp2 (by omega) (by omega) tp d1 H locs ls G Gp (lv_sub hl [0, 1, 2, 3, 4, 5, 6, 7, 8, 9, 10] rfl) (fun jp3 H locs ls tp d1 G Gp hl => ?_)
        have Gp : xG D dA (xB (xA dA C d j) s0.heap.size) (swC (twC C) m1 (swV a b i)) (xwE C m1 n1 a b (i + 1)) jp3 s0 H locs := Gp
        have d1 : (∀ q, xA dA C (xwN C m1 q1 n1 a b i d) j q → ¬ xA dA (swC (twC C) m1 (swV a b i)) (xwE C m1 n1 a b (i + 1)) jp3 q) := d1
        refine lv_aload_n hx hb dX0_sweep_228 rfl (lv_at hl 10 rfl) ?_
        refine xx_getP S G 12 (by decide) q101 rfl (v := .ref (jA j 5)) rfl dX0_sweep_229 ?_
        refine lv_iload hx hb dX0_sweep_232 (lv_at hl 1 rfl) ?_
        refine lv_aload hx hb dX0_sweep_234 (lv_at hl 3 rfl) ?_
        refine xx_getP (j := jp3) S Gp 0 (by decide) q89 rfl (v := .ref (jA jp3 1)) rfl dX0_sweep_236 ?_
        refine lv_iload hx hb dX0_sweep_239 (lv_at hl 6 rfl) ?_
        refine xx_aald (j := jp3) S Gp (r := 1) (by decide) (xW_p (by decide) rfl) (i := q1) (by omega) (by decide) (o := some (jA jp3 (xr q1 0))) (if_pos (by rw [hci8]; exact hq1)) dX0_sweep_241 ?_
        refine W.eq (g2 := F0 mid 242 ls [.ref (jA jp3 (xr q1 0)), .int (nI i), .ref (jA j 5)]) rfl ?_
        refine xx_get11 (j := jp3) S Gp (mm := q1) (by rw [hci8]; exact hq1) hN (hC0.k _) 6 (by decide) q226 rfl (v := .double (dAD (xwE C m1 n1 a b (i + 1)) 19 q1)) rfl dX0_sweep_242 ?_
        refine sC_call (As := [.double (dAD (xwE C m1 n1 a b (i + 1)) 19 q1)]) (rest := [.int (nI i), .ref (jA j 5)]) S (st_J0_doubleToLongBits l (dAD (xwE C m1 n1 a b (i + 1)) 19 q1) (bD_n (tp.1.r.rd q1))) q1155 q1156 q55 q1157 hd_J0_doubleToLongBits ⟨Nat.le_of_ble_eq_true rfl, Nat.le_of_ble_eq_true rfl⟩ rfl hl.1 rfl (Nat.le_of_ble_eq_true rfl) dX0_sweep_245 ⟨(show 129 + 40 * i + 40 ≤ 369 by omega), (show 1875 + 640 * i + 640 ≤ 5715 by omega)⟩ ?_
        refine W.eq (g2 := F0 mid 248 ls [.long (((dAD (xwE C m1 n1 a b (i + 1)) 19 q1)).toInt64), .int (nI i), .ref (jA j 5)]) rfl ?_
        refine w2_swept S G (xG_w Gp) d1 (i := i) (by omega) (v := dAD (xwE C m1 n1 a b (i + 1)) 19 q1) dX0_sweep_248 (fun H locs G Gp d1 => ?_)
        have Gp : xG D dA (xB (xA dA C d j) s0.heap.size) (swC (twC C) m1 (swV a b i)) (xwE C m1 n1 a b (i + 1)) jp3 s0 H locs := Gp
        have G : xG D dA (xB (xA dA C d j) s0.heap.size) C (xwN C m1 q1 n1 a b (i + 1) d) j s0 H locs := G
        have d1 : (∀ q, xA dA C (xwN C m1 q1 n1 a b (i + 1) d) j q → ¬ xA dA (swC (twC C) m1 (swV a b i)) (xwE C m1 n1 a b (i + 1)) jp3 q) := d1
        refine lv_iinc (v := nI (i + 1)) (lv' := [(16, .int (nI (i + 1))), (17, .int (nI n1)), (14, .double (hvT (cH C))), (13, .ref (jA jp3 0)), (11, .double ((b).toUInt64)), (9, .double ((a).toUInt64)), (8, .int (nI q1)), (7, .int (nI n1)), (6, .int (nI c1)), (1, .int (nI m1)), (0, .ref (jA j 0))]) hx hb dX0_sweep_249 hl (k := 1) rfl (nI_1 _) (by decide) rfl (fun ls hl => ?_)
        refine lv_goto (tgt := 174) hx hb dX0_sweep_252 (by decide) ?_
        rw [show swC (twC C) m1 (swV a b i) = (cjS (twC C) m1 a b (i + 1)) from (cjS_p (twC C) m1 a b i).symm] at Gp d1
        refine w_cs (cells' := 129 + 40 * (i + 1)) (slots' := 1875 + 640 * (i + 1)) (by omega) (by omega) ?_
        exact ih (i + 1) jp3 (by omega) (by omega) (twJ_I (C := swC (twC C) m1 (swV a b i)) rfl rfl tp) d1 H locs ls G Gp (lv_sub hl [0, 2, 3, 4, 5, 6, 7, 8, 9, 10] rfl) kk
  refine lv_aload_n hx hb dX0_sweep_0 rfl (lv_at hl 0 rfl) ?_
  refine lv_iload_n hx hb dX0_sweep_1 rfl (lv_at hl 1 rfl) ?_
  refine xx_callP (As := [.int m]) (rest := []) S G (xt_X0_isModule l D dA C d j m hC) q575 q577 qs0 q578 hd_X0_isModule ⟨Nat.le_of_ble_eq_true rfl, Nat.le_of_ble_eq_true rfl⟩ rfl hl.1 rfl (Nat.le_of_ble_eq_true rfl) dX0_sweep_2 ⟨(show 0 ≤ 369 by omega), (show 0 ≤ 5715 by omega)⟩ (fun H locs G => ?_)
  refine W.eq (g2 := F0 mid 5 ls [.int (bI (inB m (nI 0) (nI (cN C) - nI 1)))]) rfl ?_
  refine bb_eq (tgt := 17) hx hb dX0_sweep_5 (by decide) (fun c_5 => ?_) (fun c_5 => ?_)
  · refine lv_bipush (v := (-101)) hx hb dX0_sweep_17 (by decide) ?_
    exact xx_iretN S hr hlk G (show 0 ≤ 369 by omega) (show 0 ≤ 5715 by omega) (by refine ⟨?_, ?_, ?_, rfl⟩ <;> simp [swI, swCC, xwD, swO, swG, imB, c_5]) dX0_sweep_19
  · obtain ⟨m1, hm1, rfl⟩ := im_nat c_5 hN
    have ij_m1 : ixN (nI m1) = m1 := ixN_nI (by omega)
    refine lv_aload_n hx hb dX0_sweep_8 rfl (lv_at hl 0 rfl) ?_
    refine lv_iload hx hb dX0_sweep_9 (lv_at hl 6 rfl) ?_
    refine xx_callP (As := [.int q]) (rest := []) S G (xt_X0_isModule l D dA C d j q hC) q575 q577 qs0 q578 hd_X0_isModule ⟨Nat.le_of_ble_eq_true rfl, Nat.le_of_ble_eq_true rfl⟩ rfl hl.1 rfl (Nat.le_of_ble_eq_true rfl) dX0_sweep_11 ⟨(show 0 ≤ 369 by omega), (show 0 ≤ 5715 by omega)⟩ (fun H locs G => ?_)
    refine W.eq (g2 := F0 mid 14 ls [.int (bI (inB q (nI 0) (nI (cN C) - nI 1)))]) rfl ?_
    refine bb_ne (tgt := 20) hx hb dX0_sweep_14 (by decide) (fun c_14 => ?_) (fun c_14 => ?_)
    · obtain ⟨q1, hq1, rfl⟩ := im_nat c_14 hN
      have ij_q1 : ixN (nI q1) = q1 := ixN_nI (by omega)
      refine lv_iload hx hb dX0_sweep_20 (lv_at hl 4 rfl) ?_
      refine lv_iconst (v := nI 1) hx hb dX0_sweep_22 (by decide) ?_
      refine lv_bipush (v := nI 6) hx hb dX0_sweep_23 (by decide) ?_
      refine sC_call (As := [.int c, .int (nI 1), .int (nI 6)]) (rest := []) S (st_X0_isIn l c (nI 1) (nI 6)) q149 q150 q52 q151 hd_X0_isIn ⟨Nat.le_of_ble_eq_true rfl, Nat.le_of_ble_eq_true rfl⟩ rfl hl.1 rfl (Nat.le_of_ble_eq_true rfl) dX0_sweep_25 ⟨(show 0 ≤ 369 by omega), (show 0 ≤ 5715 by omega)⟩ ?_
      refine W.eq (g2 := F0 mid 28 ls [.int (bI (inB c (nI 1) (nI 6)))]) rfl ?_
      refine bb_eq (tgt := 57) hx hb dX0_sweep_28 (by decide) (fun c_28 => ?_) (fun c_28 => ?_)
      · refine lv_bipush (v := (-102)) hx hb dX0_sweep_57 (by decide) ?_
        exact xx_iretN S hr hlk G (show 0 ≤ 369 by omega) (show 0 ≤ 5715 by omega) (by refine ⟨?_, ?_, ?_, rfl⟩ <;> simp [swI, swCC, xwD, swO, swG, imB, c_5, ij_m1, c_14, ij_q1, c_28]) dX0_sweep_59
      · obtain ⟨c1, hc0, hc1, rfl⟩ := in_nat c_28 (by decide) (by decide)
        have ij_c1 : ixN (nI c1) = c1 := ixN_nI (by omega)
        refine lv_iload hx hb dX0_sweep_31 (lv_at hl 5 rfl) ?_
        refine lv_iconst (v := nI 1) hx hb dX0_sweep_33 (by decide) ?_
        refine lv_bipush (v := nI 40) hx hb dX0_sweep_34 (by decide) ?_
        refine sC_call (As := [.int n, .int (nI 1), .int (nI 40)]) (rest := []) S (st_X0_isIn l n (nI 1) (nI 40)) q149 q150 q52 q151 hd_X0_isIn ⟨Nat.le_of_ble_eq_true rfl, Nat.le_of_ble_eq_true rfl⟩ rfl hl.1 rfl (Nat.le_of_ble_eq_true rfl) dX0_sweep_36 ⟨(show 0 ≤ 369 by omega), (show 0 ≤ 5715 by omega)⟩ ?_
        refine W.eq (g2 := F0 mid 39 ls [.int (bI (inB n (nI 1) (nI 40)))]) rfl ?_
        refine bb_eq (tgt := 57) hx hb dX0_sweep_39 (by decide) (fun c_39 => ?_) (fun c_39 => ?_)
        · refine lv_bipush (v := (-102)) hx hb dX0_sweep_57 (by decide) ?_
          exact xx_iretN S hr hlk G (show 0 ≤ 369 by omega) (show 0 ≤ 5715 by omega) (by refine ⟨?_, ?_, ?_, rfl⟩ <;> simp [swI, swCC, xwD, swO, swG, imB, c_5, ij_m1, c_14, ij_q1, c_28, ij_c1, c_39]) dX0_sweep_59
        · obtain ⟨n1, hn0, hn1, rfl⟩ := in_nat c_39 (by decide) (by decide)
          have ij_n1 : ixN (nI n1) = n1 := ixN_nI (by omega)
          refine lv_lload_n hx hb dX0_sweep_42 rfl (lv_at hl 2 rfl) ?_
          refine sC_call (As := [.long a]) (rest := []) S (st_X0_isNumber l a) q159 q160 q52 q161 hd_X0_isNumber ⟨Nat.le_of_ble_eq_true rfl, Nat.le_of_ble_eq_true rfl⟩ rfl hl.1 rfl (Nat.le_of_ble_eq_true rfl) dX0_sweep_43 ⟨(show 0 ≤ 369 by omega), (show 0 ≤ 5715 by omega)⟩ ?_
          refine W.eq (g2 := F0 mid 46 ls [.int (bI (nbB a))]) rfl ?_
          refine bb_eq (tgt := 57) hx hb dX0_sweep_46 (by decide) (fun c_46 => ?_) (fun c_46 => ?_)
          · refine lv_bipush (v := (-102)) hx hb dX0_sweep_57 (by decide) ?_
            exact xx_iretN S hr hlk G (show 0 ≤ 369 by omega) (show 0 ≤ 5715 by omega) (by refine ⟨?_, ?_, ?_, rfl⟩ <;> simp [swI, swCC, xwD, swO, swG, imB, c_5, ij_m1, c_14, ij_q1, c_28, ij_c1, c_39, ij_n1, c_46]) dX0_sweep_59
          · refine lv_lload hx hb dX0_sweep_49 (lv_at hl 3 rfl) ?_
            refine sC_call (As := [.long b]) (rest := []) S (st_X0_isNumber l b) q159 q160 q52 q161 hd_X0_isNumber ⟨Nat.le_of_ble_eq_true rfl, Nat.le_of_ble_eq_true rfl⟩ rfl hl.1 rfl (Nat.le_of_ble_eq_true rfl) dX0_sweep_51 ⟨(show 0 ≤ 369 by omega), (show 0 ≤ 5715 by omega)⟩ ?_
            refine W.eq (g2 := F0 mid 54 ls [.int (bI (nbB b))]) rfl ?_
            refine bb_ne (tgt := 60) hx hb dX0_sweep_54 (by decide) (fun c_54 => ?_) (fun c_54 => ?_)
            · refine lv_lload_n hx hb dX0_sweep_60 rfl (lv_at hl 2 rfl) ?_
              refine vn_l2d hx hb (hml.trans hl.1.symm) hown (hts _ q164) (hts _ q166) (hts _ q165) (hts _ q55) (nb_sn (nb_n c_46)) (Nat.le_of_ble_eq_true rfl) (Nat.le_of_ble_eq_true rfl) dX0_sweep_61 ?_
              refine lv_dstore (lv' := [(9, .double ((a).toUInt64)), (0, .ref (jA j 0)), (1, .int (nI m1)), (2, .long a), (4, .long b), (6, .int (nI c1)), (7, .int (nI n1)), (8, .int (nI q1))]) hx hb dX0_sweep_64 hl (by decide) rfl (fun ls hl => ?_)
              refine lv_lload hx hb dX0_sweep_66 (lv_at hl 4 rfl) ?_
              refine vn_l2d hx hb (hml.trans hl.1.symm) hown (hts _ q164) (hts _ q166) (hts _ q165) (hts _ q55) (nb_sn (nb_n c_54)) (Nat.le_of_ble_eq_true rfl) (Nat.le_of_ble_eq_true rfl) dX0_sweep_68 ?_
              refine lv_dstore (lv' := [(11, .double ((b).toUInt64)), (9, .double ((a).toUInt64)), (0, .ref (jA j 0)), (1, .int (nI m1)), (2, .long a), (4, .long b), (6, .int (nI c1)), (7, .int (nI n1)), (8, .int (nI q1))]) hx hb dX0_sweep_71 hl (by decide) rfl (fun ls hl => ?_)
              refine lv_dload hx hb dX0_sweep_73 (lv_at hl 1 rfl) ?_
              refine va_ov (As := [.double ((a).toUInt64)]) (rest := []) (row := ovA) (r := .double (abD ((a).toUInt64))) hx hb (hml.trans hl.1.symm) hown (hts _ q1217) (hts _ q185) (hts _ q56) (hts _ q186) ovA_d ovA_c (ovA_row _) ovA_p rfl rfl (fun S => ovA_run2 (nb_n c_46) _ S) (Nat.le_of_ble_eq_true rfl) (Nat.le_of_ble_eq_true rfl) (show 0 ≤ 369 by omega) (show 0 ≤ 5715 by omega) rfl dX0_sweep_75 ?_
              refine lv_ldc2d hx hb hown (hts _ q1218) dX0_sweep_78 ?_
              refine fx_jlgt (tgt := 97) hx hb dX0_sweep_81 dX0_sweep_82 (by decide) (fun c_82 => ?_) (fun c_82 => ?_)
              · have hF : swF a b = false := by unfold swF; rw [← sx_g c_46, show fx_gt (abD (a).toUInt64) dMX = true from c_82]; rfl
                refine lv_bipush (v := (-102)) hx hb dX0_sweep_97 (by decide) ?_
                exact xx_iretN S hr hlk G (show 0 ≤ 369 by omega) (show 0 ≤ 5715 by omega) (by have hz : swA C m1 a b c1 = false := (by cases hq_ : swA C m1 a b c1 with | false => rfl | true => exact absurd (swA_f hq_) (by rw [hF]; decide)); refine ⟨?_, ?_, ?_, rfl⟩ <;> simp [swI, swCC, xwD, swO, swG, imB, c_5, ij_m1, c_14, ij_q1, c_28, ij_c1, c_39, ij_n1, c_46, c_54, c_82, hz]) dX0_sweep_99
              · refine lv_dload hx hb dX0_sweep_85 (lv_at hl 0 rfl) ?_
                refine va_ov (As := [.double ((b).toUInt64)]) (rest := []) (row := ovA) (r := .double (abD ((b).toUInt64))) hx hb (hml.trans hl.1.symm) hown (hts _ q1217) (hts _ q185) (hts _ q56) (hts _ q186) ovA_d ovA_c (ovA_row _) ovA_p rfl rfl (fun S => ovA_run2 (nb_n c_54) _ S) (Nat.le_of_ble_eq_true rfl) (Nat.le_of_ble_eq_true rfl) (show 0 ≤ 369 by omega) (show 0 ≤ 5715 by omega) rfl dX0_sweep_87 ?_
                refine lv_ldc2d hx hb hown (hts _ q1218) dX0_sweep_90 ?_
                refine fx_jlle (tgt := 100) hx hb dX0_sweep_93 dX0_sweep_94 (by decide) (fun c_94 => ?_) (fun c_94 => ?_)
                · have hF : swF a b = true := by unfold swF; rw [← sx_g c_46, ← sx_g (a := b) c_54, show fx_gt (abD (a).toUInt64) dMX = false from c_82, show fx_gt (abD (b).toUInt64) dMX = false from c_94]; rfl
                  obtain ⟨fa, fb⟩ := swF_f hF
                  refine lv_iconst (v := nI 0) hx hb dX0_sweep_100 (by decide) ?_
                  refine lv_istore (lv' := [(13, .int (nI 0)), (11, .double ((b).toUInt64)), (9, .double ((a).toUInt64)), (0, .ref (jA j 0)), (1, .int (nI m1)), (2, .long a), (4, .long b), (6, .int (nI c1)), (7, .int (nI n1)), (8, .int (nI q1))]) hx hb dX0_sweep_101 hl (by decide) rfl (fun ls hl => ?_)
                  refine L1 m1 q1 n1 c1 hm1 hq1 hn1 hc1 fa fb (fun hz => by have z_ : swA C m1 a b c1 = false := hz; simp [swI, swCC, xwD, swO, swG, imB, c_5, ij_m1, c_14, ij_q1, c_28, ij_c1, c_39, ij_n1, c_46, c_54, c_82, c_94, z_]) (c1 + 1) 0 (by omega) (by omega) hF _ _ ls G (lv_sub hl [0, 1, 2, 9, 8, 7, 4, 3] rfl) (fun H locs ls hsw G hl => ?_)
                  refine lv_aload_n hx hb dX0_sweep_146 rfl (lv_at hl 7 rfl) ?_
                  refine xx_getP S G 2 (by decide) q91 rfl (v := .int (nI (cM C))) rfl dX0_sweep_147 ?_
                  refine nz_ne (tgt := 156) hx hb (by omega) dX0_sweep_150 (by decide) (fun c_150 => ?_) (fun c_150 => ?_)
                  · refine lv_aload_n hx hb dX0_sweep_156 rfl (lv_at hl 7 rfl) ?_
                    have G0 := G
                    refine tt_call (As := []) (rest := []) S G hA (tt_X0_twin l D dA C d j hC hfC hfE) q1219 q1221 qs15 q1222 hd_X0_twin ⟨Nat.le_of_ble_eq_true rfl, Nat.le_of_ble_eq_true rfl⟩ rfl hl.1 rfl (Nat.le_of_ble_eq_true rfl) dX0_sweep_157 ⟨(show 0 + 129 ≤ 369 by omega), (show 0 + 1875 ≤ 5715 by omega)⟩ (fun o_ w_ H locs hp G Gp hge hz hk => ?_)
                    obtain ⟨ap, rfl, rfl⟩ := hp
                    have Gp : xG D dA (xB (xA dA C d j) s0.heap.size) (cjS (twC C) m1 a b 0) (xwE C m1 n1 a b 0) (nmj ap) s0 H locs := Gp
                    have d1 : (∀ q, xA dA C (xwN C m1 q1 n1 a b 0 d) j q → ¬ xA dA (cjS (twC C) m1 a b 0) (xwE C m1 n1 a b 0) (nmj ap) q) := fun q a b => by have := wG_lt (xG_w G0) a; have := hge q b; omega
                    generalize hjp : nmj ap = jp at Gp d1
                    have tj : twJ (twC C) (xwE C m1 n1 a b 0) jp := by rw [← hjp]; exact twJ_0 _ _
                    refine W.eq (g2 := F0 mid 160 ls [.ref (jA jp 0)]) (by rw [← hjp]; rfl) ?_
                    refine lv_astore (lv' := [(13, .ref (jA jp 0)), (11, .double ((b).toUInt64)), (9, .double ((a).toUInt64)), (8, .int (nI q1)), (7, .int (nI n1)), (6, .int (nI c1)), (1, .int (nI m1)), (0, .ref (jA j 0))]) hx hb dX0_sweep_160 hl (by decide) rfl (fun ls hl => ?_)
                    refine lv_aload_n hx hb dX0_sweep_162 rfl (lv_at hl 7 rfl) ?_
                    refine xx_getP S G 4 (by decide) q93 rfl (v := .int (nI (cH C))) rfl dX0_sweep_163 ?_
                    refine xx_callSF (As := [.int (nI (cH C))]) (rest := []) S G (xt_X0_length l D dA C d j (cH C) hC (by omega)) q1018 q1019 q52 q1020 hd_X0_length ⟨Nat.le_of_ble_eq_true rfl, Nat.le_of_ble_eq_true rfl⟩ rfl hl.1 rfl (Nat.le_of_ble_eq_true rfl) dX0_sweep_166 ⟨(show 0 + 129 ≤ 369 by omega), (show 0 + 1875 ≤ 5715 by omega)⟩ (fun H locs G O_ => ?_)
                    obtain ⟨Gp, d1_⟩ := O_ _ (xG_w Gp) (fun q a b => d1 q b a)
                    have Gp : xG D dA (xB (xA dA C d j) s0.heap.size) (cjS (twC C) m1 a b 0) (xwE C m1 n1 a b 0) jp s0 H locs := Gp
                    have d1 : (∀ q, xA dA C (xwN C m1 q1 n1 a b 0 d) j q → ¬ xA dA (cjS (twC C) m1 a b 0) (xwE C m1 n1 a b 0) jp q) := fun q a b => d1_ q b a
                    refine W.eq (g2 := F0 mid 169 ls [.double (hvT (cH C))]) rfl ?_
                    refine lv_dstore (lv' := [(14, .double (hvT (cH C))), (13, .ref (jA jp 0)), (11, .double ((b).toUInt64)), (9, .double ((a).toUInt64)), (8, .int (nI q1)), (7, .int (nI n1)), (6, .int (nI c1)), (1, .int (nI m1)), (0, .ref (jA j 0))]) hx hb dX0_sweep_169 hl (by decide) rfl (fun ls hl => ?_)
                    refine lv_iconst (v := nI 0) hx hb dX0_sweep_171 (by decide) ?_
                    refine lv_istore (lv' := [(16, .int (nI 0)), (14, .double (hvT (cH C))), (13, .ref (jA jp 0)), (11, .double ((b).toUInt64)), (9, .double ((a).toUInt64)), (8, .int (nI q1)), (7, .int (nI n1)), (6, .int (nI c1)), (1, .int (nI m1)), (0, .ref (jA j 0))]) hx hb dX0_sweep_172 hl (by decide) rfl (fun ls hl => ?_)
                    refine w_cs (cells' := 129 + 40 * 0) (slots' := 1875 + 640 * 0) rfl rfl ?_
                    refine L4 m1 q1 n1 c1 hm1 hq1 hn1 hc1 fa fb (swA_at hsw) (hA_ (by omega)) (hOG_ (by omega)) (c1 + 1) 0 jp (by omega) (by omega) tj d1 H locs ls G Gp (lv_sub hl [0, 1, 2, 3, 4, 5, 6, 7, 8, 9] rfl) (fun jp H locs ls G hl => ?_)
                    refine lv_aload_n hx hb dX0_sweep_255 rfl (lv_at hl 9 rfl) ?_
                    refine lv_iload hx hb dX0_sweep_256 (lv_at hl 7 rfl) ?_
                    refine xx_putP S G 13 (by decide) q102 rfl rfl rfl rfl xs_P13 dX0_sweep_258 (fun H locs G => ?_)
                    refine lv_iload hx hb dX0_sweep_261 (lv_at hl 7 rfl) ?_
                    exact xx_iretN S hr hlk G (show 129 + 40 * c1 ≤ 369 by omega) (show 1875 + 640 * c1 ≤ 5715 by omega) (by refine ⟨?_, ?_, ?_, rfl⟩ <;> simp [swI, swCC, xwD, swO, swG, imB, c_5, ij_m1, c_14, ij_q1, c_28, ij_c1, c_39, ij_n1, c_46, c_54, c_82, c_94, hsw, c_150] <;> rfl) dX0_sweep_263
                  · refine lv_bipush (v := (-103)) hx hb dX0_sweep_153 (by decide) ?_
                    exact xx_iretN S hr hlk G (show 0 ≤ 369 by omega) (show 0 ≤ 5715 by omega) (by refine ⟨?_, ?_, ?_, rfl⟩ <;> simp [swI, swCC, xwD, swO, swG, imB, c_5, ij_m1, c_14, ij_q1, c_28, ij_c1, c_39, ij_n1, c_46, c_54, c_82, c_94, hsw, c_150] <;> rfl) dX0_sweep_155
                · have hF : swF a b = false := by unfold swF; rw [← sx_g (a := b) c_54, show fx_gt (abD (b).toUInt64) dMX = true from c_94]; simp
                  refine lv_bipush (v := (-102)) hx hb dX0_sweep_97 (by decide) ?_
                  exact xx_iretN S hr hlk G (show 0 ≤ 369 by omega) (show 0 ≤ 5715 by omega) (by have hz : swA C m1 a b c1 = false := (by cases hq_ : swA C m1 a b c1 with | false => rfl | true => exact absurd (swA_f hq_) (by rw [hF]; decide)); refine ⟨?_, ?_, ?_, rfl⟩ <;> simp [swI, swCC, xwD, swO, swG, imB, c_5, ij_m1, c_14, ij_q1, c_28, ij_c1, c_39, ij_n1, c_46, c_54, c_82, c_94, hz]) dX0_sweep_99
            · refine lv_bipush (v := (-102)) hx hb dX0_sweep_57 (by decide) ?_
              exact xx_iretN S hr hlk G (show 0 ≤ 369 by omega) (show 0 ≤ 5715 by omega) (by refine ⟨?_, ?_, ?_, rfl⟩ <;> simp [swI, swCC, xwD, swO, swG, imB, c_5, ij_m1, c_14, ij_q1, c_28, ij_c1, c_39, ij_n1, c_46, c_54]) dX0_sweep_59
    · refine lv_bipush (v := (-101)) hx hb dX0_sweep_17 (by decide) ?_
      exact xx_iretN S hr hlk G (show 0 ≤ 369 by omega) (show 0 ≤ 5715 by omega) (by refine ⟨?_, ?_, ?_, rfl⟩ <;> simp [swI, swCC, xwD, swO, swG, imB, c_5, ij_m1, c_14]) dX0_sweep_19
