set_option maxRecDepth 100000
set_option maxHeartbeats 4000000
theorem dX0_twin_0 : decode cX0_twin 0 = .ok (.new 51, 3) := by decide +kernel
theorem dX0_twin_3 : decode cX0_twin 3 = .ok (.dup, 1) := by decide +kernel
theorem dX0_twin_4 : decode cX0_twin 4 = .ok (.invokespecial 311, 3) := by decide +kernel
theorem dX0_twin_7 : decode cX0_twin 7 = .ok (.astore_n 1, 1) := by decide +kernel
theorem dX0_twin_8 : decode cX0_twin 8 = .ok (.aload_n 1, 1) := by decide +kernel
theorem dX0_twin_9 : decode cX0_twin 9 = .ok (.aload_n 0, 1) := by decide +kernel
theorem dX0_twin_10 : decode cX0_twin 10 = .ok (.getfield 91, 3) := by decide +kernel
theorem dX0_twin_13 : decode cX0_twin 13 = .ok (.putfield 91, 3) := by decide +kernel
theorem dX0_twin_16 : decode cX0_twin 16 = .ok (.aload_n 1, 1) := by decide +kernel
theorem dX0_twin_17 : decode cX0_twin 17 = .ok (.aload_n 0, 1) := by decide +kernel
theorem dX0_twin_18 : decode cX0_twin 18 = .ok (.getfield 174, 3) := by decide +kernel
theorem dX0_twin_21 : decode cX0_twin 21 = .ok (.putfield 174, 3) := by decide +kernel
theorem dX0_twin_24 : decode cX0_twin 24 = .ok (.aload_n 1, 1) := by decide +kernel
theorem dX0_twin_25 : decode cX0_twin 25 = .ok (.aload_n 0, 1) := by decide +kernel
theorem dX0_twin_26 : decode cX0_twin 26 = .ok (.getfield 59, 3) := by decide +kernel
theorem dX0_twin_29 : decode cX0_twin 29 = .ok (.putfield 59, 3) := by decide +kernel
theorem dX0_twin_32 : decode cX0_twin 32 = .ok (.iconst 0, 1) := by decide +kernel
theorem dX0_twin_33 : decode cX0_twin 33 = .ok (.istore_n 2, 1) := by decide +kernel
theorem dX0_twin_34 : decode cX0_twin 34 = .ok (.iload_n 2, 1) := by decide +kernel
theorem dX0_twin_35 : decode cX0_twin 35 = .ok (.aload_n 0, 1) := by decide +kernel
theorem dX0_twin_36 : decode cX0_twin 36 = .ok (.getfield 91, 3) := by decide +kernel
theorem dX0_twin_39 : decode cX0_twin 39 = .ok (.if_icmp .ge 112, 3) := by decide +kernel
theorem dX0_twin_42 : decode cX0_twin 42 = .ok (.aload_n 0, 1) := by decide +kernel
theorem dX0_twin_43 : decode cX0_twin 43 = .ok (.getfield 55, 3) := by decide +kernel
theorem dX0_twin_46 : decode cX0_twin 46 = .ok (.iload_n 2, 1) := by decide +kernel
theorem dX0_twin_47 : decode cX0_twin 47 = .ok (.aaload, 1) := by decide +kernel
theorem dX0_twin_48 : decode cX0_twin 48 = .ok (.astore_n 3, 1) := by decide +kernel
theorem dX0_twin_49 : decode cX0_twin 49 = .ok (.aload_n 3, 1) := by decide +kernel
theorem dX0_twin_50 : decode cX0_twin 50 = .ok (.getfield 151, 3) := by decide +kernel
theorem dX0_twin_53 : decode cX0_twin 53 = .ok (.aload_n 3, 1) := by decide +kernel
theorem dX0_twin_54 : decode cX0_twin 54 = .ok (.getfield 171, 3) := by decide +kernel
theorem dX0_twin_57 : decode cX0_twin 57 = .ok (.invokestatic 134, 3) := by decide +kernel
theorem dX0_twin_60 : decode cX0_twin 60 = .ok (.astore 4, 2) := by decide +kernel
theorem dX0_twin_62 : decode cX0_twin 62 = .ok (.aload 4, 2) := by decide +kernel
theorem dX0_twin_64 : decode cX0_twin 64 = .ok (.aload_n 3, 1) := by decide +kernel
theorem dX0_twin_65 : decode cX0_twin 65 = .ok (.getfield 167, 3) := by decide +kernel
theorem dX0_twin_68 : decode cX0_twin 68 = .ok (.putfield 167, 3) := by decide +kernel
theorem dX0_twin_71 : decode cX0_twin 71 = .ok (.aload_n 1, 1) := by decide +kernel
theorem dX0_twin_72 : decode cX0_twin 72 = .ok (.getfield 55, 3) := by decide +kernel
theorem dX0_twin_75 : decode cX0_twin 75 = .ok (.iload_n 2, 1) := by decide +kernel
theorem dX0_twin_76 : decode cX0_twin 76 = .ok (.aload 4, 2) := by decide +kernel
theorem dX0_twin_78 : decode cX0_twin 78 = .ok (.aastore, 1) := by decide +kernel
theorem dX0_twin_79 : decode cX0_twin 79 = .ok (.aload_n 3, 1) := by decide +kernel
theorem dX0_twin_80 : decode cX0_twin 80 = .ok (.getfield 151, 3) := by decide +kernel
theorem dX0_twin_83 : decode cX0_twin 83 = .ok (.bipush 7, 2) := by decide +kernel
theorem dX0_twin_85 : decode cX0_twin 85 = .ok (.if_icmp .ne 60, 3) := by decide +kernel
theorem dX0_twin_88 : decode cX0_twin 88 = .ok (.aload_n 3, 1) := by decide +kernel
theorem dX0_twin_89 : decode cX0_twin 89 = .ok (.checkcast 25, 3) := by decide +kernel
theorem dX0_twin_92 : decode cX0_twin 92 = .ok (.astore 5, 2) := by decide +kernel
theorem dX0_twin_94 : decode cX0_twin 94 = .ok (.aload 4, 2) := by decide +kernel
theorem dX0_twin_96 : decode cX0_twin 96 = .ok (.checkcast 25, 3) := by decide +kernel
theorem dX0_twin_99 : decode cX0_twin 99 = .ok (.astore 6, 2) := by decide +kernel
theorem dX0_twin_101 : decode cX0_twin 101 = .ok (.aload 6, 2) := by decide +kernel
theorem dX0_twin_103 : decode cX0_twin 103 = .ok (.aload 5, 2) := by decide +kernel
theorem dX0_twin_105 : decode cX0_twin 105 = .ok (.getfield 156, 3) := by decide +kernel
theorem dX0_twin_108 : decode cX0_twin 108 = .ok (.putfield 156, 3) := by decide +kernel
theorem dX0_twin_111 : decode cX0_twin 111 = .ok (.aload 5, 2) := by decide +kernel
theorem dX0_twin_113 : decode cX0_twin 113 = .ok (.getfield 157, 3) := by decide +kernel
theorem dX0_twin_116 : decode cX0_twin 116 = .ok (.iconst 0, 1) := by decide +kernel
theorem dX0_twin_117 : decode cX0_twin 117 = .ok (.aload 6, 2) := by decide +kernel
theorem dX0_twin_119 : decode cX0_twin 119 = .ok (.getfield 157, 3) := by decide +kernel
theorem dX0_twin_122 : decode cX0_twin 122 = .ok (.iconst 0, 1) := by decide +kernel
theorem dX0_twin_123 : decode cX0_twin 123 = .ok (.bipush 8, 2) := by decide +kernel
theorem dX0_twin_125 : decode cX0_twin 125 = .ok (.invokestatic 312, 3) := by decide +kernel
theorem dX0_twin_128 : decode cX0_twin 128 = .ok (.aload 5, 2) := by decide +kernel
theorem dX0_twin_130 : decode cX0_twin 130 = .ok (.getfield 160, 3) := by decide +kernel
theorem dX0_twin_133 : decode cX0_twin 133 = .ok (.iconst 0, 1) := by decide +kernel
theorem dX0_twin_134 : decode cX0_twin 134 = .ok (.aload 6, 2) := by decide +kernel
theorem dX0_twin_136 : decode cX0_twin 136 = .ok (.getfield 160, 3) := by decide +kernel
theorem dX0_twin_139 : decode cX0_twin 139 = .ok (.iconst 0, 1) := by decide +kernel
theorem dX0_twin_140 : decode cX0_twin 140 = .ok (.bipush 8, 2) := by decide +kernel
theorem dX0_twin_142 : decode cX0_twin 142 = .ok (.invokestatic 312, 3) := by decide +kernel
theorem dX0_twin_145 : decode cX0_twin 145 = .ok (.iinc 2 1, 3) := by decide +kernel
theorem dX0_twin_148 : decode cX0_twin 148 = .ok (.goto (-114), 3) := by decide +kernel
theorem dX0_twin_151 : decode cX0_twin 151 = .ok (.iconst 0, 1) := by decide +kernel
theorem dX0_twin_152 : decode cX0_twin 152 = .ok (.istore_n 2, 1) := by decide +kernel
theorem dX0_twin_153 : decode cX0_twin 153 = .ok (.iload_n 2, 1) := by decide +kernel
theorem dX0_twin_154 : decode cX0_twin 154 = .ok (.aload_n 0, 1) := by decide +kernel
theorem dX0_twin_155 : decode cX0_twin 155 = .ok (.getfield 91, 3) := by decide +kernel
theorem dX0_twin_158 : decode cX0_twin 158 = .ok (.if_icmp .ge 99, 3) := by decide +kernel
theorem dX0_twin_161 : decode cX0_twin 161 = .ok (.iconst 0, 1) := by decide +kernel
theorem dX0_twin_162 : decode cX0_twin 162 = .ok (.istore_n 3, 1) := by decide +kernel
theorem dX0_twin_163 : decode cX0_twin 163 = .ok (.iload_n 3, 1) := by decide +kernel
theorem dX0_twin_164 : decode cX0_twin 164 = .ok (.bipush 6, 2) := by decide +kernel
theorem dX0_twin_166 : decode cX0_twin 166 = .ok (.if_icmp .ge 85, 3) := by decide +kernel
theorem dX0_twin_169 : decode cX0_twin 169 = .ok (.aload_n 0, 1) := by decide +kernel
theorem dX0_twin_170 : decode cX0_twin 170 = .ok (.getfield 55, 3) := by decide +kernel
theorem dX0_twin_173 : decode cX0_twin 173 = .ok (.iload_n 2, 1) := by decide +kernel
theorem dX0_twin_174 : decode cX0_twin 174 = .ok (.aaload, 1) := by decide +kernel
theorem dX0_twin_175 : decode cX0_twin 175 = .ok (.getfield 145, 3) := by decide +kernel
theorem dX0_twin_178 : decode cX0_twin 178 = .ok (.iload_n 3, 1) := by decide +kernel
theorem dX0_twin_179 : decode cX0_twin 179 = .ok (.iaload, 1) := by decide +kernel
theorem dX0_twin_180 : decode cX0_twin 180 = .ok (.istore 4, 2) := by decide +kernel
theorem dX0_twin_182 : decode cX0_twin 182 = .ok (.aload_n 1, 1) := by decide +kernel
theorem dX0_twin_183 : decode cX0_twin 183 = .ok (.getfield 55, 3) := by decide +kernel
theorem dX0_twin_186 : decode cX0_twin 186 = .ok (.iload_n 2, 1) := by decide +kernel
theorem dX0_twin_187 : decode cX0_twin 187 = .ok (.aaload, 1) := by decide +kernel
theorem dX0_twin_188 : decode cX0_twin 188 = .ok (.getfield 145, 3) := by decide +kernel
theorem dX0_twin_191 : decode cX0_twin 191 = .ok (.iload_n 3, 1) := by decide +kernel
theorem dX0_twin_192 : decode cX0_twin 192 = .ok (.iload 4, 2) := by decide +kernel
theorem dX0_twin_194 : decode cX0_twin 194 = .ok (.iastore, 1) := by decide +kernel
theorem dX0_twin_195 : decode cX0_twin 195 = .ok (.aload_n 1, 1) := by decide +kernel
theorem dX0_twin_196 : decode cX0_twin 196 = .ok (.getfield 55, 3) := by decide +kernel
theorem dX0_twin_199 : decode cX0_twin 199 = .ok (.iload_n 2, 1) := by decide +kernel
theorem dX0_twin_200 : decode cX0_twin 200 = .ok (.aaload, 1) := by decide +kernel
theorem dX0_twin_201 : decode cX0_twin 201 = .ok (.getfield 142, 3) := by decide +kernel
theorem dX0_twin_204 : decode cX0_twin 204 = .ok (.iload_n 3, 1) := by decide +kernel
theorem dX0_twin_205 : decode cX0_twin 205 = .ok (.iload 4, 2) := by decide +kernel
theorem dX0_twin_207 : decode cX0_twin 207 = .ok (.iconst (-1), 1) := by decide +kernel
theorem dX0_twin_208 : decode cX0_twin 208 = .ok (.if_icmp .ne 7, 3) := by decide +kernel
theorem dX0_twin_211 : decode cX0_twin 211 = .ok (.aconst_null, 1) := by decide +kernel
theorem dX0_twin_212 : decode cX0_twin 212 = .ok (.goto 10, 3) := by decide +kernel
theorem dX0_twin_215 : decode cX0_twin 215 = .ok (.aload_n 1, 1) := by decide +kernel
theorem dX0_twin_216 : decode cX0_twin 216 = .ok (.getfield 55, 3) := by decide +kernel
theorem dX0_twin_219 : decode cX0_twin 219 = .ok (.iload 4, 2) := by decide +kernel
theorem dX0_twin_221 : decode cX0_twin 221 = .ok (.aaload, 1) := by decide +kernel
theorem dX0_twin_222 : decode cX0_twin 222 = .ok (.aastore, 1) := by decide +kernel
theorem dX0_twin_223 : decode cX0_twin 223 = .ok (.aload_n 1, 1) := by decide +kernel
theorem dX0_twin_224 : decode cX0_twin 224 = .ok (.getfield 55, 3) := by decide +kernel
theorem dX0_twin_227 : decode cX0_twin 227 = .ok (.iload_n 2, 1) := by decide +kernel
theorem dX0_twin_228 : decode cX0_twin 228 = .ok (.aaload, 1) := by decide +kernel
theorem dX0_twin_229 : decode cX0_twin 229 = .ok (.getfield 148, 3) := by decide +kernel
theorem dX0_twin_232 : decode cX0_twin 232 = .ok (.iload_n 3, 1) := by decide +kernel
theorem dX0_twin_233 : decode cX0_twin 233 = .ok (.aload_n 0, 1) := by decide +kernel
theorem dX0_twin_234 : decode cX0_twin 234 = .ok (.getfield 55, 3) := by decide +kernel
theorem dX0_twin_237 : decode cX0_twin 237 = .ok (.iload_n 2, 1) := by decide +kernel
theorem dX0_twin_238 : decode cX0_twin 238 = .ok (.aaload, 1) := by decide +kernel
theorem dX0_twin_239 : decode cX0_twin 239 = .ok (.getfield 148, 3) := by decide +kernel
theorem dX0_twin_242 : decode cX0_twin 242 = .ok (.iload_n 3, 1) := by decide +kernel
theorem dX0_twin_243 : decode cX0_twin 243 = .ok (.baload, 1) := by decide +kernel
theorem dX0_twin_244 : decode cX0_twin 244 = .ok (.bastore, 1) := by decide +kernel
theorem dX0_twin_245 : decode cX0_twin 245 = .ok (.iinc 3 1, 3) := by decide +kernel
theorem dX0_twin_248 : decode cX0_twin 248 = .ok (.goto (-85), 3) := by decide +kernel
theorem dX0_twin_251 : decode cX0_twin 251 = .ok (.iinc 2 1, 3) := by decide +kernel
theorem dX0_twin_254 : decode cX0_twin 254 = .ok (.goto (-101), 3) := by decide +kernel
theorem dX0_twin_257 : decode cX0_twin 257 = .ok (.aload_n 1, 1) := by decide +kernel
theorem dX0_twin_258 : decode cX0_twin 258 = .ok (.areturn, 1) := by decide +kernel
section TE3_
variable {p : Program} {l : Launch} {e : Env} {R : Room} {s : State} {m : MethodId} {args : Array Value} {below : List Frame} {meth : Method} {c : Code} {H : Heap} {locs : List Loc} {cells slots : Nat} {Q : State → Prop}
variable {cc : ByteArray} {pc nL : Nat} {ls : Array Slot} {rest st0 : List Value} {D : va_G} {dA : Nat → ClassId} {A : Nat → Prop} {own : String} {w : wr_F}
theorem w_cs {cells' slots' : Nat} {g : JFrame} (h1 : cells = cells') (h2 : slots = slots') (kk : W p l e R s m args below meth c H locs cells' slots' Q g) : W p l e R s m args below meth c H locs cells slots Q g := by subst h1; subst h2; exact kk
theorem ww_aald (S : CallFix p m c cc nL s args lw_all own) (G : wG D dA A w s H locs) {r a n : Nat} {f : Nat → Option Nat} (hr : r < 130) (hw : w r = some (a, e_Q (dA 5) n f)) {i : Nat} (hi : i < n) (hn : n < 2 ^ 31) {o : Option Nat} (hv : f i = o) (hdg : decode cc pc = .ok (.aaload, 1))
    (kk : W p l e R s m args below meth c H locs cells slots Q (F0 m (pc + 1) ls (va_rf o :: rest))) : W p l e R s m args below meth c H locs cells slots Q (F0 m pc ls (.int (nI i) :: .ref a :: rest)) := by
  obtain ⟨hx, hb, hml, hown, hts⟩ := S
  obtain ⟨hP, hK, hD, hS, hT⟩ := G
  obtain ⟨q0, h2, -⟩ := wr_pos (N := 130) hr hw
  refine va_aldq hx hb hK hP q0 5 h2 rfl (vp_in_nI hi hn) hdg ?_
  rw [nI_clamp (by omega), hv]; exact kk
theorem ww_put11 (S : CallFix p m c cc nL s args lw_all own) (G : wG D dA A w s H locs) {r a k : Nat} {fs : List Value} (hr : r < 130) (hw : w r = some (a, .inr (k + 2, fs))) (hk : k < 14) (hl : fs.length = kN k) (f : Nat) (hf : f < 11) {index : Nat} (hq : Cond.fieldLink own index RX2 (TX3 f).2.1 (TX3 f).2.2.1 ∈ lw_all) (h1 : (TX3 f).1 = RX2) (hfin : (TX3 f).2.2.2 = false) {v : Value} (hn : narrow (tyX3 f) v = v) (hfit : fits (tyX3 f) v = true) (hdg : decode cc pc = .ok (.putfield index, 3))
    (kk : ∀ (H1 : Heap) (locs1 : List Loc), wG D dA A (wr_s w r (a, .inr (k + 2, fs.set f v))) s H1 locs1 → W p l e R s m args below meth c H1 locs1 cells slots Q (F0 m (pc + 3) ls rest)) : W p l e R s m args below meth c H locs cells slots Q (F0 m pc ls (v :: .ref a :: rest)) := by
  have e := k_T k hk f hf
  have e2 := k_Ty k hk f hf
  exact ww_put (ref := RX2) S G hr hw hk hl f (Nat.lt_of_lt_of_le hf (k_11 _)) (by rw [e]; exact hq) (fun x h => by rw [e] at h ⊢; rw [h1] at h; exact h) (by rw [e]; exact hfin) (by rw [e2]; exact hn) (by rw [e2]; exact hfit) hdg kk
end TE3_
theorem qP_l (C : tp_C) (d : md_T) (j : xj_T) (v : Value) : ((xPs C d j).set 1 v).length = 17 := by rw [List.length_set, xPs_l]
theorem qP_0 (C : tp_C) (d : md_T) (j : xj_T) (v : Value) : ((xPs C d j).set 1 v)[0]? = some (.ref (jA j 1)) := by
  rw [List.getElem?_set_ne (by decide)]; exact xPs_at (by decide) rfl
theorem cmb_lo {w w' : wr_F} {N r : Nat} (h : r < 10) : cmb w w' N r = w r := by unfold cmb; rw [if_neg (by unfold xr; omega)]
theorem tE_ok {C : tp_C} (h : mOK C) {i k : Nat} : mOK (tE C i k) := by
  have t := tD_ok h (Nat.le_refl (cN C))
  refine ⟨t.1, t.2.1, fun m n q e => ?_, t.2.2.2⟩
  have e : (if m < i ∨ (m = i ∧ n < k) then cF C m n else none) = some q := e
  split at e
  · exact h.f e
  · cases e
theorem tw_7 {C : tp_C} {i : Nat} : cX (wB (nwC (tD C i) (cK C i) (cS C i)) (vf_upd (cB (nwC (tD C i) (cK C i) (cS C i))) i (cB C i))) i = dz_ ∧ cY (wB (nwC (tD C i) (cK C i) (cS C i)) (vf_upd (cB (nwC (tD C i) (cK C i) (cS C i))) i (cB C i))) i = dz_ := ⟨if_neg (Nat.lt_irrefl _), if_neg (Nat.lt_irrefl _)⟩
theorem nmj_A (ad : Nat → Nat) (r : Nat) : jA (nmj ad) r = ad r := rfl
theorem tE_up {C : tp_C} (i k : Nat) : wT (wF (tE C i k) (up2 (cF (tE C i k)) i k (cF C i k))) (up2 (cT (wF (tE C i k) (up2 (cF (tE C i k)) i k (cF C i k)))) i k (cT C i k)) = tE C i (k + 1) := by
  have e1 := cdI_up none (cF C) i k
  have e2 := cdI_up false (cT C) i k
  show wT (wF (wT (wF (tD C (cN C)) (cdI none (cF C) i k)) (cdI false (cT C) i k)) (up2 (cdI none (cF C) i k) i k (cF C i k))) (up2 (cdI false (cT C) i k) i k (cT C i k)) = _
  rw [e1, e2]; rfl
theorem tE_nx {C : tp_C} (he : fdE C) (i : Nat) : tE C i 6 = tE C (i + 1) 0 := by
  unfold tE
  rw [cdI_nx (fun n hn => (he.2.1 i n hn).1), cdI_nx (fun n hn => (he.2.1 i n hn).2)]
theorem hc_X0_init : yX0_init.cls ≠ "java/lang/invoke/MethodHandle" ∧ yX0_init.cls ≠ "java/lang/invoke/VarHandle" ∧ (parseMethodDescriptor yX0_init.desc).map (fun d => d.parameters.length) = some 0 := by decide +kernel
theorem tt_X0_twin (l : Launch) (D : va_G) (dA : Nat → ClassId) (C : tp_C) (d : md_T) (j : xj_T) (hC : mOK C) (hfC : fdC C) (hfE : fdE C) : tN l D dA yX0_twin cX0_twin 7 (some (.object "TwinPanel")) 5 129 1875 [.ref (jA j 0)] C d j (fun o w' => ∃ ad : Nat → Nat, o = some (.ref (ad 0)) ∧ w' = xW dA (twC C) nmd (nmj ad)) := by
  refine tt_start (own := RX0) (by decide) rfl (Nat.le_of_ble_eq_true rfl) ?_
  intro p0 e0 s0 mid bl0 me0 co0 ls S hr hlk hI hT G hl
  have hx := S.1; have hb := S.2.1; have hml := S.2.2.1; have hown := S.2.2.2.1; have hts := S.2.2.2.2; have hN := hC.n
  have hA : ∀ q, s0.heap.size ≤ q → fr_ s0.heap.size q := fun q h => h
  have hl : lv_has ls 7 [(0, .ref (jA j 0))] := hl
  have lp1 : ∀ (a n_ i : Nat) (ad : Nat → Nat), i ≤ cN C → cN C < i + n_ → ad 0 = a → ∀ (H : Heap) (locs : List Loc) (ls : Array Slot), wG D dA (fr_ s0.heap.size) (qW dA (cN C) (tD C i) nmd (nmj ad)) s0 H locs → lv_has ls 7 [(2, .int (nI i)), (1, .ref a), (0, .ref (jA j 0))] → (∀ (ad : Nat → Nat) (H : Heap) (locs : List Loc) (ls : Array Slot), ad 0 = a → wG D dA (fr_ s0.heap.size) (qW dA (cN C) (tD C (cN C)) nmd (nmj ad)) s0 H locs → lv_has ls 7 [(2, .int (nI (cN C))), (1, .ref a), (0, .ref (jA j 0))] → W p0 l e0 (rmN 5 129 1875) s0 mid ([.ref (jA j 0)] : List Value).toArray bl0 me0 co0 H locs (9 + 6 * cN C) (835 + 52 * cN C) (MQ bl0 (tQ D dA s0.heap.size (fun o w' => ∃ ad : Nat → Nat, o = some (.ref (ad 0)) ∧ w' = xW dA (twC C) nmd (nmj ad))) ([.ref (jA j 0)] : List Value).toArray s0 129 1875 (fr_ s0.heap.size)) (F0 mid 151 ls [])) → W p0 l e0 (rmN 5 129 1875) s0 mid ([.ref (jA j 0)] : List Value).toArray bl0 me0 co0 H locs (9 + 6 * i) (835 + 52 * i) (MQ bl0 (tQ D dA s0.heap.size (fun o w' => ∃ ad : Nat → Nat, o = some (.ref (ad 0)) ∧ w' = xW dA (twC C) nmd (nmj ad))) ([.ref (jA j 0)] : List Value).toArray s0 129 1875 (fr_ s0.heap.size)) (F0 mid 34 ls []) := by
    intro a n_
    induction n_ with
    | zero => intro i ad h1_ h2_; exact absurd h2_ (by omega)
    | succ n_ ih =>
      intro i ad h1_ h2_ ha H locs ls G hl kk
      have j145 : ∀ (ad2 : Nat → Nat) (H : Heap) (locs : List Loc) (ls : Array Slot), ad2 0 = a → wG D dA (fr_ s0.heap.size) (qW dA (cN C) (tD C (i + 1)) nmd (nmj ad2)) s0 H locs → lv_has ls 7 [(2, .int (nI i)), (1, .ref a), (0, .ref (jA j 0))] → i < cN C → W p0 l e0 (rmN 5 129 1875) s0 mid ([.ref (jA j 0)] : List Value).toArray bl0 me0 co0 H locs (9 + 6 * (i + 1)) (835 + 52 * (i + 1)) (MQ bl0 (tQ D dA s0.heap.size (fun o w' => ∃ ad : Nat → Nat, o = some (.ref (ad 0)) ∧ w' = xW dA (twC C) nmd (nmj ad))) ([.ref (jA j 0)] : List Value).toArray s0 129 1875 (fr_ s0.heap.size)) (F0 mid 145 ls []) := by
        intro ad2 H locs ls ha G hl hi
        refine lv_iinc (v := nI (i + 1)) (lv' := [(2, .int (nI (i + 1))), (1, .ref a), (0, .ref (jA j 0))]) hx hb dX0_twin_145 hl (k := 0) rfl (nI_1 _) (by decide) rfl (fun ls hl => ?_)
        refine lv_goto (tgt := 34) hx hb dX0_twin_148 (by decide) ?_
        exact ih (i + 1) ad2 (by omega) (by omega) ha H locs ls G hl kk
      refine lv_iload_n hx hb dX0_twin_34 rfl (lv_at hl 0 rfl) ?_
      refine lv_aload_n hx hb dX0_twin_35 rfl (lv_at hl 2 rfl) ?_
      refine xx_getP S (tw_x hI hT G) 1 (by decide) q90 rfl (v := .int (nI (cN C))) rfl dX0_twin_36 ?_
      refine nn_cge (tgt := 151) hx hb (by omega) (by omega) dX0_twin_39 (by decide) (fun c_39 => ?_) (fun c_39 => ?_)
      · have hiN : i = cN C := by omega
        subst hiN
        exact kk ad H locs ls ha G (lv_sub hl [0, 1, 2] rfl)
      · refine lv_aload_n hx hb dX0_twin_42 rfl (lv_at hl 2 rfl) ?_
        refine xx_getP S (tw_x hI hT G) 0 (by decide) q89 rfl (v := .ref (jA j 1)) rfl dX0_twin_43 ?_
        refine lv_iload_n hx hb dX0_twin_46 rfl (lv_at hl 0 rfl) ?_
        refine xx_aald S (tw_x hI hT G) (r := 1) (by decide) (xW_p (by decide) rfl) (i := i) (by omega) (by decide) (o := some (jA j (xr i 0))) (if_pos (by omega)) dX0_twin_47 ?_
        refine W.eq (g2 := F0 mid 48 ls [.ref (jA j (xr i 0))]) rfl ?_
        refine lv_astore_n (lv' := [(3, .ref (jA j (xr i 0))), (2, .int (nI i)), (1, .ref a), (0, .ref (jA j 0))]) hx hb dX0_twin_48 rfl hl (by decide) rfl (fun ls hl => ?_)
        refine lv_aload_n hx hb dX0_twin_49 rfl (lv_at hl 0 rfl) ?_
        refine xx_get11 S (tw_x hI hT G) (mm := i) (by omega) hN (hC.k _) 0 (by decide) q203 rfl (v := .int (nI (cK C i))) rfl dX0_twin_50 ?_
        refine lv_aload_n hx hb dX0_twin_53 rfl (lv_at hl 0 rfl) ?_
        refine xx_get11 S (tw_x hI hT G) (mm := i) (by omega) hN (hC.k _) 1 (by decide) q213 rfl (v := .double (cS C i)) rfl dX0_twin_54 ?_
        have hi : i < cN C := by omega
        have hi20 : i < 20 := by omega
        have hk14 := hC.k i
        refine ww_callSN (As := [.int (nI (cK C i)), .double (cS C i)]) (rest := []) S G hA (ct_X0_newModule l D dA (cK C i) (cS C i) hk14) q189 q190 q52 q191 hd_X0_newModule ⟨Nat.le_of_ble_eq_true rfl, Nat.le_of_ble_eq_true rfl⟩ rfl hl.1 rfl (Nat.le_of_ble_eq_true rfl) dX0_twin_57 ⟨(show 9 + 6 * i + 6 ≤ 129 by omega), (show 835 + 52 * i + 52 ≤ 1875 by omega)⟩ (fun o_ w_ H locs hp G G1 hlt hge => ?_)
        obtain ⟨ad1, rfl, rfl⟩ := hp
        have G := cmb_G hi20 G G1 hlt hge
        refine w_cs (cells' := 9 + 6 * (i + 1)) (slots' := 835 + 52 * (i + 1)) (by omega) (by omega) ?_
        refine W.eq (g2 := F0 mid 60 ls [.ref (ad1 10)]) rfl ?_
        refine lv_astore (lv' := [(4, .ref (ad1 10)), (3, .ref (jA j (xr i 0))), (2, .int (nI i)), (1, .ref a), (0, .ref (jA j 0))]) hx hb dX0_twin_60 hl (by decide) rfl (fun ls hl => ?_)
        refine lv_aload hx hb dX0_twin_62 (lv_at hl 0 rfl) ?_
        refine lv_aload_n hx hb dX0_twin_64 rfl (lv_at hl 1 rfl) ?_
        refine xx_get11 S (tw_x hI hT G) (mm := i) (by omega) hN (hC.k _) 2 (by decide) q218 rfl (v := .double (cB C i)) rfl dX0_twin_65 ?_
        refine ww_put11 S G (r := xr i 0) (xr_lt (by decide) hi20) cmb_N hk14 (xFs_len _ _ _ _) 2 (by decide) q218 rfl rfl rfl rfl dX0_twin_68 (fun H locs G => ?_)
        refine lv_aload_n hx hb dX0_twin_71 rfl (lv_at hl 3 rfl) ?_
        rw [← ha]
        refine oo_get S G (ci := 0) (Cl := RX0) (T := TX0) (N := 17) rfl in_X0 (r := 0) (a := ad 0) (by decide) ((wr_s_ne (Ne.symm (by unfold xr; omega))).trans ((cmb_lo (by decide)).trans qW_0)) 0 (by decide) (ref := RX0) q89 (fun x h => h) (v := .ref (ad 1)) (qP_0 _ _ _ _) dX0_twin_72 ?_
        refine lv_iload_n hx hb dX0_twin_75 rfl (lv_at hl 2 rfl) ?_
        refine lv_aload hx hb dX0_twin_76 (lv_at hl 0 rfl) ?_
        refine ww_aast S G (r := 1) (by decide) ((wr_s_ne (Ne.symm (by unfold xr; omega))).trans ((cmb_lo (by decide)).trans ((qW_ne (by decide)).trans (xW_p (by decide) rfl)))) (rv := xr i 0) (xr_lt (by decide) hi20) wr_s_self hk14 (i := i) hi20 (by decide) dX0_twin_78 (fun H locs G => ?_)
        have G : wG D dA (fr_ s0.heap.size) (qW dA (cN C) (wB (nwC (tD C i) (cK C i) (cS C i)) (vf_upd (cB (nwC (tD C i) (cK C i) (cS C i))) i (cB C i))) nmd (nwJ (nmj ad) i ad1)) s0 H locs := wG_e (tw_new (C0 := tD C i) (j := nmj ad) (tD_ok hC (Nat.le_of_lt hi)) (tD_fd C i) hk14 hi20) G
        rw [nwJ_nm] at G
        have ha2 : (fun r => if xr i 0 ≤ r ∧ r < xr i 0 + 6 then ad1 (r - 6 * i) else ad r) 0 = a := by show (if _ then _ else _) = _; rw [if_neg (by unfold xr; omega)]; exact ha
        have hxo : ∀ z, z < 6 → (fun r => if xr i 0 ≤ r ∧ r < xr i 0 + 6 then ad1 (r - 6 * i) else ad r) (xr i z) = ad1 (10 + z) := fun z hz => by show (if _ then _ else _) = _; rw [if_pos (by unfold xr; omega)]; congr 1; unfold xr; omega
        have hl : lv_has ls 7 [(4, .ref ((fun r => if xr i 0 ≤ r ∧ r < xr i 0 + 6 then ad1 (r - 6 * i) else ad r) (xr i 0))), (3, .ref (jA j (xr i 0))), (2, .int (nI i)), (1, .ref a), (0, .ref (jA j 0))] := by rw [hxo 0 (by decide)]; exact hl
        generalize (fun r => if xr i 0 ≤ r ∧ r < xr i 0 + 6 then ad1 (r - 6 * i) else ad r) = ad2 at G ha2 hl
        refine lv_aload_n hx hb dX0_twin_79 rfl (lv_at hl 1 rfl) ?_
        refine xx_get11 S (tw_x hI hT G) (mm := i) (by omega) hN (hC.k _) 0 (by decide) q203 rfl (v := .int (nI (cK C i))) rfl dX0_twin_80 ?_
        refine lv_bipush (v := nI 7) hx hb dX0_twin_83 (by decide) ?_
        refine nn_cne (tgt := 145) hx hb (by omega) (by omega) dX0_twin_85 (by decide) (fun c_85 => ?_) (fun c_85 => ?_)
        · rw [tD_s (fun h => ⟨(hfE.2.2.2 i h).1, (hfE.2.2.2 i h).2⟩) (by omega)] at G
          exact j145 ad2 H locs ls ha2 G (lv_sub hl [2, 3, 4] rfl) hi
        · have h7 : cK C i = 7 := by omega
          obtain ⟨z7x, z7y⟩ := tw_7 (C := C) (i := i)
          have k1 : cK (wB (nwC (tD C i) (cK C i) (cS C i)) (vf_upd (cB (nwC (tD C i) (cK C i) (cS C i))) i (cB C i))) i = 7 := (vf_at _ _ _).trans h7
          have n1 : i < cN (wB (nwC (tD C i) (cK C i) (cS C i)) (vf_upd (cB (nwC (tD C i) (cK C i) (cS C i))) i (cB C i))) := Nat.lt_succ_self _
          generalize hC1 : wB (nwC (tD C i) (cK C i) (cS C i)) (vf_upd (cB (nwC (tD C i) (cK C i) (cS C i))) i (cB C i)) = C1 at G z7x z7y k1 n1
          have x10 : xr i 0 ≠ 0 := by unfold xr; omega
          refine lv_aload_n hx hb dX0_twin_88 rfl (lv_at hl 1 rfl) ?_
          refine xx_cast S (tw_x hI hT G) (mm := i) (by omega) hN (hC.k _) (by rw [h7]; exact q414) dX0_twin_89 ?_
          refine lv_astore (lv' := [(5, .ref (jA j (xr i 0))), (4, .ref (ad2 (xr i 0))), (3, .ref (jA j (xr i 0))), (2, .int (nI i)), (1, .ref a), (0, .ref (jA j 0))]) hx hb dX0_twin_92 hl (by decide) rfl (fun ls hl => ?_)
          refine lv_aload hx hb dX0_twin_94 (lv_at hl 1 rfl) ?_
          refine ww_cast S G (r := xr i 0) (xr_lt (by decide) hi20) ((qW_ne x10).trans (xW_m (C := C1) (d := nmd) (j := nmj ad2) (m := i) (i := 0) (by decide) n1 rfl)) (k := cK C1 i) (by rw [k1]; decide) (by rw [k1]; exact q414) dX0_twin_96 ?_
          refine lv_astore (lv' := [(6, .ref (ad2 (xr i 0))), (5, .ref (jA j (xr i 0))), (4, .ref (ad2 (xr i 0))), (3, .ref (jA j (xr i 0))), (2, .int (nI i)), (1, .ref a), (0, .ref (jA j 0))]) hx hb dX0_twin_99 hl (by decide) rfl (fun ls hl => ?_)
          refine lv_aload hx hb dX0_twin_101 (lv_at hl 0 rfl) ?_
          refine lv_aload hx hb dX0_twin_103 (lv_at hl 1 rfl) ?_
          refine xx_getM S (tw_x hI hT G) (mm := i) (ref := "TwinPanel$Table") (by omega) hN (hC.k _) 13 (by rw [h7]; decide) (by rw [h7]; exact hts _ q425) (by rw [h7]; exact fun x h => h) (v := .int (nI (cP C i))) (xV_7_13 h7) dX0_twin_105 ?_
          refine ww_put (ref := RX11) S G (r := xr i 0) (xr_lt (by decide) hi20) ((qW_ne x10).trans (xW_m (C := C1) (d := nmd) (j := nmj ad2) (m := i) (i := 0) (by decide) n1 rfl)) (k := cK C1 i) (by rw [k1]; decide) (xFs_len _ _ _ _) 13 (by rw [k1]; decide) (by rw [k1]; exact q425) (by rw [k1]; exact fun x h => h) (by rw [k1]; rfl) (v := .int (nI (cP C i))) (by rw [k1]; rfl) (by rw [k1]; rfl) dX0_twin_108 (fun H locs G => ?_)
          have G : wG D dA (fr_ s0.heap.size) (qW dA (cN C) (wP C1 (vf_upd (cP C1) i (cP C i))) nmd (nmj ad2)) s0 H locs := by rw [← qW_s x10 (xs_many k1 n1) rfl]; exact G
          have k2 : cK (wP C1 (vf_upd (cP C1) i (cP C i))) i = 7 := k1
          have z2x : cX (wP C1 (vf_upd (cP C1) i (cP C i))) i = dz_ := z7x
          have z2y : cY (wP C1 (vf_upd (cP C1) i (cP C i))) i = dz_ := z7y
          have n2 : i < cN (wP C1 (vf_upd (cP C1) i (cP C i))) := n1
          generalize hC2 : wP C1 (vf_upd (cP C1) i (cP C i)) = C2 at G k2 z2x z2y n2
          refine lv_aload hx hb dX0_twin_111 (lv_at hl 1 rfl) ?_
          refine xx_getM S (tw_x hI hT G) (mm := i) (ref := "TwinPanel$Table") (by omega) hN (hC.k _) 11 (by rw [h7]; decide) (by rw [h7]; exact hts _ q421) (by rw [h7]; exact fun x h => h) (v := .ref (jA j (xr i 4))) (xV_7_11 h7) dX0_twin_113 ?_
          refine lv_iconst (v := nI 0) hx hb dX0_twin_116 (by decide) ?_
          refine lv_aload hx hb dX0_twin_117 (lv_at hl 0 rfl) ?_
          have w0 : (qW dA (cN C) C2 nmd (nmj ad2)) (xr i 0) = some (ad2 (xr i 0), .inr (7 + 2, xFs C2 nmd (nmj ad2) i)) := by rw [qW_ne x10, xW_m (C := C2) (d := nmd) (j := nmj ad2) (m := i) (i := 0) (by decide) n2 rfl, k2]; rfl
          refine oo_get S G (ci := 7 + 2) (Cl := kC 7) (T := kT 7) (N := kN 7) (k_cl (by decide)) (k_in (by decide)) (r := xr i 0) (xr_lt (by decide) hi20) w0 11 (by decide) (ref := RX11) q421 (fun x h => h) (v := .ref (ad2 (xr i 4))) (xFs_at (by rw [k2]; decide) (xV_7_11 k2)) dX0_twin_119 ?_
          refine lv_iconst (v := nI 0) hx hb dX0_twin_122 (by decide) ?_
          refine lv_bipush (v := nI 8) hx hb dX0_twin_123 (by decide) ?_
          have wq : (qW dA (cN C) C2 nmd (nmj ad2)) (xr i 4) = some (ad2 (xr i 4), e_D (dA 2) 8 (cX C2 i)) := (qW_ne (by unfold xr; omega)).trans (xW_m (C := C2) (d := nmd) (j := nmj ad2) (m := i) (i := 4) (by decide) n2 (xME_7_4 k2))
          refine tw_copyd (rest := []) S G (tw_c (tw_x hI hT G) (r := xr i 4) (xr_lt (by decide) hi20) (xW_m (C := C) (d := d) (j := j) (m := i) (i := 4) (by decide) hi (xME_7_4 h7))) (xr_lt (by decide) hi20) wq q1225 q1118 q1117 q77 rfl rfl rfl (by decide) hl.1 (Nat.le_of_ble_eq_true rfl) (Nat.le_of_ble_eq_true rfl) dX0_twin_125 (fun H locs G => ?_)
          rw [z2x, cpy8 (fun k hk => (hfE.2.2.1 i k hk).1)] at G
          have G : wG D dA (fr_ s0.heap.size) (qW dA (cN C) (wX C2 (vf_upd (cX C2) i (cX C i))) nmd (nmj ad2)) s0 H locs := by rw [← qW_s (by unfold xr; omega) (xs_txA k2 n2) rfl]; exact G
          have k3 : cK (wX C2 (vf_upd (cX C2) i (cX C i))) i = 7 := k2
          have z3y : cY (wX C2 (vf_upd (cX C2) i (cX C i))) i = dz_ := z2y
          have n3 : i < cN (wX C2 (vf_upd (cX C2) i (cX C i))) := n2
          generalize hC3 : wX C2 (vf_upd (cX C2) i (cX C i)) = C3 at G k3 z3y n3
          refine lv_aload hx hb dX0_twin_128 (lv_at hl 1 rfl) ?_
          refine xx_getM S (tw_x hI hT G) (mm := i) (ref := "TwinPanel$Table") (by omega) hN (hC.k _) 12 (by rw [h7]; decide) (by rw [h7]; exact hts _ q423) (by rw [h7]; exact fun x h => h) (v := .ref (jA j (xr i 5))) (xV_7_12 h7) dX0_twin_130 ?_
          refine lv_iconst (v := nI 0) hx hb dX0_twin_133 (by decide) ?_
          refine lv_aload hx hb dX0_twin_134 (lv_at hl 0 rfl) ?_
          have w0 : (qW dA (cN C) C3 nmd (nmj ad2)) (xr i 0) = some (ad2 (xr i 0), .inr (7 + 2, xFs C3 nmd (nmj ad2) i)) := by rw [qW_ne x10, xW_m (C := C3) (d := nmd) (j := nmj ad2) (m := i) (i := 0) (by decide) n3 rfl, k3]; rfl
          refine oo_get S G (ci := 7 + 2) (Cl := kC 7) (T := kT 7) (N := kN 7) (k_cl (by decide)) (k_in (by decide)) (r := xr i 0) (xr_lt (by decide) hi20) w0 12 (by decide) (ref := RX11) q423 (fun x h => h) (v := .ref (ad2 (xr i 5))) (xFs_at (by rw [k3]; decide) (xV_7_12 k3)) dX0_twin_136 ?_
          refine lv_iconst (v := nI 0) hx hb dX0_twin_139 (by decide) ?_
          refine lv_bipush (v := nI 8) hx hb dX0_twin_140 (by decide) ?_
          have wq : (qW dA (cN C) C3 nmd (nmj ad2)) (xr i 5) = some (ad2 (xr i 5), e_D (dA 2) 8 (cY C3 i)) := (qW_ne (by unfold xr; omega)).trans (xW_m (C := C3) (d := nmd) (j := nmj ad2) (m := i) (i := 5) (by decide) n3 (xME_7_5 k3))
          refine tw_copyd (rest := []) S G (tw_c (tw_x hI hT G) (r := xr i 5) (xr_lt (by decide) hi20) (xW_m (C := C) (d := d) (j := j) (m := i) (i := 5) (by decide) hi (xME_7_5 h7))) (xr_lt (by decide) hi20) wq q1225 q1118 q1117 q77 rfl rfl rfl (by decide) hl.1 (Nat.le_of_ble_eq_true rfl) (Nat.le_of_ble_eq_true rfl) dX0_twin_142 (fun H locs G => ?_)
          rw [z3y, cpy8 (fun k hk => (hfE.2.2.1 i k hk).2)] at G
          have G : wG D dA (fr_ s0.heap.size) (qW dA (cN C) (wY C3 (vf_upd (cY C3) i (cY C i))) nmd (nmj ad2)) s0 H locs := by rw [← qW_s (by unfold xr; omega) (xs_tyA k3 n3) rfl]; exact G
          rw [tD_7 rfl rfl hC1.symm hC2.symm hC3.symm] at G
          exact j145 ad2 H locs ls ha2 G (lv_sub hl [4, 5, 6] rfl) hi
  have lp3 : ∀ (jp : xj_T) (i : Nat), i < cN C → ∀ (n_ k : Nat), k ≤ 6 → 6 < k + n_ → ∀ (H : Heap) (locs : List Loc) (ls : Array Slot), xG D dA (fr_ s0.heap.size) (tE C i k) nmd jp s0 H locs → lv_has ls 7 [(3, .int (nI k)), (2, .int (nI i)), (1, .ref (jA jp 0)), (0, .ref (jA j 0))] → (∀ (H : Heap) (locs : List Loc) (ls : Array Slot), xG D dA (fr_ s0.heap.size) (tE C i 6) nmd jp s0 H locs → lv_has ls 7 [(3, .int (nI 6)), (2, .int (nI i)), (1, .ref (jA jp 0)), (0, .ref (jA j 0))] → W p0 l e0 (rmN 5 129 1875) s0 mid ([.ref (jA j 0)] : List Value).toArray bl0 me0 co0 H locs (9 + 6 * cN C) (835 + 52 * cN C) (MQ bl0 (tQ D dA s0.heap.size (fun o w' => ∃ ad : Nat → Nat, o = some (.ref (ad 0)) ∧ w' = xW dA (twC C) nmd (nmj ad))) ([.ref (jA j 0)] : List Value).toArray s0 129 1875 (fr_ s0.heap.size)) (F0 mid 251 ls [])) → W p0 l e0 (rmN 5 129 1875) s0 mid ([.ref (jA j 0)] : List Value).toArray bl0 me0 co0 H locs (9 + 6 * cN C) (835 + 52 * cN C) (MQ bl0 (tQ D dA s0.heap.size (fun o w' => ∃ ad : Nat → Nat, o = some (.ref (ad 0)) ∧ w' = xW dA (twC C) nmd (nmj ad))) ([.ref (jA j 0)] : List Value).toArray s0 129 1875 (fr_ s0.heap.size)) (F0 mid 163 ls []) := by
    intro jp i hi n_
    induction n_ with
    | zero => intro k h1_ h2_; exact absurd h2_ (by omega)
    | succ n_ ih =>
      intro k h1_ h2_ H locs ls G hl kk
      have hC2 : mOK (tE C i k) := tE_ok hC
      have hiN2 : i < cN (tE C i k) := hi
      have hi20 : i < 20 := by omega
      have x20 : xr i 2 ≠ 0 := by unfold xr; omega
      refine lv_iload_n hx hb dX0_twin_163 rfl (lv_at hl 0 rfl) ?_
      refine lv_bipush (v := nI 6) hx hb dX0_twin_164 (by decide) ?_
      refine nn_cge (tgt := 251) hx hb (by omega) (by omega) dX0_twin_166 (by decide) (fun c_166 => ?_) (fun c_166 => ?_)
      · have hk6 : k = 6 := by omega
        subst hk6
        exact kk H locs ls G (lv_sub hl [0, 1, 2, 3] rfl)
      · refine lv_aload_n hx hb dX0_twin_169 rfl (lv_at hl 3 rfl) ?_
        refine xx_getP S (tw_x hI hT G) 0 (by decide) q89 rfl (v := .ref (jA j 1)) rfl dX0_twin_170 ?_
        refine lv_iload_n hx hb dX0_twin_173 rfl (lv_at hl 1 rfl) ?_
        refine xx_aald S (tw_x hI hT G) (r := 1) (by decide) (xW_p (by decide) rfl) (i := i) (by omega) (by decide) (o := some (jA j (xr i 0))) (if_pos hi) dX0_twin_174 ?_
        refine W.eq (g2 := F0 mid 175 ls [.ref (jA j (xr i 0))]) rfl ?_
        refine xx_get11 S (tw_x hI hT G) (mm := i) hi hN (hC.k _) 4 (by decide) q222 rfl (v := .ref (jA j (xr i 2))) rfl dX0_twin_175 ?_
        refine lv_iload_n hx hb dX0_twin_178 rfl (lv_at hl 0 rfl) ?_
        refine xx_iald S (tw_x hI hT G) (r := xr i 2) (xr_lt (by decide) (Nat.lt_of_lt_of_le hi hN)) (xW_m (by decide) hi rfl) 0 rfl (i := k) (by omega) (by decide) (v := oI (cF C i k)) rfl dX0_twin_179 ?_
        refine lv_istore (lv' := [(4, .int (oI (cF C i k))), (3, .int (nI k)), (2, .int (nI i)), (1, .ref (jA jp 0)), (0, .ref (jA j 0))]) hx hb dX0_twin_180 hl (by decide) rfl (fun ls hl => ?_)
        refine lv_aload_n hx hb dX0_twin_182 rfl (lv_at hl 3 rfl) ?_
        refine xx_getP (j := jp) S G 0 (by decide) q89 rfl (v := .ref (jA jp 1)) rfl dX0_twin_183 ?_
        refine lv_iload_n hx hb dX0_twin_186 rfl (lv_at hl 2 rfl) ?_
        refine xx_aald (j := jp) S G (r := 1) (by decide) (xW_p (by decide) rfl) (i := i) (by omega) (by decide) (o := some (jA jp (xr i 0))) (if_pos hi) dX0_twin_187 ?_
        refine W.eq (g2 := F0 mid 188 ls [.ref (jA jp (xr i 0))]) rfl ?_
        refine xx_get11 (j := jp) S G (mm := i) hi hN (hC2.k _) 4 (by decide) q222 rfl (v := .ref (jA jp (xr i 2))) rfl dX0_twin_188 ?_
        refine lv_iload_n hx hb dX0_twin_191 rfl (lv_at hl 1 rfl) ?_
        refine lv_iload hx hb dX0_twin_192 (lv_at hl 0 rfl) ?_
        refine ww_iast S (xG_w G) (r := xr i 2) (xr_lt (by decide) hi20) (xW_m (by decide) hiN2 rfl) 0 rfl (i := k) (by omega) (by decide) dX0_twin_194 (fun H locs G => ?_)
        refine lv_aload_n hx hb dX0_twin_195 rfl (lv_at hl 3 rfl) ?_
        refine oo_get S G (ci := 0) (Cl := RX0) (T := TX0) (N := 17) rfl in_X0 (r := 0) (by decide) ((wr_s_ne (Ne.symm x20)).trans (xW_p (by decide) rfl)) 0 (by decide) (ref := RX0) q89 (fun x h => h) (v := .ref (jA jp 1)) (xPs_at (by decide) rfl) dX0_twin_196 ?_
        refine lv_iload_n hx hb dX0_twin_199 rfl (lv_at hl 2 rfl) ?_
        refine ww_aald S G (r := 1) (by decide) ((wr_s_ne (Ne.symm (by unfold xr; omega))).trans (xW_p (by decide) rfl)) (i := i) (by omega) (by decide) (o := some (jA jp (xr i 0))) (if_pos hiN2) dX0_twin_200 ?_
        refine W.eq (g2 := F0 mid 201 ls [.ref (jA jp (xr i 0))]) rfl ?_
        refine ww_get S G (r := xr i 0) (xr_lt (by decide) hi20) (by rw [wr_s_ne (xr_ne (by decide))]; exact xW_m (by decide) hiN2 rfl) (hC2.k i) 3 (by decide) q220 rfl (v := .ref (jA jp (xr i 1))) (xFs_at (Nat.lt_of_lt_of_le (by decide) (k_11 _)) rfl) dX0_twin_201 ?_
        refine lv_iload_n hx hb dX0_twin_204 rfl (lv_at hl 1 rfl) ?_
        refine lv_iload hx hb dX0_twin_205 (lv_at hl 0 rfl) ?_
        refine lv_iconst (v := (-1)) hx hb dX0_twin_207 (by decide) ?_
        rcases ho : cF C i k with _ | o
        · rw [ho] at hl G
          refine lv_icmp_ne (tgt := 215) hx hb dX0_twin_208 (by decide) (fun c_ => absurd rfl c_) (fun _ => ?_)
          refine lv_null hx hb dX0_twin_211 ?_
          refine lv_goto (tgt := 222) hx hb dX0_twin_212 (by decide) ?_
          refine ww_aastN S G (r := xr i 1) (xr_lt (by decide) hi20) ((wr_s_ne (xr_ne (by decide))).trans (xW_m (by decide) hiN2 rfl)) (i := k) (by omega) (by decide) dX0_twin_222 (fun H locs G => ?_)
          have G : xG D dA (fr_ s0.heap.size) (wF (tE C i k) (up2 (cF (tE C i k)) i k (cF C i k))) nmd jp s0 H locs := by rw [ho]; rw [wr_cm (xr_ne (by decide))] at G; exact wG_x (xs_cord (o := none) hiN2) G
          refine lv_aload_n hx hb dX0_twin_223 rfl (lv_at hl 3 rfl) ?_
          refine xx_getP (j := jp) S G 0 (by decide) q89 rfl (v := .ref (jA jp 1)) rfl dX0_twin_224 ?_
          refine lv_iload_n hx hb dX0_twin_227 rfl (lv_at hl 2 rfl) ?_
          refine xx_aald (j := jp) S G (r := 1) (by decide) (xW_p (by decide) rfl) (i := i) (by omega) (by decide) (o := some (jA jp (xr i 0))) (if_pos hi) dX0_twin_228 ?_
          refine W.eq (g2 := F0 mid 229 ls [.ref (jA jp (xr i 0))]) rfl ?_
          refine xx_get11 (j := jp) S G (mm := i) hi hN (hC2.k _) 5 (by decide) q224 rfl (v := .ref (jA jp (xr i 3))) rfl dX0_twin_229 ?_
          refine lv_iload_n hx hb dX0_twin_232 rfl (lv_at hl 1 rfl) ?_
          refine lv_aload_n hx hb dX0_twin_233 rfl (lv_at hl 4 rfl) ?_
          refine xx_getP S (tw_x hI hT G) 0 (by decide) q89 rfl (v := .ref (jA j 1)) rfl dX0_twin_234 ?_
          refine lv_iload_n hx hb dX0_twin_237 rfl (lv_at hl 2 rfl) ?_
          refine xx_aald S (tw_x hI hT G) (r := 1) (by decide) (xW_p (by decide) rfl) (i := i) (by omega) (by decide) (o := some (jA j (xr i 0))) (if_pos hi) dX0_twin_238 ?_
          refine W.eq (g2 := F0 mid 239 ls [.ref (jA j (xr i 0)), .int (nI k), .ref (jA jp (xr i 3))]) rfl ?_
          refine xx_get11 S (tw_x hI hT G) (mm := i) hi hN (hC.k _) 5 (by decide) q224 rfl (v := .ref (jA j (xr i 3))) rfl dX0_twin_239 ?_
          refine lv_iload_n hx hb dX0_twin_242 rfl (lv_at hl 1 rfl) ?_
          refine xx_zald S (tw_x hI hT G) (r := xr i 3) (xr_lt (by decide) (Nat.lt_of_lt_of_le hi hN)) (xW_m (by decide) hi rfl) 1 rfl (i := k) (by omega) (by decide) (v := bI (cT C i k)) rfl dX0_twin_243 ?_
          refine xx_zast (j := jp) S G (r := xr i 3) (xr_lt (by decide) (Nat.lt_of_lt_of_le hi hN)) (xW_m (by decide) hi rfl) 1 rfl (i := k) (by omega) (by decide) (by first | rfl | exact bb_vp _) (xs_tu (v := cT C i k) hi) dX0_twin_244 (fun H locs G => ?_)
          refine lv_iinc (v := nI (k + 1)) (lv' := [(3, .int (nI (k + 1))), (4, .int (oI none)), (2, .int (nI i)), (1, .ref (jA jp 0)), (0, .ref (jA j 0))]) hx hb dX0_twin_245 hl (k := 1) rfl (nI_1 _) (by decide) rfl (fun ls hl => ?_)
          refine lv_goto (tgt := 163) hx hb dX0_twin_248 (by decide) ?_
          rw [tE_up] at G
          exact ih (k + 1) (by omega) (by omega) H locs ls G (lv_sub hl [0, 2, 3, 4] rfl) kk
        · rw [ho] at hl G
          have hoN := hC.f ho
          refine lv_icmp_ne (tgt := 215) hx hb dX0_twin_208 (by decide) (fun _ => ?_) (fun c_ => (nI_nm1 (k := o) (by omega) c_).elim)
          refine lv_aload_n hx hb dX0_twin_215 rfl (lv_at hl 3 rfl) ?_
          refine oo_get S G (ci := 0) (Cl := RX0) (T := TX0) (N := 17) rfl in_X0 (r := 0) (by decide) ((wr_s_ne (Ne.symm x20)).trans (xW_p (by decide) rfl)) 0 (by decide) (ref := RX0) q89 (fun x h => h) (v := .ref (jA jp 1)) (xPs_at (by decide) rfl) dX0_twin_216 ?_
          refine lv_iload hx hb dX0_twin_219 (lv_at hl 0 rfl) ?_
          refine ww_aald S G (r := 1) (by decide) ((wr_s_ne (Ne.symm (by unfold xr; omega))).trans (xW_p (by decide) rfl)) (i := o) (by omega) (by decide) (o := some (jA jp (xr o 0))) (if_pos (show o < cN (tE C i k) from hoN)) dX0_twin_221 ?_
          refine W.eq (g2 := F0 mid 222 ls [.ref (jA jp (xr o 0)), .int (nI k), .ref (jA jp (xr i 1))]) rfl ?_
          refine ww_aast S G (r := xr i 1) (xr_lt (by decide) hi20) ((wr_s_ne (xr_ne (by decide))).trans (xW_m (by decide) hiN2 rfl)) (rv := xr o 0) (xr_lt (by decide) (by omega)) ((wr_s_ne (by unfold xr; omega)).trans (xW_m (by decide) (show o < cN (tE C i k) from hoN) rfl)) (hC2.k o) (i := k) (by omega) (by decide) dX0_twin_222 (fun H locs G => ?_)
          have G : xG D dA (fr_ s0.heap.size) (wF (tE C i k) (up2 (cF (tE C i k)) i k (cF C i k))) nmd jp s0 H locs := by rw [ho]; rw [wr_cm (xr_ne (by decide))] at G; exact wG_x (xs_cord (o := (some o)) hiN2) G
          refine lv_aload_n hx hb dX0_twin_223 rfl (lv_at hl 3 rfl) ?_
          refine xx_getP (j := jp) S G 0 (by decide) q89 rfl (v := .ref (jA jp 1)) rfl dX0_twin_224 ?_
          refine lv_iload_n hx hb dX0_twin_227 rfl (lv_at hl 2 rfl) ?_
          refine xx_aald (j := jp) S G (r := 1) (by decide) (xW_p (by decide) rfl) (i := i) (by omega) (by decide) (o := some (jA jp (xr i 0))) (if_pos hi) dX0_twin_228 ?_
          refine W.eq (g2 := F0 mid 229 ls [.ref (jA jp (xr i 0))]) rfl ?_
          refine xx_get11 (j := jp) S G (mm := i) hi hN (hC2.k _) 5 (by decide) q224 rfl (v := .ref (jA jp (xr i 3))) rfl dX0_twin_229 ?_
          refine lv_iload_n hx hb dX0_twin_232 rfl (lv_at hl 1 rfl) ?_
          refine lv_aload_n hx hb dX0_twin_233 rfl (lv_at hl 4 rfl) ?_
          refine xx_getP S (tw_x hI hT G) 0 (by decide) q89 rfl (v := .ref (jA j 1)) rfl dX0_twin_234 ?_
          refine lv_iload_n hx hb dX0_twin_237 rfl (lv_at hl 2 rfl) ?_
          refine xx_aald S (tw_x hI hT G) (r := 1) (by decide) (xW_p (by decide) rfl) (i := i) (by omega) (by decide) (o := some (jA j (xr i 0))) (if_pos hi) dX0_twin_238 ?_
          refine W.eq (g2 := F0 mid 239 ls [.ref (jA j (xr i 0)), .int (nI k), .ref (jA jp (xr i 3))]) rfl ?_
          refine xx_get11 S (tw_x hI hT G) (mm := i) hi hN (hC.k _) 5 (by decide) q224 rfl (v := .ref (jA j (xr i 3))) rfl dX0_twin_239 ?_
          refine lv_iload_n hx hb dX0_twin_242 rfl (lv_at hl 1 rfl) ?_
          refine xx_zald S (tw_x hI hT G) (r := xr i 3) (xr_lt (by decide) (Nat.lt_of_lt_of_le hi hN)) (xW_m (by decide) hi rfl) 1 rfl (i := k) (by omega) (by decide) (v := bI (cT C i k)) rfl dX0_twin_243 ?_
          refine xx_zast (j := jp) S G (r := xr i 3) (xr_lt (by decide) (Nat.lt_of_lt_of_le hi hN)) (xW_m (by decide) hi rfl) 1 rfl (i := k) (by omega) (by decide) (by first | rfl | exact bb_vp _) (xs_tu (v := cT C i k) hi) dX0_twin_244 (fun H locs G => ?_)
          refine lv_iinc (v := nI (k + 1)) (lv' := [(3, .int (nI (k + 1))), (4, .int (oI (some o))), (2, .int (nI i)), (1, .ref (jA jp 0)), (0, .ref (jA j 0))]) hx hb dX0_twin_245 hl (k := 1) rfl (nI_1 _) (by decide) rfl (fun ls hl => ?_)
          refine lv_goto (tgt := 163) hx hb dX0_twin_248 (by decide) ?_
          rw [tE_up] at G
          exact ih (k + 1) (by omega) (by omega) H locs ls G (lv_sub hl [0, 2, 3, 4] rfl) kk
  have lp2 : ∀ (jp : xj_T) (n_ i : Nat), i ≤ cN C → cN C < i + n_ → ∀ (H : Heap) (locs : List Loc) (ls : Array Slot), xG D dA (fr_ s0.heap.size) (tE C i 0) nmd jp s0 H locs → lv_has ls 7 [(2, .int (nI i)), (1, .ref (jA jp 0)), (0, .ref (jA j 0))] → (∀ (H : Heap) (locs : List Loc) (ls : Array Slot), xG D dA (fr_ s0.heap.size) (tE C (cN C) 0) nmd jp s0 H locs → lv_has ls 7 [(2, .int (nI (cN C))), (1, .ref (jA jp 0)), (0, .ref (jA j 0))] → W p0 l e0 (rmN 5 129 1875) s0 mid ([.ref (jA j 0)] : List Value).toArray bl0 me0 co0 H locs (9 + 6 * cN C) (835 + 52 * cN C) (MQ bl0 (tQ D dA s0.heap.size (fun o w' => ∃ ad : Nat → Nat, o = some (.ref (ad 0)) ∧ w' = xW dA (twC C) nmd (nmj ad))) ([.ref (jA j 0)] : List Value).toArray s0 129 1875 (fr_ s0.heap.size)) (F0 mid 257 ls [])) → W p0 l e0 (rmN 5 129 1875) s0 mid ([.ref (jA j 0)] : List Value).toArray bl0 me0 co0 H locs (9 + 6 * cN C) (835 + 52 * cN C) (MQ bl0 (tQ D dA s0.heap.size (fun o w' => ∃ ad : Nat → Nat, o = some (.ref (ad 0)) ∧ w' = xW dA (twC C) nmd (nmj ad))) ([.ref (jA j 0)] : List Value).toArray s0 129 1875 (fr_ s0.heap.size)) (F0 mid 153 ls []) := by
    intro jp n_
    induction n_ with
    | zero => intro i h1_ h2_; exact absurd h2_ (by omega)
    | succ n_ ih =>
      intro i h1_ h2_ H locs ls G hl kk
      refine lv_iload_n hx hb dX0_twin_153 rfl (lv_at hl 0 rfl) ?_
      refine lv_aload_n hx hb dX0_twin_154 rfl (lv_at hl 2 rfl) ?_
      refine xx_getP S (tw_x hI hT G) 1 (by decide) q90 rfl (v := .int (nI (cN C))) rfl dX0_twin_155 ?_
      refine nn_cge (tgt := 257) hx hb (by omega) (by omega) dX0_twin_158 (by decide) (fun c_158 => ?_) (fun c_158 => ?_)
      · have hiN : i = cN C := by omega
        subst hiN
        exact kk H locs ls G (lv_sub hl [0, 1, 2] rfl)
      · refine lv_iconst (v := nI 0) hx hb dX0_twin_161 (by decide) ?_
        refine lv_istore_n (lv' := [(3, .int (nI 0)), (2, .int (nI i)), (1, .ref (jA jp 0)), (0, .ref (jA j 0))]) hx hb dX0_twin_162 rfl hl (by decide) rfl (fun ls hl => ?_)
        refine lp3 jp i (by omega) 7 0 (by omega) (by omega) H locs ls G (lv_sub hl [0, 1, 2, 3] rfl) (fun H locs ls G hl => ?_)
        rw [tE_nx hfE] at G
        refine lv_iinc (v := nI (i + 1)) (lv' := [(2, .int (nI (i + 1))), (3, .int (nI 6)), (1, .ref (jA jp 0)), (0, .ref (jA j 0))]) hx hb dX0_twin_251 hl (k := 1) rfl (nI_1 _) (by decide) rfl (fun ls hl => ?_)
        refine lv_goto (tgt := 153) hx hb dX0_twin_254 (by decide) ?_
        exact ih (i + 1) (by omega) (by omega) H locs ls G (lv_sub hl [0, 2, 3] rfl) kk
  refine oo_new S G hA (ci := 0) (Cl := RX0) (T := TX0) (N := 17) rfl in_X0 tyX0 tyX0_ok q1223 q80 q52 (r := 0) (by decide) rfl (show 0 + 1 ≤ 129 by omega) (show 0 + 17 ≤ 1875 by omega) dX0_twin_0 (fun a H G => ?_)
  have G : wG D dA (fr_ s0.heap.size) (pw0 a) s0 H [] := G
  refine lv_dup hx hb dX0_twin_3 rfl ?_
  refine ww_callI (As := []) (rest := [.ref a]) S G hA (ct_X0_init l D dA a) q1224 q82 q52 q83 rfl hc_X0_init ⟨Nat.le_of_ble_eq_true rfl, Nat.le_of_ble_eq_true rfl⟩ rfl hl.1 rfl (Nat.le_of_ble_eq_true rfl) dX0_twin_4 ⟨(show 0 + 1 + 8 ≤ 129 by omega), (show 0 + 17 + 818 ≤ 1875 by omega)⟩ (fun o_ w1 H locs hp G _ _ _ => ?_)
  obtain ⟨rfl, ad, rfl, rfl⟩ := hp
  refine W.eq (g2 := F0 mid 7 ls [.ref (ad 0)]) rfl ?_
  refine lv_astore_n (lv' := [(1, .ref (ad 0)), (0, .ref (jA j 0))]) hx hb dX0_twin_7 rfl hl (by decide) rfl (fun ls hl => ?_)
  refine lv_aload_n hx hb dX0_twin_8 rfl (lv_at hl 0 rfl) ?_
  refine lv_aload_n hx hb dX0_twin_9 rfl (lv_at hl 1 rfl) ?_
  refine xx_getP S (tw_x hI hT G) 1 (by decide) q90 rfl (v := .int (nI (cN C))) rfl dX0_twin_10 ?_
  refine oo_put S G (ci := 0) (Cl := RX0) (T := TX0) (N := 17) rfl in_X0 tyX0 tyX0_ok nmX0 (r := 0) (a := ad 0) (by decide) (xW_p (by decide) rfl) (xPs_l _ _ _) 1 (by decide) (ref := RX0) q90 (fun x h => h) (Or.inl rfl) rfl rfl dX0_twin_13 (fun H locs G => ?_)
  refine lv_aload_n hx hb dX0_twin_16 rfl (lv_at hl 0 rfl) ?_
  refine lv_aload_n hx hb dX0_twin_17 rfl (lv_at hl 1 rfl) ?_
  refine xx_getP S (tw_x hI hT G) 3 (by decide) q92 rfl (v := .int (nI (cR C))) rfl dX0_twin_18 ?_
  refine oo_put S G (ci := 0) (Cl := RX0) (T := TX0) (N := 17) rfl in_X0 tyX0 tyX0_ok nmX0 (r := 0) (a := ad 0) (by decide) wr_s_self (by simp [xPs_l]) 3 (by decide) (ref := RX0) q92 (fun x h => h) (Or.inl rfl) rfl rfl dX0_twin_21 (fun H locs G => ?_)
  refine lv_aload_n hx hb dX0_twin_24 rfl (lv_at hl 0 rfl) ?_
  refine lv_aload_n hx hb dX0_twin_25 rfl (lv_at hl 1 rfl) ?_
  refine xx_getP S (tw_x hI hT G) 4 (by decide) q93 rfl (v := .int (nI (cH C))) rfl dX0_twin_26 ?_
  refine oo_put S G (ci := 0) (Cl := RX0) (T := TX0) (N := 17) rfl in_X0 tyX0 tyX0_ok nmX0 (r := 0) (a := ad 0) (by decide) wr_s_self (by simp [xPs_l]) 4 (by decide) (ref := RX0) q93 (fun x h => h) (Or.inl rfl) rfl rfl dX0_twin_29 (fun H locs G => ?_)
  have G : wG D dA (fr_ s0.heap.size) (qW dA (cN C) (tD C 0) nmd (nmj ad)) s0 H locs := by rw [← pw_tw]; exact G
  refine lv_iconst (v := nI 0) hx hb dX0_twin_32 (by decide) ?_
  refine lv_istore_n (lv' := [(2, .int (nI 0)), (1, .ref (ad 0)), (0, .ref (jA j 0))]) hx hb dX0_twin_33 rfl hl (by decide) rfl (fun ls hl => ?_)
  refine w_cs (cells' := 9 + 6 * 0) (slots' := 835 + 52 * 0) rfl rfl ?_
  refine lp1 (ad 0) (cN C + 1) 0 ad (by omega) (by omega) rfl H locs ls G (lv_sub hl [0, 1, 2] rfl) (fun ad1 H locs ls ha G hl => ?_)
  have G : xG D dA (fr_ s0.heap.size) (tE C 0 0) nmd (nmj ad1) s0 H locs := by rw [← tE_0]; have e := qW_self dA (tD C (cN C)) nmd (nmj ad1); exact wG_x e G
  rw [← ha, ← nmj_A ad1 0] at hl
  generalize hjp : nmj ad1 = jp at G hl
  refine lv_iconst (v := nI 0) hx hb dX0_twin_151 (by decide) ?_
  refine lv_istore_n (lv' := [(2, .int (nI 0)), (1, .ref (jA jp 0)), (0, .ref (jA j 0))]) hx hb dX0_twin_152 rfl hl (by decide) rfl (fun ls hl => ?_)
  refine lp2 jp (cN C + 1) 0 (by omega) (by omega) H locs ls G (lv_sub hl [0, 1, 2] rfl) (fun H locs ls G hl => ?_)
  rw [tE_n hfC hfE] at G
  refine lv_aload_n hx hb dX0_twin_257 rfl (lv_at hl 1 rfl) ?_
  exact tt_aret S hr hlk G (by omega) (by omega) ⟨ad1, by rw [← hjp]; rfl, by rw [← hjp]⟩ dX0_twin_258
