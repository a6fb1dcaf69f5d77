set_option maxRecDepth 100000
set_option maxHeartbeats 4000000
theorem dX2_init_0 : decode cX2_init 0 = .ok (.aload_n 0, 1) := by decide +kernel
theorem dX2_init_1 : decode cX2_init 1 = .ok (.invokespecial 3, 3) := by decide +kernel
theorem dX2_init_4 : decode cX2_init 4 = .ok (.aload_n 0, 1) := by decide +kernel
theorem dX2_init_5 : decode cX2_init 5 = .ok (.bipush 6, 2) := by decide +kernel
theorem dX2_init_7 : decode cX2_init 7 = .ok (.anewarray 9, 3) := by decide +kernel
theorem dX2_init_10 : decode cX2_init 10 = .ok (.putfield 11, 3) := by decide +kernel
theorem dX2_init_13 : decode cX2_init 13 = .ok (.aload_n 0, 1) := by decide +kernel
theorem dX2_init_14 : decode cX2_init 14 = .ok (.bipush 6, 2) := by decide +kernel
theorem dX2_init_16 : decode cX2_init 16 = .ok (.newarray .int, 2) := by decide +kernel
theorem dX2_init_18 : decode cX2_init 18 = .ok (.putfield 15, 3) := by decide +kernel
theorem dX2_init_21 : decode cX2_init 21 = .ok (.aload_n 0, 1) := by decide +kernel
theorem dX2_init_22 : decode cX2_init 22 = .ok (.bipush 6, 2) := by decide +kernel
theorem dX2_init_24 : decode cX2_init 24 = .ok (.newarray .boolean, 2) := by decide +kernel
theorem dX2_init_26 : decode cX2_init 26 = .ok (.putfield 19, 3) := by decide +kernel
theorem dX2_init_29 : decode cX2_init 29 = .ok (.aload_n 0, 1) := by decide +kernel
theorem dX2_init_30 : decode cX2_init 30 = .ok (.iconst (-1), 1) := by decide +kernel
theorem dX2_init_31 : decode cX2_init 31 = .ok (.putfield 23, 3) := by decide +kernel
theorem dX2_init_34 : decode cX2_init 34 = .ok (.aload_n 0, 1) := by decide +kernel
theorem dX2_init_35 : decode cX2_init 35 = .ok (.iload_n 1, 1) := by decide +kernel
theorem dX2_init_36 : decode cX2_init 36 = .ok (.putfield 27, 3) := by decide +kernel
theorem dX2_init_39 : decode cX2_init 39 = .ok (.aload_n 0, 1) := by decide +kernel
theorem dX2_init_40 : decode cX2_init 40 = .ok (.dload_n 2, 1) := by decide +kernel
theorem dX2_init_41 : decode cX2_init 41 = .ok (.putfield 30, 3) := by decide +kernel
theorem dX2_init_44 : decode cX2_init 44 = .ok (.iconst 0, 1) := by decide +kernel
theorem dX2_init_45 : decode cX2_init 45 = .ok (.istore 4, 2) := by decide +kernel
theorem dX2_init_47 : decode cX2_init 47 = .ok (.iload 4, 2) := by decide +kernel
theorem dX2_init_49 : decode cX2_init 49 = .ok (.bipush 6, 2) := by decide +kernel
theorem dX2_init_51 : decode cX2_init 51 = .ok (.if_icmp .ge 17, 3) := by decide +kernel
theorem dX2_init_54 : decode cX2_init 54 = .ok (.aload_n 0, 1) := by decide +kernel
theorem dX2_init_55 : decode cX2_init 55 = .ok (.getfield 15, 3) := by decide +kernel
theorem dX2_init_58 : decode cX2_init 58 = .ok (.iload 4, 2) := by decide +kernel
theorem dX2_init_60 : decode cX2_init 60 = .ok (.iconst (-1), 1) := by decide +kernel
theorem dX2_init_61 : decode cX2_init 61 = .ok (.iastore, 1) := by decide +kernel
theorem dX2_init_62 : decode cX2_init 62 = .ok (.iinc 4 1, 3) := by decide +kernel
theorem dX2_init_65 : decode cX2_init 65 = .ok (.goto (-18), 3) := by decide +kernel
theorem dX2_init_68 : decode cX2_init 68 = .ok (.return_, 1) := by decide +kernel
theorem dX5_init_0 : decode cX5_init 0 = .ok (.aload_n 0, 1) := by decide +kernel
theorem dX5_init_1 : decode cX5_init 1 = .ok (.iload_n 1, 1) := by decide +kernel
theorem dX5_init_2 : decode cX5_init 2 = .ok (.dload_n 2, 1) := by decide +kernel
theorem dX5_init_3 : decode cX5_init 3 = .ok (.invokespecial 1, 3) := by decide +kernel
theorem dX5_init_6 : decode cX5_init 6 = .ok (.return_, 1) := by decide +kernel
theorem dX3_init_0 : decode cX3_init 0 = .ok (.aload_n 0, 1) := by decide +kernel
theorem dX3_init_1 : decode cX3_init 1 = .ok (.iload_n 1, 1) := by decide +kernel
theorem dX3_init_2 : decode cX3_init 2 = .ok (.dload_n 2, 1) := by decide +kernel
theorem dX3_init_3 : decode cX3_init 3 = .ok (.invokespecial 1, 3) := by decide +kernel
theorem dX3_init_6 : decode cX3_init 6 = .ok (.return_, 1) := by decide +kernel
theorem dX4_init_0 : decode cX4_init 0 = .ok (.aload_n 0, 1) := by decide +kernel
theorem dX4_init_1 : decode cX4_init 1 = .ok (.iload_n 1, 1) := by decide +kernel
theorem dX4_init_2 : decode cX4_init 2 = .ok (.dload_n 2, 1) := by decide +kernel
theorem dX4_init_3 : decode cX4_init 3 = .ok (.invokespecial 1, 3) := by decide +kernel
theorem dX4_init_6 : decode cX4_init 6 = .ok (.return_, 1) := by decide +kernel
theorem dX7_init_0 : decode cX7_init 0 = .ok (.aload_n 0, 1) := by decide +kernel
theorem dX7_init_1 : decode cX7_init 1 = .ok (.iload_n 1, 1) := by decide +kernel
theorem dX7_init_2 : decode cX7_init 2 = .ok (.dload_n 2, 1) := by decide +kernel
theorem dX7_init_3 : decode cX7_init 3 = .ok (.invokespecial 1, 3) := by decide +kernel
theorem dX7_init_6 : decode cX7_init 6 = .ok (.return_, 1) := by decide +kernel
theorem dX8_init_0 : decode cX8_init 0 = .ok (.aload_n 0, 1) := by decide +kernel
theorem dX8_init_1 : decode cX8_init 1 = .ok (.iload_n 1, 1) := by decide +kernel
theorem dX8_init_2 : decode cX8_init 2 = .ok (.dload_n 2, 1) := by decide +kernel
theorem dX8_init_3 : decode cX8_init 3 = .ok (.invokespecial 1, 3) := by decide +kernel
theorem dX8_init_6 : decode cX8_init 6 = .ok (.return_, 1) := by decide +kernel
theorem dX9_init_0 : decode cX9_init 0 = .ok (.aload_n 0, 1) := by decide +kernel
theorem dX9_init_1 : decode cX9_init 1 = .ok (.iload_n 1, 1) := by decide +kernel
theorem dX9_init_2 : decode cX9_init 2 = .ok (.dload_n 2, 1) := by decide +kernel
theorem dX9_init_3 : decode cX9_init 3 = .ok (.invokespecial 1, 3) := by decide +kernel
theorem dX9_init_6 : decode cX9_init 6 = .ok (.return_, 1) := by decide +kernel
theorem dX10_init_0 : decode cX10_init 0 = .ok (.aload_n 0, 1) := by decide +kernel
theorem dX10_init_1 : decode cX10_init 1 = .ok (.iload_n 1, 1) := by decide +kernel
theorem dX10_init_2 : decode cX10_init 2 = .ok (.dload_n 2, 1) := by decide +kernel
theorem dX10_init_3 : decode cX10_init 3 = .ok (.invokespecial 1, 3) := by decide +kernel
theorem dX10_init_6 : decode cX10_init 6 = .ok (.return_, 1) := by decide +kernel
theorem dX12_init_0 : decode cX12_init 0 = .ok (.aload_n 0, 1) := by decide +kernel
theorem dX12_init_1 : decode cX12_init 1 = .ok (.iload_n 1, 1) := by decide +kernel
theorem dX12_init_2 : decode cX12_init 2 = .ok (.dload_n 2, 1) := by decide +kernel
theorem dX12_init_3 : decode cX12_init 3 = .ok (.invokespecial 1, 3) := by decide +kernel
theorem dX12_init_6 : decode cX12_init 6 = .ok (.return_, 1) := by decide +kernel
theorem dX13_init_0 : decode cX13_init 0 = .ok (.aload_n 0, 1) := by decide +kernel
theorem dX13_init_1 : decode cX13_init 1 = .ok (.iload_n 1, 1) := by decide +kernel
theorem dX13_init_2 : decode cX13_init 2 = .ok (.dload_n 2, 1) := by decide +kernel
theorem dX13_init_3 : decode cX13_init 3 = .ok (.invokespecial 1, 3) := by decide +kernel
theorem dX13_init_6 : decode cX13_init 6 = .ok (.return_, 1) := by decide +kernel
theorem dX14_init_0 : decode cX14_init 0 = .ok (.aload_n 0, 1) := by decide +kernel
theorem dX14_init_1 : decode cX14_init 1 = .ok (.iload_n 1, 1) := by decide +kernel
theorem dX14_init_2 : decode cX14_init 2 = .ok (.dload_n 2, 1) := by decide +kernel
theorem dX14_init_3 : decode cX14_init 3 = .ok (.invokespecial 1, 3) := by decide +kernel
theorem dX14_init_6 : decode cX14_init 6 = .ok (.return_, 1) := by decide +kernel
theorem dX15_init_0 : decode cX15_init 0 = .ok (.aload_n 0, 1) := by decide +kernel
theorem dX15_init_1 : decode cX15_init 1 = .ok (.iload_n 1, 1) := by decide +kernel
theorem dX15_init_2 : decode cX15_init 2 = .ok (.dload_n 2, 1) := by decide +kernel
theorem dX15_init_3 : decode cX15_init 3 = .ok (.invokespecial 1, 3) := by decide +kernel
theorem dX15_init_6 : decode cX15_init 6 = .ok (.return_, 1) := by decide +kernel
theorem dX16_init_0 : decode cX16_init 0 = .ok (.aload_n 0, 1) := by decide +kernel
theorem dX16_init_1 : decode cX16_init 1 = .ok (.iload_n 1, 1) := by decide +kernel
theorem dX16_init_2 : decode cX16_init 2 = .ok (.dload_n 2, 1) := by decide +kernel
theorem dX16_init_3 : decode cX16_init 3 = .ok (.invokespecial 1, 3) := by decide +kernel
theorem dX16_init_6 : decode cX16_init 6 = .ok (.return_, 1) := by decide +kernel
theorem dX17_init_0 : decode cX17_init 0 = .ok (.aload_n 0, 1) := by decide +kernel
theorem dX17_init_1 : decode cX17_init 1 = .ok (.iload_n 1, 1) := by decide +kernel
theorem dX17_init_2 : decode cX17_init 2 = .ok (.dload_n 2, 1) := by decide +kernel
theorem dX17_init_3 : decode cX17_init 3 = .ok (.invokespecial 1, 3) := by decide +kernel
theorem dX17_init_6 : decode cX17_init 6 = .ok (.return_, 1) := by decide +kernel
theorem dX6_init_0 : decode cX6_init 0 = .ok (.aload_n 0, 1) := by decide +kernel
theorem dX6_init_1 : decode cX6_init 1 = .ok (.iload_n 1, 1) := by decide +kernel
theorem dX6_init_2 : decode cX6_init 2 = .ok (.dload_n 2, 1) := by decide +kernel
theorem dX6_init_3 : decode cX6_init 3 = .ok (.invokespecial 1, 3) := by decide +kernel
theorem dX6_init_6 : decode cX6_init 6 = .ok (.aload_n 0, 1) := by decide +kernel
theorem dX6_init_7 : decode cX6_init 7 = .ok (.iconst 4, 1) := by decide +kernel
theorem dX6_init_8 : decode cX6_init 8 = .ok (.newarray .double, 2) := by decide +kernel
theorem dX6_init_10 : decode cX6_init 10 = .ok (.putfield 7, 3) := by decide +kernel
theorem dX6_init_13 : decode cX6_init 13 = .ok (.aload_n 0, 1) := by decide +kernel
theorem dX6_init_14 : decode cX6_init 14 = .ok (.iconst 4, 1) := by decide +kernel
theorem dX6_init_15 : decode cX6_init 15 = .ok (.newarray .float, 2) := by decide +kernel
theorem dX6_init_17 : decode cX6_init 17 = .ok (.putfield 13, 3) := by decide +kernel
theorem dX6_init_20 : decode cX6_init 20 = .ok (.return_, 1) := by decide +kernel
theorem dX11_init_0 : decode cX11_init 0 = .ok (.aload_n 0, 1) := by decide +kernel
theorem dX11_init_1 : decode cX11_init 1 = .ok (.iload_n 1, 1) := by decide +kernel
theorem dX11_init_2 : decode cX11_init 2 = .ok (.dload_n 2, 1) := by decide +kernel
theorem dX11_init_3 : decode cX11_init 3 = .ok (.invokespecial 3, 3) := by decide +kernel
theorem dX11_init_6 : decode cX11_init 6 = .ok (.aload_n 0, 1) := by decide +kernel
theorem dX11_init_7 : decode cX11_init 7 = .ok (.bipush 8, 2) := by decide +kernel
theorem dX11_init_9 : decode cX11_init 9 = .ok (.newarray .double, 2) := by decide +kernel
theorem dX11_init_11 : decode cX11_init 11 = .ok (.putfield 9, 3) := by decide +kernel
theorem dX11_init_14 : decode cX11_init 14 = .ok (.aload_n 0, 1) := by decide +kernel
theorem dX11_init_15 : decode cX11_init 15 = .ok (.bipush 8, 2) := by decide +kernel
theorem dX11_init_17 : decode cX11_init 17 = .ok (.newarray .double, 2) := by decide +kernel
theorem dX11_init_19 : decode cX11_init 19 = .ok (.putfield 15, 3) := by decide +kernel
theorem dX11_init_22 : decode cX11_init 22 = .ok (.return_, 1) := by decide +kernel
/-- worlds of a module that is made: roles 10 .. 15 -/
def cw0 (k a : Nat) (fs : List Value) : wr_F := wr_s (fun _ => none) 10 (a, .inr (k + 2, fs))
def cw1 (dA : Nat → ClassId) (k a : Nat) (fs : List Value) (q1 q2 q3 : Nat) (f : Nat → Int32) : wr_F := wr_s (wr_s (wr_s (wr_s (fun _ => none) 10 (a, .inr (k + 2, fs))) 11 (q1, e_Q (dA 5) 6 (fun _ => none))) 12 (q2, e_I (dA 0) 6 f)) 13 (q3, e_I (dA 1) 6 (fun _ => 0))
def mfs (fs : List Value) (k : Nat) (s : UInt64) (q1 q2 q3 : Nat) : List Value := (((((fs.set 3 (.ref q1)).set 4 (.ref q2)).set 5 (.ref q3)).set 8 (.int (-1))).set 0 (.int (nI k))).set 1 (.double s)
theorem mfs_len (fs : List Value) (k : Nat) (s : UInt64) (q1 q2 q3 : Nat) : (mfs fs k s q1 q2 q3).length = fs.length := by simp [mfs]
theorem mfs_4 {fs : List Value} {k : Nat} {s : UInt64} {q1 q2 q3 : Nat} (h : 11 ≤ fs.length) : (mfs fs k s q1 q2 q3)[4]? = some (.ref q2) := by
  unfold mfs
  rw [List.getElem?_set_ne (by decide), List.getElem?_set_ne (by decide), List.getElem?_set_ne (by decide), List.getElem?_set_ne (by decide), List.getElem?_set_self (by rw [List.length_set]; omega)]
theorem cw_ext {w w' : wr_F} (h0 : w 10 = w' 10) (h1 : w 11 = w' 11) (h2 : w 12 = w' 12) (h3 : w 13 = w' 13) (h4 : w 14 = w' 14) (h5 : w 15 = w' 15) (h : ∀ r, r ≠ 10 → r ≠ 11 → r ≠ 12 → r ≠ 13 → r ≠ 14 → r ≠ 15 → w r = w' r) : w = w' := by
  funext r
  by_cases e0 : r = 10
  · rw [e0]; exact h0
  by_cases e1 : r = 11
  · rw [e1]; exact h1
  by_cases e2 : r = 12
  · rw [e2]; exact h2
  by_cases e3 : r = 13
  · rw [e3]; exact h3
  by_cases e4 : r = 14
  · rw [e4]; exact h4
  by_cases e5 : r = 15
  · rw [e5]; exact h5
  exact h r e0 e1 e2 e3 e4 e5
theorem wG_e {D : va_G} {dA : Nat → ClassId} {A : Nat → Prop} {w w' : wr_F} {s : State} {H : Heap} {locs : List Loc} (e : w = w') (G : wG D dA A w s H locs) : wG D dA A w' s H locs := by rw [← e]; exact G
def nmO (i : Nat) : Nat → Int32 := fun j => if j < i then -1 else 0
theorem nmO_s (i : Nat) : upd (nmO i) i (-1) = nmO (i + 1) := by
  funext q; unfold upd nmO
  by_cases h : q = i
  · rw [if_pos h, if_pos (by omega)]
  · rw [if_neg h]
    by_cases h2 : q < i
    · rw [if_pos h2, if_pos (by omega)]
    · rw [if_neg h2, if_neg (by omega)]
theorem hc_X2_init : yX2_init.cls ≠ "java/lang/invoke/MethodHandle" ∧ yX2_init.cls ≠ "java/lang/invoke/VarHandle" ∧ (parseMethodDescriptor yX2_init.desc).map (fun d => d.parameters.length) = some 2 := by decide +kernel
theorem hc_X5_init : yX5_init.cls ≠ "java/lang/invoke/MethodHandle" ∧ yX5_init.cls ≠ "java/lang/invoke/VarHandle" ∧ (parseMethodDescriptor yX5_init.desc).map (fun d => d.parameters.length) = some 2 := by decide +kernel
theorem arrV_ext {x : ClassId} {n : Nat} {f g : Nat → Value} (h : ∀ j, j < n → f j = g j) : arrV x n f = arrV x n g := by
  unfold arrV
  congr 1
  apply Array.ext
  · simp
  · intro i h1 h2
    simp at h1
    simp [h i h1]
theorem wG_I {D : va_G} {dA : Nat → ClassId} {A : Nat → Prop} {w w' : wr_F} {s : State} {H : Heap} {locs : List Loc} {r q n : Nat} {x : ClassId} {f g : Nat → Int32} (hw : w r = some (q, e_I x n f)) (hw' : w' r = some (q, e_I x n g)) (ho : ∀ r', r' ≠ r → w' r' = w r') (h : ∀ j, j < n → f j = g j) (G : wG D dA A w s H locs) : wG D dA A w' s H locs := by
  obtain ⟨hP, hK, hD, hS, hT⟩ := G
  have ex : ∀ r' y, w' r' = some y → ∃ y0, w r' = some y0 ∧ y0.1 = y.1 := fun r' y hy => by
    by_cases e : r' = r
    · subst e; rw [hw'] at hy; cases hy; exact ⟨_, hw, rfl⟩
    · rw [ho r' e] at hy; exact ⟨y, hy, rfl⟩
  refine ⟨wr_P.mpr (fun r' y hr' hy => ?_), hK, wr_D.mpr ⟨fun i k p' y hi hk hpi hyk hxy => ?_, fun r' y hr' hy => ?_⟩, hS, hT⟩
  · by_cases e : r' = r
    · subst e
      rw [hw'] at hy; cases hy
      have h1 : H[q]? = some (vp_cell x (n, .inl f)) := wr_P.mp hP r' _ hr' hw
      show H[q]? = some (vp_cell x (n, .inl g))
      rw [h1]
      exact congrArg some (show arrV x n (fun j => .int (f j)) = arrV x n (fun j => .int (g j)) from arrV_ext (fun j hj => by rw [h j hj]))
    · rw [ho r' e] at hy; exact wr_P.mp hP r' y hr' hy
  · obtain ⟨p0, h1, h2⟩ := ex i p' hpi
    obtain ⟨y0, h3, h4⟩ := ex k y hyk
    exact (wr_D.mp hD).1 i k p0 y0 hi hk h1 h3 (by rw [h2, h4]; exact hxy)
  · obtain ⟨y0, h3, h4⟩ := ex r' y hy
    rw [← h4]; exact (wr_D.mp hD).2 r' y0 hr' h3
def cw2 (dA : Nat → ClassId) (k a : Nat) (fs : List Value) (q1 q2 q3 q4 q5 : Nat) (e4 e5 : va_E) : wr_F := wr_s (wr_s (cw1 dA k a fs q1 q2 q3 (fun _ => -1)) 14 (q4, e4)) 15 (q5, e5)
theorem ct_X2_init (l : Launch) (D : va_G) (dA : Nat → ClassId) (k a : Nat) (s : UInt64) (fs : List Value) (hk : k < 14) (hfs : fs.length = kN k) : gN l D dA yX2_init cX2_init 5 none 1 3 18 [.ref a, .int (nI k), .double s] (cw0 k a fs) (fun o w' => o = none ∧ ∃ q1 q2 q3, w' = cw1 dA k a (mfs fs k s q1 q2 q3) q1 q2 q3 (fun _ => -1)) := by
  refine ww_start (own := RX2) (by decide) rfl (Nat.le_of_ble_eq_true rfl) ?_
  intro p0 e0 s0 mid bl0 me0 co0 ls S hr hlk hin G hl
  have hx := S.1; have hb := S.2.1; have hml := S.2.2.1; have hown := S.2.2.2.1; have hts := S.2.2.2.2
  have hA : ∀ q, s0.heap.size ≤ q → xB (gA (cw0 k a fs)) s0.heap.size q := fun q h => Or.inr h
  have h11 : 11 ≤ fs.length := by rw [hfs]; exact k_11 k
  have hl : lv_has ls 5 [(0, .ref a), (1, .int (nI k)), (2, .double s)] := hl
  have L1 : ∀ (n_ i : Nat) (q1 q2 q3 : Nat), i ≤ 6 → 6 < i + n_ → ∀ (H : Heap) (locs : List Loc) (ls : Array Slot), wG D dA (xB (gA (cw0 k a fs)) s0.heap.size) (cw1 dA k a (mfs fs k s q1 q2 q3) q1 q2 q3 (nmO i)) s0 H locs → lv_has ls 5 [(4, .int (nI i)), (0, .ref a)] → W p0 l e0 (rmN 1 3 18) s0 mid ([.ref a, .int (nI k), .double s] : List Value).toArray bl0 me0 co0 H locs (0 + 1 + 1 + 1) (0 + 6 + 6 + 6) (MQ bl0 (gQN D dA (cw0 k a fs) s0.heap.size (fun o w' => o = none ∧ ∃ q1 q2 q3, w' = cw1 dA k a (mfs fs k s q1 q2 q3) q1 q2 q3 (fun _ => -1))) ([.ref a, .int (nI k), .double s] : List Value).toArray s0 3 18 (xB (gA (cw0 k a fs)) s0.heap.size)) (F0 mid 47 ls []) := by
    intro n_
    induction n_ with
    | zero => intro i q1 q2 q3 h1_ h2_; exact absurd h2_ (by omega)
    | succ n_ ih =>
      intro i q1 q2 q3 h1_ h2_ H locs ls G hl
      refine lv_iload hx hb dX2_init_47 (lv_at hl 0 rfl) ?_
      refine lv_bipush (v := nI 6) hx hb dX2_init_49 (by decide) ?_
      refine nn_cge (tgt := 68) hx hb (by omega) (by omega) dX2_init_51 (by decide) (fun c_ => ?_) (fun c_ => ?_)
      · have G : wG D dA (xB (gA (cw0 k a fs)) s0.heap.size) (cw1 dA k a (mfs fs k s q1 q2 q3) q1 q2 q3 (fun _ => -1)) s0 H locs := wG_I (r := 12) (g := fun _ => -1) rfl rfl (fun r' h => by unfold cw1 wr_s; simp [h]) (fun j hj => by unfold nmO; rw [if_pos (by omega)]) G
        exact ww_vretN S hr hlk G (by omega) (by omega) ⟨rfl, q1, q2, q3, rfl⟩ dX2_init_68
      · refine lv_aload_n hx hb dX2_init_54 rfl (lv_at hl 1 rfl) ?_
        refine oo_get S G (k_cl hk) (k_in hk) (r := 10) (by decide) rfl 4 (Nat.lt_of_lt_of_le (by decide) (k_11 k)) (index := 15) (ref := RX2) (by rw [k_T k hk 4 (by decide)]; exact q221) (by rw [k_T k hk 4 (by decide)]; exact fun x h => h) (mfs_4 h11) dX2_init_55 ?_
        refine lv_iload hx hb dX2_init_58 (lv_at hl 0 rfl) ?_
        refine lv_iconst (v := (-1)) hx hb dX2_init_60 (by decide) ?_
        refine ww_iast S G (r := 12) (by decide) rfl 0 rfl (i := i) (by omega) (by decide) dX2_init_61 (fun H locs G => ?_)
        refine lv_iinc (v := nI (i + 1)) (lv' := [(4, .int (nI (i + 1))), (0, .ref a)]) hx hb dX2_init_62 hl (k := 0) rfl (nI_1 _) (by decide) rfl (fun ls hl => ?_)
        refine lv_goto (tgt := 47) hx hb dX2_init_65 (by decide) ?_
        exact ih (i + 1) q1 q2 q3 (by omega) (by omega) H locs ls (by refine wG_e ?_ G; rw [nmO_s]; exact cw_ext rfl rfl rfl rfl rfl rfl (fun r h0 h1 h2 h3 h4 h5 => by simp [cw1, wr_s, h0, h1, h2, h3])) hl
  refine lv_aload_n hx hb dX2_init_0 rfl (lv_at hl 0 rfl) ?_
  refine ww_obj S q200 q85 q86 hl.1 dX2_init_1 (Nat.le_of_ble_eq_true rfl) (Nat.le_of_ble_eq_true rfl) ?_
  refine lv_aload_n hx hb dX2_init_4 rfl (lv_at hl 0 rfl) ?_
  refine lv_bipush (v := nI 6) hx hb dX2_init_5 (by decide) ?_
  refine oo_newQ S G hA q201 (r := 11) (by decide) rfl (by omega) (show 0 + 1 ≤ 3 by omega) (show 0 + 6 ≤ 18 by omega) dX2_init_7 (fun q1 H G => ?_)
  refine oo_put S G (k_cl hk) (k_in hk) (kTy k) (k_ty hk) (k_nm hk) (r := 10) (by decide) rfl hfs 3 (Nat.lt_of_lt_of_le (by decide) (k_11 k)) (index := 11) (ref := RX2) (by rw [k_T k hk 3 (by decide)]; exact q219) (by rw [k_T k hk 3 (by decide)]; exact fun x h => h) (Or.inr ⟨by rw [k_T k hk 3 (by decide)]; rfl, hin, by rw [k_T k hk 3 (by decide)]; rfl⟩) (by rw [k_Ty k hk 3 (by decide)]; rfl) (by rw [k_Ty k hk 3 (by decide)]; rfl) dX2_init_10 (fun H locs G => ?_)
  refine lv_aload_n hx hb dX2_init_13 rfl (lv_at hl 0 rfl) ?_
  refine lv_bipush (v := nI 6) hx hb dX2_init_14 (by decide) ?_
  refine oo_newI S G hA (r := 12) (by decide) rfl (by omega) (show 0 + 1 + 1 ≤ 3 by omega) (show 0 + 6 + 6 ≤ 18 by omega) dX2_init_16 (fun q2 H G => ?_)
  refine oo_put S G (k_cl hk) (k_in hk) (kTy k) (k_ty hk) (k_nm hk) (r := 10) (by decide) rfl (by simp only [List.length_set]; exact hfs) 4 (Nat.lt_of_lt_of_le (by decide) (k_11 k)) (index := 15) (ref := RX2) (by rw [k_T k hk 4 (by decide)]; exact q221) (by rw [k_T k hk 4 (by decide)]; exact fun x h => h) (Or.inr ⟨by rw [k_T k hk 4 (by decide)]; rfl, hin, by rw [k_T k hk 4 (by decide)]; rfl⟩) (by rw [k_Ty k hk 4 (by decide)]; rfl) (by rw [k_Ty k hk 4 (by decide)]; rfl) dX2_init_18 (fun H locs G => ?_)
  refine lv_aload_n hx hb dX2_init_21 rfl (lv_at hl 0 rfl) ?_
  refine lv_bipush (v := nI 6) hx hb dX2_init_22 (by decide) ?_
  refine oo_newZ S G hA (r := 13) (by decide) rfl (by omega) (show 0 + 1 + 1 + 1 ≤ 3 by omega) (show 0 + 6 + 6 + 6 ≤ 18 by omega) dX2_init_24 (fun q3 H G => ?_)
  refine oo_put S G (k_cl hk) (k_in hk) (kTy k) (k_ty hk) (k_nm hk) (r := 10) (by decide) rfl (by simp only [List.length_set]; exact hfs) 5 (Nat.lt_of_lt_of_le (by decide) (k_11 k)) (index := 19) (ref := RX2) (by rw [k_T k hk 5 (by decide)]; exact q223) (by rw [k_T k hk 5 (by decide)]; exact fun x h => h) (Or.inr ⟨by rw [k_T k hk 5 (by decide)]; rfl, hin, by rw [k_T k hk 5 (by decide)]; rfl⟩) (by rw [k_Ty k hk 5 (by decide)]; rfl) (by rw [k_Ty k hk 5 (by decide)]; rfl) dX2_init_26 (fun H locs G => ?_)
  refine lv_aload_n hx hb dX2_init_29 rfl (lv_at hl 0 rfl) ?_
  refine lv_iconst (v := (-1)) hx hb dX2_init_30 (by decide) ?_
  refine oo_put S G (k_cl hk) (k_in hk) (kTy k) (k_ty hk) (k_nm hk) (r := 10) (by decide) rfl (by simp only [List.length_set]; exact hfs) 8 (Nat.lt_of_lt_of_le (by decide) (k_11 k)) (index := 23) (ref := RX2) (by rw [k_T k hk 8 (by decide)]; exact q229) (by rw [k_T k hk 8 (by decide)]; exact fun x h => h) (Or.inl (by rw [k_T k hk 8 (by decide)]; rfl)) (by rw [k_Ty k hk 8 (by decide)]; rfl) (by rw [k_Ty k hk 8 (by decide)]; rfl) dX2_init_31 (fun H locs G => ?_)
  refine lv_aload_n hx hb dX2_init_34 rfl (lv_at hl 0 rfl) ?_
  refine lv_iload_n hx hb dX2_init_35 rfl (lv_at hl 1 rfl) ?_
  refine oo_put S G (k_cl hk) (k_in hk) (kTy k) (k_ty hk) (k_nm hk) (r := 10) (by decide) rfl (by simp only [List.length_set]; exact hfs) 0 (Nat.lt_of_lt_of_le (by decide) (k_11 k)) (index := 27) (ref := RX2) (by rw [k_T k hk 0 (by decide)]; exact q202) (by rw [k_T k hk 0 (by decide)]; exact fun x h => h) (Or.inr ⟨by rw [k_T k hk 0 (by decide)]; rfl, hin, by rw [k_T k hk 0 (by decide)]; rfl⟩) (by rw [k_Ty k hk 0 (by decide)]; rfl) (by rw [k_Ty k hk 0 (by decide)]; rfl) dX2_init_36 (fun H locs G => ?_)
  refine lv_aload_n hx hb dX2_init_39 rfl (lv_at hl 0 rfl) ?_
  refine lv_dload_n hx hb dX2_init_40 rfl (lv_at hl 2 rfl) ?_
  refine oo_put S G (k_cl hk) (k_in hk) (kTy k) (k_ty hk) (k_nm hk) (r := 10) (by decide) rfl (by simp only [List.length_set]; exact hfs) 1 (Nat.lt_of_lt_of_le (by decide) (k_11 k)) (index := 30) (ref := RX2) (by rw [k_T k hk 1 (by decide)]; exact q204) (by rw [k_T k hk 1 (by decide)]; exact fun x h => h) (Or.inl (by rw [k_T k hk 1 (by decide)]; rfl)) (by rw [k_Ty k hk 1 (by decide)]; rfl) (by rw [k_Ty k hk 1 (by decide)]; rfl) dX2_init_41 (fun H locs G => ?_)
  refine lv_iconst (v := nI 0) hx hb dX2_init_44 (by decide) ?_
  refine lv_istore (lv' := [(4, .int (nI 0)), (0, .ref a), (1, .int (nI k)), (2, .double s)]) hx hb dX2_init_45 hl (by decide) rfl (fun ls hl => ?_)
  exact L1 7 0 q1 q2 q3 (by omega) (by omega) H locs ls (wG_e (cw_ext rfl rfl rfl rfl rfl rfl (fun r h0 h1 h2 h3 h4 h5 => by simp [cw0, cw1, wr_s, h0, h1, h2, h3, h4, h5])) G) (lv_sub hl [0, 1] rfl)
theorem ct_X5_init (l : Launch) (D : va_G) (dA : Nat → ClassId) (k a : Nat) (s : UInt64) (fs : List Value) (hk : k < 14) (hfs : fs.length = kN k) : gN l D dA yX5_init cX5_init 4 none 2 3 18 [.ref a, .int (nI k), .double s] (cw0 k a fs) (fun o w' => o = none ∧ ∃ q1 q2 q3, w' = cw1 dA k a (mfs fs k s q1 q2 q3) q1 q2 q3 (fun _ => -1)) := by
  refine ww_start (own := RX5) (by decide) rfl (Nat.le_of_ble_eq_true rfl) ?_
  intro p0 e0 s0 mid bl0 me0 co0 ls S hr hlk hin G hl
  have hx := S.1; have hb := S.2.1; have hml := S.2.2.1; have hown := S.2.2.2.1; have hts := S.2.2.2.2
  have hA : ∀ q, s0.heap.size ≤ q → xB (gA (cw0 k a fs)) s0.heap.size q := fun q h => Or.inr h
  have hl : lv_has ls 4 [(0, .ref a), (1, .int (nI k)), (2, .double s)] := hl
  refine lv_aload_n hx hb dX5_init_0 rfl (lv_at hl 0 rfl) ?_
  refine lv_iload_n hx hb dX5_init_1 rfl (lv_at hl 1 rfl) ?_
  refine lv_dload_n hx hb dX5_init_2 rfl (lv_at hl 2 rfl) ?_
  refine ww_callI (As := [.int (nI k), .double s]) (rest := []) S G hA (ct_X2_init l D dA k a s fs hk hfs) q283 q198 q58 q199 rfl hc_X2_init ⟨Nat.le_of_ble_eq_true rfl, Nat.le_of_ble_eq_true rfl⟩ rfl hl.1 rfl (Nat.le_of_ble_eq_true rfl) dX5_init_3 ⟨(show 0 + 3 ≤ 3 by omega), (show 0 + 18 ≤ 18 by omega)⟩ (fun o_ w1 H locs hp G _ _ _ => ?_)
  obtain ⟨rfl, q1, q2, q3, rfl⟩ := hp
  refine W.eq (g2 := F0 mid 6 ls []) rfl ?_
  exact ww_vretN S hr hlk G (by omega) (by omega) ⟨rfl, q1, q2, q3, rfl⟩ dX5_init_6
theorem ct_X3_init (l : Launch) (D : va_G) (dA : Nat → ClassId) (a : Nat) (s : UInt64) (fs : List Value) (hfs : fs.length = kN 0) : gN l D dA yX3_init cX3_init 4 none 3 3 18 [.ref a, .int (nI 0), .double s] (cw0 0 a fs) (fun o w' => o = none ∧ ∃ q1 q2 q3, w' = cw1 dA 0 a (mfs fs 0 s q1 q2 q3) q1 q2 q3 (fun _ => -1)) := by
  refine ww_start (own := RX3) (by decide) rfl (Nat.le_of_ble_eq_true rfl) ?_
  intro p0 e0 s0 mid bl0 me0 co0 ls S hr hlk hin G hl
  have hx := S.1; have hb := S.2.1; have hml := S.2.2.1; have hown := S.2.2.2.1; have hts := S.2.2.2.2
  have hA : ∀ q, s0.heap.size ≤ q → xB (gA (cw0 0 a fs)) s0.heap.size q := fun q h => Or.inr h
  have hl : lv_has ls 4 [(0, .ref a), (1, .int (nI 0)), (2, .double s)] := hl
  refine lv_aload_n hx hb dX3_init_0 rfl (lv_at hl 0 rfl) ?_
  refine lv_iload_n hx hb dX3_init_1 rfl (lv_at hl 1 rfl) ?_
  refine lv_dload_n hx hb dX3_init_2 rfl (lv_at hl 2 rfl) ?_
  refine ww_callI (As := [.int (nI 0), .double s]) (rest := []) S G hA (ct_X2_init l D dA 0 a s fs (by decide) hfs) q197 q198 q58 q199 rfl hc_X2_init ⟨Nat.le_of_ble_eq_true rfl, Nat.le_of_ble_eq_true rfl⟩ rfl hl.1 rfl (Nat.le_of_ble_eq_true rfl) dX3_init_3 ⟨(show 0 + 3 ≤ 3 by omega), (show 0 + 18 ≤ 18 by omega)⟩ (fun o_ w1 H locs hp G _ _ _ => ?_)
  obtain ⟨rfl, q1, q2, q3, rfl⟩ := hp
  refine W.eq (g2 := F0 mid 6 ls []) rfl ?_
  exact ww_vretN S hr hlk G (by omega) (by omega) ⟨rfl, q1, q2, q3, rfl⟩ dX3_init_6
theorem ct_X4_init (l : Launch) (D : va_G) (dA : Nat → ClassId) (a : Nat) (s : UInt64) (fs : List Value) (hfs : fs.length = kN 1) : gN l D dA yX4_init cX4_init 4 none 3 3 18 [.ref a, .int (nI 1), .double s] (cw0 1 a fs) (fun o w' => o = none ∧ ∃ q1 q2 q3, w' = cw1 dA 1 a (mfs fs 1 s q1 q2 q3) q1 q2 q3 (fun _ => -1)) := by
  refine ww_start (own := RX4) (by decide) rfl (Nat.le_of_ble_eq_true rfl) ?_
  intro p0 e0 s0 mid bl0 me0 co0 ls S hr hlk hin G hl
  have hx := S.1; have hb := S.2.1; have hml := S.2.2.1; have hown := S.2.2.2.1; have hts := S.2.2.2.2
  have hA : ∀ q, s0.heap.size ≤ q → xB (gA (cw0 1 a fs)) s0.heap.size q := fun q h => Or.inr h
  have hl : lv_has ls 4 [(0, .ref a), (1, .int (nI 1)), (2, .double s)] := hl
  refine lv_aload_n hx hb dX4_init_0 rfl (lv_at hl 0 rfl) ?_
  refine lv_iload_n hx hb dX4_init_1 rfl (lv_at hl 1 rfl) ?_
  refine lv_dload_n hx hb dX4_init_2 rfl (lv_at hl 2 rfl) ?_
  refine ww_callI (As := [.int (nI 1), .double s]) (rest := []) S G hA (ct_X2_init l D dA 1 a s fs (by decide) hfs) q262 q198 q58 q199 rfl hc_X2_init ⟨Nat.le_of_ble_eq_true rfl, Nat.le_of_ble_eq_true rfl⟩ rfl hl.1 rfl (Nat.le_of_ble_eq_true rfl) dX4_init_3 ⟨(show 0 + 3 ≤ 3 by omega), (show 0 + 18 ≤ 18 by omega)⟩ (fun o_ w1 H locs hp G _ _ _ => ?_)
  obtain ⟨rfl, q1, q2, q3, rfl⟩ := hp
  refine W.eq (g2 := F0 mid 6 ls []) rfl ?_
  exact ww_vretN S hr hlk G (by omega) (by omega) ⟨rfl, q1, q2, q3, rfl⟩ dX4_init_6
theorem ct_X7_init (l : Launch) (D : va_G) (dA : Nat → ClassId) (a : Nat) (s : UInt64) (fs : List Value) (hfs : fs.length = kN 3) : gN l D dA yX7_init cX7_init 4 none 3 3 18 [.ref a, .int (nI 3), .double s] (cw0 3 a fs) (fun o w' => o = none ∧ ∃ q1 q2 q3, w' = cw1 dA 3 a (mfs fs 3 s q1 q2 q3) q1 q2 q3 (fun _ => -1)) := by
  refine ww_start (own := RX7) (by decide) rfl (Nat.le_of_ble_eq_true rfl) ?_
  intro p0 e0 s0 mid bl0 me0 co0 ls S hr hlk hin G hl
  have hx := S.1; have hb := S.2.1; have hml := S.2.2.1; have hown := S.2.2.2.1; have hts := S.2.2.2.2
  have hA : ∀ q, s0.heap.size ≤ q → xB (gA (cw0 3 a fs)) s0.heap.size q := fun q h => Or.inr h
  have hl : lv_has ls 4 [(0, .ref a), (1, .int (nI 3)), (2, .double s)] := hl
  refine lv_aload_n hx hb dX7_init_0 rfl (lv_at hl 0 rfl) ?_
  refine lv_iload_n hx hb dX7_init_1 rfl (lv_at hl 1 rfl) ?_
  refine lv_dload_n hx hb dX7_init_2 rfl (lv_at hl 2 rfl) ?_
  refine ww_callI (As := [.int (nI 3), .double s]) (rest := []) S G hA (ct_X5_init l D dA 3 a s fs (by decide) hfs) q339 q281 q61 q282 rfl hc_X5_init ⟨Nat.le_of_ble_eq_true rfl, Nat.le_of_ble_eq_true rfl⟩ rfl hl.1 rfl (Nat.le_of_ble_eq_true rfl) dX7_init_3 ⟨(show 0 + 3 ≤ 3 by omega), (show 0 + 18 ≤ 18 by omega)⟩ (fun o_ w1 H locs hp G _ _ _ => ?_)
  obtain ⟨rfl, q1, q2, q3, rfl⟩ := hp
  refine W.eq (g2 := F0 mid 6 ls []) rfl ?_
  exact ww_vretN S hr hlk G (by omega) (by omega) ⟨rfl, q1, q2, q3, rfl⟩ dX7_init_6
theorem ct_X8_init (l : Launch) (D : va_G) (dA : Nat → ClassId) (a : Nat) (s : UInt64) (fs : List Value) (hfs : fs.length = kN 4) : gN l D dA yX8_init cX8_init 4 none 3 3 18 [.ref a, .int (nI 4), .double s] (cw0 4 a fs) (fun o w' => o = none ∧ ∃ q1 q2 q3, w' = cw1 dA 4 a (mfs fs 4 s q1 q2 q3) q1 q2 q3 (fun _ => -1)) := by
  refine ww_start (own := RX8) (by decide) rfl (Nat.le_of_ble_eq_true rfl) ?_
  intro p0 e0 s0 mid bl0 me0 co0 ls S hr hlk hin G hl
  have hx := S.1; have hb := S.2.1; have hml := S.2.2.1; have hown := S.2.2.2.1; have hts := S.2.2.2.2
  have hA : ∀ q, s0.heap.size ≤ q → xB (gA (cw0 4 a fs)) s0.heap.size q := fun q h => Or.inr h
  have hl : lv_has ls 4 [(0, .ref a), (1, .int (nI 4)), (2, .double s)] := hl
  refine lv_aload_n hx hb dX8_init_0 rfl (lv_at hl 0 rfl) ?_
  refine lv_iload_n hx hb dX8_init_1 rfl (lv_at hl 1 rfl) ?_
  refine lv_dload_n hx hb dX8_init_2 rfl (lv_at hl 2 rfl) ?_
  refine ww_callI (As := [.int (nI 4), .double s]) (rest := []) S G hA (ct_X2_init l D dA 4 a s fs (by decide) hfs) q365 q198 q58 q199 rfl hc_X2_init ⟨Nat.le_of_ble_eq_true rfl, Nat.le_of_ble_eq_true rfl⟩ rfl hl.1 rfl (Nat.le_of_ble_eq_true rfl) dX8_init_3 ⟨(show 0 + 3 ≤ 3 by omega), (show 0 + 18 ≤ 18 by omega)⟩ (fun o_ w1 H locs hp G _ _ _ => ?_)
  obtain ⟨rfl, q1, q2, q3, rfl⟩ := hp
  refine W.eq (g2 := F0 mid 6 ls []) rfl ?_
  exact ww_vretN S hr hlk G (by omega) (by omega) ⟨rfl, q1, q2, q3, rfl⟩ dX8_init_6
theorem ct_X9_init (l : Launch) (D : va_G) (dA : Nat → ClassId) (a : Nat) (s : UInt64) (fs : List Value) (hfs : fs.length = kN 5) : gN l D dA yX9_init cX9_init 4 none 3 3 18 [.ref a, .int (nI 5), .double s] (cw0 5 a fs) (fun o w' => o = none ∧ ∃ q1 q2 q3, w' = cw1 dA 5 a (mfs fs 5 s q1 q2 q3) q1 q2 q3 (fun _ => -1)) := by
  refine ww_start (own := RX9) (by decide) rfl (Nat.le_of_ble_eq_true rfl) ?_
  intro p0 e0 s0 mid bl0 me0 co0 ls S hr hlk hin G hl
  have hx := S.1; have hb := S.2.1; have hml := S.2.2.1; have hown := S.2.2.2.1; have hts := S.2.2.2.2
  have hA : ∀ q, s0.heap.size ≤ q → xB (gA (cw0 5 a fs)) s0.heap.size q := fun q h => Or.inr h
  have hl : lv_has ls 4 [(0, .ref a), (1, .int (nI 5)), (2, .double s)] := hl
  refine lv_aload_n hx hb dX9_init_0 rfl (lv_at hl 0 rfl) ?_
  refine lv_iload_n hx hb dX9_init_1 rfl (lv_at hl 1 rfl) ?_
  refine lv_dload_n hx hb dX9_init_2 rfl (lv_at hl 2 rfl) ?_
  refine ww_callI (As := [.int (nI 5), .double s]) (rest := []) S G hA (ct_X2_init l D dA 5 a s fs (by decide) hfs) q383 q198 q58 q199 rfl hc_X2_init ⟨Nat.le_of_ble_eq_true rfl, Nat.le_of_ble_eq_true rfl⟩ rfl hl.1 rfl (Nat.le_of_ble_eq_true rfl) dX9_init_3 ⟨(show 0 + 3 ≤ 3 by omega), (show 0 + 18 ≤ 18 by omega)⟩ (fun o_ w1 H locs hp G _ _ _ => ?_)
  obtain ⟨rfl, q1, q2, q3, rfl⟩ := hp
  refine W.eq (g2 := F0 mid 6 ls []) rfl ?_
  exact ww_vretN S hr hlk G (by omega) (by omega) ⟨rfl, q1, q2, q3, rfl⟩ dX9_init_6
theorem ct_X10_init (l : Launch) (D : va_G) (dA : Nat → ClassId) (a : Nat) (s : UInt64) (fs : List Value) (hfs : fs.length = kN 6) : gN l D dA yX10_init cX10_init 4 none 3 3 18 [.ref a, .int (nI 6), .double s] (cw0 6 a fs) (fun o w' => o = none ∧ ∃ q1 q2 q3, w' = cw1 dA 6 a (mfs fs 6 s q1 q2 q3) q1 q2 q3 (fun _ => -1)) := by
  refine ww_start (own := RX10) (by decide) rfl (Nat.le_of_ble_eq_true rfl) ?_
  intro p0 e0 s0 mid bl0 me0 co0 ls S hr hlk hin G hl
  have hx := S.1; have hb := S.2.1; have hml := S.2.2.1; have hown := S.2.2.2.1; have hts := S.2.2.2.2
  have hA : ∀ q, s0.heap.size ≤ q → xB (gA (cw0 6 a fs)) s0.heap.size q := fun q h => Or.inr h
  have hl : lv_has ls 4 [(0, .ref a), (1, .int (nI 6)), (2, .double s)] := hl
  refine lv_aload_n hx hb dX10_init_0 rfl (lv_at hl 0 rfl) ?_
  refine lv_iload_n hx hb dX10_init_1 rfl (lv_at hl 1 rfl) ?_
  refine lv_dload_n hx hb dX10_init_2 rfl (lv_at hl 2 rfl) ?_
  refine ww_callI (As := [.int (nI 6), .double s]) (rest := []) S G hA (ct_X2_init l D dA 6 a s fs (by decide) hfs) q401 q198 q58 q199 rfl hc_X2_init ⟨Nat.le_of_ble_eq_true rfl, Nat.le_of_ble_eq_true rfl⟩ rfl hl.1 rfl (Nat.le_of_ble_eq_true rfl) dX10_init_3 ⟨(show 0 + 3 ≤ 3 by omega), (show 0 + 18 ≤ 18 by omega)⟩ (fun o_ w1 H locs hp G _ _ _ => ?_)
  obtain ⟨rfl, q1, q2, q3, rfl⟩ := hp
  refine W.eq (g2 := F0 mid 6 ls []) rfl ?_
  exact ww_vretN S hr hlk G (by omega) (by omega) ⟨rfl, q1, q2, q3, rfl⟩ dX10_init_6
theorem ct_X12_init (l : Launch) (D : va_G) (dA : Nat → ClassId) (a : Nat) (s : UInt64) (fs : List Value) (hfs : fs.length = kN 8) : gN l D dA yX12_init cX12_init 4 none 3 3 18 [.ref a, .int (nI 8), .double s] (cw0 8 a fs) (fun o w' => o = none ∧ ∃ q1 q2 q3, w' = cw1 dA 8 a (mfs fs 8 s q1 q2 q3) q1 q2 q3 (fun _ => -1)) := by
  refine ww_start (own := RX12) (by decide) rfl (Nat.le_of_ble_eq_true rfl) ?_
  intro p0 e0 s0 mid bl0 me0 co0 ls S hr hlk hin G hl
  have hx := S.1; have hb := S.2.1; have hml := S.2.2.1; have hown := S.2.2.2.1; have hts := S.2.2.2.2
  have hA : ∀ q, s0.heap.size ≤ q → xB (gA (cw0 8 a fs)) s0.heap.size q := fun q h => Or.inr h
  have hl : lv_has ls 4 [(0, .ref a), (1, .int (nI 8)), (2, .double s)] := hl
  refine lv_aload_n hx hb dX12_init_0 rfl (lv_at hl 0 rfl) ?_
  refine lv_iload_n hx hb dX12_init_1 rfl (lv_at hl 1 rfl) ?_
  refine lv_dload_n hx hb dX12_init_2 rfl (lv_at hl 2 rfl) ?_
  refine ww_callI (As := [.int (nI 8), .double s]) (rest := []) S G hA (ct_X2_init l D dA 8 a s fs (by decide) hfs) q449 q198 q58 q199 rfl hc_X2_init ⟨Nat.le_of_ble_eq_true rfl, Nat.le_of_ble_eq_true rfl⟩ rfl hl.1 rfl (Nat.le_of_ble_eq_true rfl) dX12_init_3 ⟨(show 0 + 3 ≤ 3 by omega), (show 0 + 18 ≤ 18 by omega)⟩ (fun o_ w1 H locs hp G _ _ _ => ?_)
  obtain ⟨rfl, q1, q2, q3, rfl⟩ := hp
  refine W.eq (g2 := F0 mid 6 ls []) rfl ?_
  exact ww_vretN S hr hlk G (by omega) (by omega) ⟨rfl, q1, q2, q3, rfl⟩ dX12_init_6
theorem ct_X13_init (l : Launch) (D : va_G) (dA : Nat → ClassId) (a : Nat) (s : UInt64) (fs : List Value) (hfs : fs.length = kN 9) : gN l D dA yX13_init cX13_init 4 none 3 3 18 [.ref a, .int (nI 9), .double s] (cw0 9 a fs) (fun o w' => o = none ∧ ∃ q1 q2 q3, w' = cw1 dA 9 a (mfs fs 9 s q1 q2 q3) q1 q2 q3 (fun _ => -1)) := by
  refine ww_start (own := RX13) (by decide) rfl (Nat.le_of_ble_eq_true rfl) ?_
  intro p0 e0 s0 mid bl0 me0 co0 ls S hr hlk hin G hl
  have hx := S.1; have hb := S.2.1; have hml := S.2.2.1; have hown := S.2.2.2.1; have hts := S.2.2.2.2
  have hA : ∀ q, s0.heap.size ≤ q → xB (gA (cw0 9 a fs)) s0.heap.size q := fun q h => Or.inr h
  have hl : lv_has ls 4 [(0, .ref a), (1, .int (nI 9)), (2, .double s)] := hl
  refine lv_aload_n hx hb dX13_init_0 rfl (lv_at hl 0 rfl) ?_
  refine lv_iload_n hx hb dX13_init_1 rfl (lv_at hl 1 rfl) ?_
  refine lv_dload_n hx hb dX13_init_2 rfl (lv_at hl 2 rfl) ?_
  refine ww_callI (As := [.int (nI 9), .double s]) (rest := []) S G hA (ct_X2_init l D dA 9 a s fs (by decide) hfs) q467 q198 q58 q199 rfl hc_X2_init ⟨Nat.le_of_ble_eq_true rfl, Nat.le_of_ble_eq_true rfl⟩ rfl hl.1 rfl (Nat.le_of_ble_eq_true rfl) dX13_init_3 ⟨(show 0 + 3 ≤ 3 by omega), (show 0 + 18 ≤ 18 by omega)⟩ (fun o_ w1 H locs hp G _ _ _ => ?_)
  obtain ⟨rfl, q1, q2, q3, rfl⟩ := hp
  refine W.eq (g2 := F0 mid 6 ls []) rfl ?_
  exact ww_vretN S hr hlk G (by omega) (by omega) ⟨rfl, q1, q2, q3, rfl⟩ dX13_init_6
theorem ct_X14_init (l : Launch) (D : va_G) (dA : Nat → ClassId) (a : Nat) (s : UInt64) (fs : List Value) (hfs : fs.length = kN 10) : gN l D dA yX14_init cX14_init 4 none 3 3 18 [.ref a, .int (nI 10), .double s] (cw0 10 a fs) (fun o w' => o = none ∧ ∃ q1 q2 q3, w' = cw1 dA 10 a (mfs fs 10 s q1 q2 q3) q1 q2 q3 (fun _ => -1)) := by
  refine ww_start (own := RX14) (by decide) rfl (Nat.le_of_ble_eq_true rfl) ?_
  intro p0 e0 s0 mid bl0 me0 co0 ls S hr hlk hin G hl
  have hx := S.1; have hb := S.2.1; have hml := S.2.2.1; have hown := S.2.2.2.1; have hts := S.2.2.2.2
  have hA : ∀ q, s0.heap.size ≤ q → xB (gA (cw0 10 a fs)) s0.heap.size q := fun q h => Or.inr h
  have hl : lv_has ls 4 [(0, .ref a), (1, .int (nI 10)), (2, .double s)] := hl
  refine lv_aload_n hx hb dX14_init_0 rfl (lv_at hl 0 rfl) ?_
  refine lv_iload_n hx hb dX14_init_1 rfl (lv_at hl 1 rfl) ?_
  refine lv_dload_n hx hb dX14_init_2 rfl (lv_at hl 2 rfl) ?_
  refine ww_callI (As := [.int (nI 10), .double s]) (rest := []) S G hA (ct_X2_init l D dA 10 a s fs (by decide) hfs) q485 q198 q58 q199 rfl hc_X2_init ⟨Nat.le_of_ble_eq_true rfl, Nat.le_of_ble_eq_true rfl⟩ rfl hl.1 rfl (Nat.le_of_ble_eq_true rfl) dX14_init_3 ⟨(show 0 + 3 ≤ 3 by omega), (show 0 + 18 ≤ 18 by omega)⟩ (fun o_ w1 H locs hp G _ _ _ => ?_)
  obtain ⟨rfl, q1, q2, q3, rfl⟩ := hp
  refine W.eq (g2 := F0 mid 6 ls []) rfl ?_
  exact ww_vretN S hr hlk G (by omega) (by omega) ⟨rfl, q1, q2, q3, rfl⟩ dX14_init_6
theorem ct_X15_init (l : Launch) (D : va_G) (dA : Nat → ClassId) (a : Nat) (s : UInt64) (fs : List Value) (hfs : fs.length = kN 11) : gN l D dA yX15_init cX15_init 4 none 3 3 18 [.ref a, .int (nI 11), .double s] (cw0 11 a fs) (fun o w' => o = none ∧ ∃ q1 q2 q3, w' = cw1 dA 11 a (mfs fs 11 s q1 q2 q3) q1 q2 q3 (fun _ => -1)) := by
  refine ww_start (own := RX15) (by decide) rfl (Nat.le_of_ble_eq_true rfl) ?_
  intro p0 e0 s0 mid bl0 me0 co0 ls S hr hlk hin G hl
  have hx := S.1; have hb := S.2.1; have hml := S.2.2.1; have hown := S.2.2.2.1; have hts := S.2.2.2.2
  have hA : ∀ q, s0.heap.size ≤ q → xB (gA (cw0 11 a fs)) s0.heap.size q := fun q h => Or.inr h
  have hl : lv_has ls 4 [(0, .ref a), (1, .int (nI 11)), (2, .double s)] := hl
  refine lv_aload_n hx hb dX15_init_0 rfl (lv_at hl 0 rfl) ?_
  refine lv_iload_n hx hb dX15_init_1 rfl (lv_at hl 1 rfl) ?_
  refine lv_dload_n hx hb dX15_init_2 rfl (lv_at hl 2 rfl) ?_
  refine ww_callI (As := [.int (nI 11), .double s]) (rest := []) S G hA (ct_X5_init l D dA 11 a s fs (by decide) hfs) q503 q281 q61 q282 rfl hc_X5_init ⟨Nat.le_of_ble_eq_true rfl, Nat.le_of_ble_eq_true rfl⟩ rfl hl.1 rfl (Nat.le_of_ble_eq_true rfl) dX15_init_3 ⟨(show 0 + 3 ≤ 3 by omega), (show 0 + 18 ≤ 18 by omega)⟩ (fun o_ w1 H locs hp G _ _ _ => ?_)
  obtain ⟨rfl, q1, q2, q3, rfl⟩ := hp
  refine W.eq (g2 := F0 mid 6 ls []) rfl ?_
  exact ww_vretN S hr hlk G (by omega) (by omega) ⟨rfl, q1, q2, q3, rfl⟩ dX15_init_6
theorem ct_X16_init (l : Launch) (D : va_G) (dA : Nat → ClassId) (a : Nat) (s : UInt64) (fs : List Value) (hfs : fs.length = kN 12) : gN l D dA yX16_init cX16_init 4 none 3 3 18 [.ref a, .int (nI 12), .double s] (cw0 12 a fs) (fun o w' => o = none ∧ ∃ q1 q2 q3, w' = cw1 dA 12 a (mfs fs 12 s q1 q2 q3) q1 q2 q3 (fun _ => -1)) := by
  refine ww_start (own := RX16) (by decide) rfl (Nat.le_of_ble_eq_true rfl) ?_
  intro p0 e0 s0 mid bl0 me0 co0 ls S hr hlk hin G hl
  have hx := S.1; have hb := S.2.1; have hml := S.2.2.1; have hown := S.2.2.2.1; have hts := S.2.2.2.2
  have hA : ∀ q, s0.heap.size ≤ q → xB (gA (cw0 12 a fs)) s0.heap.size q := fun q h => Or.inr h
  have hl : lv_has ls 4 [(0, .ref a), (1, .int (nI 12)), (2, .double s)] := hl
  refine lv_aload_n hx hb dX16_init_0 rfl (lv_at hl 0 rfl) ?_
  refine lv_iload_n hx hb dX16_init_1 rfl (lv_at hl 1 rfl) ?_
  refine lv_dload_n hx hb dX16_init_2 rfl (lv_at hl 2 rfl) ?_
  refine ww_callI (As := [.int (nI 12), .double s]) (rest := []) S G hA (ct_X2_init l D dA 12 a s fs (by decide) hfs) q535 q198 q58 q199 rfl hc_X2_init ⟨Nat.le_of_ble_eq_true rfl, Nat.le_of_ble_eq_true rfl⟩ rfl hl.1 rfl (Nat.le_of_ble_eq_true rfl) dX16_init_3 ⟨(show 0 + 3 ≤ 3 by omega), (show 0 + 18 ≤ 18 by omega)⟩ (fun o_ w1 H locs hp G _ _ _ => ?_)
  obtain ⟨rfl, q1, q2, q3, rfl⟩ := hp
  refine W.eq (g2 := F0 mid 6 ls []) rfl ?_
  exact ww_vretN S hr hlk G (by omega) (by omega) ⟨rfl, q1, q2, q3, rfl⟩ dX16_init_6
theorem ct_X17_init (l : Launch) (D : va_G) (dA : Nat → ClassId) (a : Nat) (s : UInt64) (fs : List Value) (hfs : fs.length = kN 13) : gN l D dA yX17_init cX17_init 4 none 3 3 18 [.ref a, .int (nI 13), .double s] (cw0 13 a fs) (fun o w' => o = none ∧ ∃ q1 q2 q3, w' = cw1 dA 13 a (mfs fs 13 s q1 q2 q3) q1 q2 q3 (fun _ => -1)) := by
  refine ww_start (own := RX17) (by decide) rfl (Nat.le_of_ble_eq_true rfl) ?_
  intro p0 e0 s0 mid bl0 me0 co0 ls S hr hlk hin G hl
  have hx := S.1; have hb := S.2.1; have hml := S.2.2.1; have hown := S.2.2.2.1; have hts := S.2.2.2.2
  have hA : ∀ q, s0.heap.size ≤ q → xB (gA (cw0 13 a fs)) s0.heap.size q := fun q h => Or.inr h
  have hl : lv_has ls 4 [(0, .ref a), (1, .int (nI 13)), (2, .double s)] := hl
  refine lv_aload_n hx hb dX17_init_0 rfl (lv_at hl 0 rfl) ?_
  refine lv_iload_n hx hb dX17_init_1 rfl (lv_at hl 1 rfl) ?_
  refine lv_dload_n hx hb dX17_init_2 rfl (lv_at hl 2 rfl) ?_
  refine ww_callI (As := [.int (nI 13), .double s]) (rest := []) S G hA (ct_X5_init l D dA 13 a s fs (by decide) hfs) q553 q281 q61 q282 rfl hc_X5_init ⟨Nat.le_of_ble_eq_true rfl, Nat.le_of_ble_eq_true rfl⟩ rfl hl.1 rfl (Nat.le_of_ble_eq_true rfl) dX17_init_3 ⟨(show 0 + 3 ≤ 3 by omega), (show 0 + 18 ≤ 18 by omega)⟩ (fun o_ w1 H locs hp G _ _ _ => ?_)
  obtain ⟨rfl, q1, q2, q3, rfl⟩ := hp
  refine W.eq (g2 := F0 mid 6 ls []) rfl ?_
  exact ww_vretN S hr hlk G (by omega) (by omega) ⟨rfl, q1, q2, q3, rfl⟩ dX17_init_6
theorem ct_X6_init (l : Launch) (D : va_G) (dA : Nat → ClassId) (a : Nat) (s : UInt64) (fs : List Value) (hfs : fs.length = kN 2) : gN l D dA yX6_init cX6_init 4 none 3 5 26 [.ref a, .int (nI 2), .double s] (cw0 2 a fs) (fun o w' => o = none ∧ ∃ q1 q2 q3 q4 q5, w' = cw2 dA 2 a (((mfs fs 2 s q1 q2 q3).set 15 (.ref q4)).set 16 (.ref q5)) q1 q2 q3 q4 q5 (e_D (dA 2) 4 (fun _ => FP.dconst0)) (e_F (dA 3) 4 (fun _ => FP.fconst0))) := by
  refine ww_start (own := RX6) (by decide) rfl (Nat.le_of_ble_eq_true rfl) ?_
  intro p0 e0 s0 mid bl0 me0 co0 ls S hr hlk hin G hl
  have hx := S.1; have hb := S.2.1; have hml := S.2.2.1; have hown := S.2.2.2.1; have hts := S.2.2.2.2
  have hA : ∀ q, s0.heap.size ≤ q → xB (gA (cw0 2 a fs)) s0.heap.size q := fun q h => Or.inr h
  have hl : lv_has ls 4 [(0, .ref a), (1, .int (nI 2)), (2, .double s)] := hl
  refine lv_aload_n hx hb dX6_init_0 rfl (lv_at hl 0 rfl) ?_
  refine lv_iload_n hx hb dX6_init_1 rfl (lv_at hl 1 rfl) ?_
  refine lv_dload_n hx hb dX6_init_2 rfl (lv_at hl 2 rfl) ?_
  refine ww_callI (As := [.int (nI 2), .double s]) (rest := []) S G hA (ct_X5_init l D dA 2 a s fs (by decide) hfs) q280 q281 q61 q282 rfl hc_X5_init ⟨Nat.le_of_ble_eq_true rfl, Nat.le_of_ble_eq_true rfl⟩ rfl hl.1 rfl (Nat.le_of_ble_eq_true rfl) dX6_init_3 ⟨(show 0 + 3 ≤ 5 by omega), (show 0 + 18 ≤ 26 by omega)⟩ (fun o_ w1 H locs hp G _ _ _ => ?_)
  obtain ⟨rfl, q1, q2, q3, rfl⟩ := hp
  refine W.eq (g2 := F0 mid 6 ls []) rfl ?_
  refine lv_aload_n hx hb dX6_init_6 rfl (lv_at hl 0 rfl) ?_
  refine lv_iconst (v := nI 4) hx hb dX6_init_7 (by decide) ?_
  refine ww_newD S G hA (r := 14) (by decide) rfl (by omega) (show 0 + 3 + 1 ≤ 5 by omega) (show 0 + 18 + 4 ≤ 26 by omega) dX6_init_8 (fun q4 H G => ?_)
  refine oo_put S G (k_cl (k := 2) (by decide)) (k_in (by decide)) (kTy 2) (k_ty (by decide)) (k_nm (by decide)) (r := 10) (by decide) rfl (by rw [mfs_len]; exact hfs) 15 (by decide) (index := 7) (ref := RX6) q286 (fun x h => h) (Or.inr ⟨rfl, hin, rfl⟩) rfl rfl dX6_init_10 (fun H locs G => ?_)
  refine lv_aload_n hx hb dX6_init_13 rfl (lv_at hl 0 rfl) ?_
  refine lv_iconst (v := nI 4) hx hb dX6_init_14 (by decide) ?_
  refine ww_newF S G hA (r := 15) (by decide) rfl (by omega) (show 0 + 3 + 1 + 1 ≤ 5 by omega) (show 0 + 18 + 4 + 4 ≤ 26 by omega) dX6_init_15 (fun q5 H G => ?_)
  refine oo_put S G (k_cl (k := 2) (by decide)) (k_in (by decide)) (kTy 2) (k_ty (by decide)) (k_nm (by decide)) (r := 10) (by decide) rfl (by rw [List.length_set, mfs_len]; exact hfs) 16 (by decide) (index := 13) (ref := RX6) q287 (fun x h => h) (Or.inr ⟨rfl, hin, rfl⟩) rfl rfl dX6_init_17 (fun H locs G => ?_)
  refine ww_vretN S hr hlk G (by omega) (by omega) ⟨rfl, q1, q2, q3, q4, q5, ?_⟩ dX6_init_20
  exact cw_ext rfl rfl rfl rfl rfl rfl (fun r h0 h1 h2 h3 h4 h5 => by simp [cw2, cw1, wr_s, h0, h1, h2, h3, h4, h5])
theorem ct_X11_init (l : Launch) (D : va_G) (dA : Nat → ClassId) (a : Nat) (s : UInt64) (fs : List Value) (hfs : fs.length = kN 7) : gN l D dA yX11_init cX11_init 4 none 3 5 34 [.ref a, .int (nI 7), .double s] (cw0 7 a fs) (fun o w' => o = none ∧ ∃ q1 q2 q3 q4 q5, w' = cw2 dA 7 a (((mfs fs 7 s q1 q2 q3).set 11 (.ref q4)).set 12 (.ref q5)) q1 q2 q3 q4 q5 (e_D (dA 2) 8 (fun _ => FP.dconst0)) (e_D (dA 2) 8 (fun _ => FP.dconst0))) := by
  refine ww_start (own := RX11) (by decide) rfl (Nat.le_of_ble_eq_true rfl) ?_
  intro p0 e0 s0 mid bl0 me0 co0 ls S hr hlk hin G hl
  have hx := S.1; have hb := S.2.1; have hml := S.2.2.1; have hown := S.2.2.2.1; have hts := S.2.2.2.2
  have hA : ∀ q, s0.heap.size ≤ q → xB (gA (cw0 7 a fs)) s0.heap.size q := fun q h => Or.inr h
  have hl : lv_has ls 4 [(0, .ref a), (1, .int (nI 7)), (2, .double s)] := hl
  refine lv_aload_n hx hb dX11_init_0 rfl (lv_at hl 0 rfl) ?_
  refine lv_iload_n hx hb dX11_init_1 rfl (lv_at hl 1 rfl) ?_
  refine lv_dload_n hx hb dX11_init_2 rfl (lv_at hl 2 rfl) ?_
  refine ww_callI (As := [.int (nI 7), .double s]) (rest := []) S G hA (ct_X2_init l D dA 7 a s fs (by decide) hfs) q419 q198 q58 q199 rfl hc_X2_init ⟨Nat.le_of_ble_eq_true rfl, Nat.le_of_ble_eq_true rfl⟩ rfl hl.1 rfl (Nat.le_of_ble_eq_true rfl) dX11_init_3 ⟨(show 0 + 3 ≤ 5 by omega), (show 0 + 18 ≤ 34 by omega)⟩ (fun o_ w1 H locs hp G _ _ _ => ?_)
  obtain ⟨rfl, q1, q2, q3, rfl⟩ := hp
  refine W.eq (g2 := F0 mid 6 ls []) rfl ?_
  refine lv_aload_n hx hb dX11_init_6 rfl (lv_at hl 0 rfl) ?_
  refine lv_bipush (v := nI 8) hx hb dX11_init_7 (by decide) ?_
  refine ww_newD S G hA (r := 14) (by decide) rfl (by omega) (show 0 + 3 + 1 ≤ 5 by omega) (show 0 + 18 + 8 ≤ 34 by omega) dX11_init_9 (fun q4 H G => ?_)
  refine oo_put S G (k_cl (k := 7) (by decide)) (k_in (by decide)) (kTy 7) (k_ty (by decide)) (k_nm (by decide)) (r := 10) (by decide) rfl (by rw [mfs_len]; exact hfs) 11 (by decide) (index := 9) (ref := RX11) q420 (fun x h => h) (Or.inr ⟨rfl, hin, rfl⟩) rfl rfl dX11_init_11 (fun H locs G => ?_)
  refine lv_aload_n hx hb dX11_init_14 rfl (lv_at hl 0 rfl) ?_
  refine lv_bipush (v := nI 8) hx hb dX11_init_15 (by decide) ?_
  refine ww_newD S G hA (r := 15) (by decide) rfl (by omega) (show 0 + 3 + 1 + 1 ≤ 5 by omega) (show 0 + 18 + 8 + 8 ≤ 34 by omega) dX11_init_17 (fun q5 H G => ?_)
  refine oo_put S G (k_cl (k := 7) (by decide)) (k_in (by decide)) (kTy 7) (k_ty (by decide)) (k_nm (by decide)) (r := 10) (by decide) rfl (by rw [List.length_set, mfs_len]; exact hfs) 12 (by decide) (index := 15) (ref := RX11) q422 (fun x h => h) (Or.inr ⟨rfl, hin, rfl⟩) rfl rfl dX11_init_19 (fun H locs G => ?_)
  refine ww_vretN S hr hlk G (by omega) (by omega) ⟨rfl, q1, q2, q3, q4, q5, ?_⟩ dX11_init_22
  exact cw_ext rfl rfl rfl rfl rfl rfl (fun r h0 h1 h2 h3 h4 h5 => by simp [cw2, cw1, wr_s, h0, h1, h2, h3, h4, h5])
