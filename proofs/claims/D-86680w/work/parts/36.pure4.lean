/-! what the modules make: values -/
def a0D (C : tp_C) (rd : Nat → UInt64) (m i : Nat) : UInt64 := if (cF C m i).isSome then inD C rd m i else FP.dconst0
def a0F (C : tp_C) (rd : Nat → UInt32) (m i : Nat) : UInt32 := if (cF C m i).isSome then inF C rd m i else FP.fconst0
theorem a0_b {C : tp_C} {rd : Nat → UInt64} {m i : Nat} (h : ∀ k, bD 1075 (rd k)) : bD 1075 (a0D C rd m i) := by
  unfold a0D; split
  · exact in_b h
  · exact bD_0
theorem a0_bF {C : tp_C} {rd : Nat → UInt32} {m i : Nat} (h : ∀ k, bF 1075 (rd k)) : bF 1075 (a0F C rd m i) := by
  unfold a0F; split
  · exact in_bF h
  · exact bF_0
/-- tables -/
def tbP (X : Nat → UInt64) (a : UInt64) : Nat → Bool := fun k => !fx_le (X (k + 1)) a
def tbK (X : Nat → UInt64) (a : UInt64) : Nat := (fi_ (tbP X a) 8).getD 0
def tbV (X Y : Nat → UInt64) (k : Nat) (a : UInt64) : UInt64 := FP.dadd (FP.ddiv (FP.dmul (FP.dsub a (X k)) (FP.dsub (Y (k + 1)) (Y k))) (FP.dsub (X (k + 1)) (X k))) (Y k)
def tbD (C : tp_C) (m : Nat) (a : UInt64) : UInt64 := if fx_le a (cX C m 0) then cY C m 0 else if fx_ge a (cX C m (cP C m - 1)) then cY C m (cP C m - 1) else tbV (cX C m) (cY C m) (tbK (cX C m) a) a
def tfP (X : Nat → UInt32) (a : UInt32) : Nat → Bool := fun k => !fy_le (X (k + 1)) a
def tfK (X : Nat → UInt32) (a : UInt32) : Nat := (fi_ (tfP X a) 8).getD 0
def tfV (X Y : Nat → UInt32) (k : Nat) (a : UInt32) : UInt32 := FP.fadd (FP.fdiv (FP.fmul (FP.fsub a (X k)) (FP.fsub (Y (k + 1)) (Y k))) (FP.fsub (X (k + 1)) (X k))) (Y k)
def xF (C : tp_C) (m k : Nat) : UInt32 := FP.d2f (cX C m k)
def yF (C : tp_C) (m k : Nat) : UInt32 := FP.d2f (cY C m k)
def tbF (C : tp_C) (m : Nat) (a : UInt32) : UInt32 := if fy_le a (xF C m 0) then yF C m 0 else if fy_ge a (xF C m (cP C m - 1)) then yF C m (cP C m - 1) else tfV (xF C m) (yF C m) (tfK (xF C m) a) a
theorem xF_b {C : tp_C} (h : vOK C) (m k : Nat) : bF 1076 (xF C m k) := bF_d2f (h.x m k)
theorem yF_b {C : tp_C} (h : vOK C) (m k : Nat) : bF 1076 (yF C m k) := bF_d2f (h.y m k)
theorem fx_nge {K L : Nat} {a x : UInt64} (ha : bD K a) (hx : bD L x) (h : fx_ge a x = false) : fx_le x a = false := by
  rw [fx_ge_z (bD_f ha) (bD_f hx)] at h
  rw [fx_le_z (bD_f hx) (bD_f ha)]
  exact h
theorem fy_nge {K L : Nat} {a x : UInt32} (ha : bF K a) (hx : bF L x) (h : fy_ge a x = false) : fy_le x a = false := by
  rw [fy_ge_z (bF_f ha) (bF_f hx)] at h
  rw [fy_le_z (bF_f hx) (bF_f ha)]
  exact h
theorem fi_ex {p : Nat → Bool} {n k : Nat} (hk : k < n) (hp : p k = true) : ∃ i, i ≤ k ∧ fi_ p n = some i := by
  cases h : fi_ p n with
  | none => have := fi_inv0 h k hk; rw [hp] at this; cases this
  | some i =>
    obtain ⟨h1, h2, h3⟩ := fi_inv h
    refine ⟨i, ?_, rfl⟩
    rcases Nat.lt_or_ge k i with h4 | h4
    · have := h3 k h4; rw [hp] at this; cases this
    · exact h4
theorem tbK_lt {C : tp_C} {m : Nat} {a : UInt64} (hV : vOK C) (ha : bD 1075 a) (hP : 2 ≤ cP C m) (hP8 : cP C m ≤ 8) (h : fx_ge a (cX C m (cP C m - 1)) = false) : fi_ (tbP (cX C m) a) 8 = some (tbK (cX C m) a) ∧ tbK (cX C m) a + 1 < cP C m := by
  obtain ⟨i, h1, h2⟩ := fi_ex (p := tbP (cX C m) a) (n := 8) (k := cP C m - 2) (by omega) (by
    unfold tbP
    rw [show cP C m - 2 + 1 = cP C m - 1 by omega, fx_nge ha (hV.x m _) h]; rfl)
  unfold tbK
  rw [h2]
  exact ⟨rfl, by show i + 1 < _; omega⟩
theorem tfK_lt {C : tp_C} {m : Nat} {a : UInt32} (hV : vOK C) (ha : bF 1075 a) (hP : 2 ≤ cP C m) (hP8 : cP C m ≤ 8) (h : fy_ge a (xF C m (cP C m - 1)) = false) : fi_ (tfP (xF C m) a) 8 = some (tfK (xF C m) a) ∧ tfK (xF C m) a + 1 < cP C m := by
  obtain ⟨i, h1, h2⟩ := fi_ex (p := tfP (xF C m) a) (n := 8) (k := cP C m - 2) (by omega) (by
    unfold tfP
    rw [show cP C m - 2 + 1 = cP C m - 1 by omega, fy_nge ha (xF_b hV m _) h]; rfl)
  unfold tfK
  rw [h2]
  exact ⟨rfl, by show i + 1 < _; omega⟩
theorem tb_n1 {C : tp_C} {m k : Nat} {a : UInt64} (hV : vOK C) (ha : bD 1075 a) : bD 1081 (FP.dmul (FP.dsub a (cX C m k)) (FP.dsub (cY C m (k + 1)) (cY C m k))) := bD_mul (K := 1077) (L := 1077) (bD_sub ha (hV.x m k)) (bD_sub (hV.y m (k + 1)) (hV.y m k))
theorem tb_n2 {C : tp_C} {m k : Nat} {a : UInt64} (hV : vOK C) (ha : bD 1075 a) (hk : k + 1 < cP C m) : vf_n64 (FP.ddiv (FP.dmul (FP.dsub a (cX C m k)) (FP.dsub (cY C m (k + 1)) (cY C m k))) (FP.dsub (cX C m (k + 1)) (cX C m k))) := nD_div (bD_n (tb_n1 hV ha)) (nzD_lt (hV.x m k) (hV.x m (k + 1)) (hV.t hk).1)
theorem tb_n3 {C : tp_C} {m k : Nat} {a : UInt64} (hV : vOK C) (ha : bD 1075 a) (hk : k + 1 < cP C m) : vf_n64 (tbV (cX C m) (cY C m) k a) := nD_add (tb_n2 hV ha hk) (hV.y m k)
theorem tf_n1 {C : tp_C} {m k : Nat} {a : UInt32} (hV : vOK C) (ha : bF 1075 a) : bF 1083 (FP.fmul (FP.fsub a (xF C m k)) (FP.fsub (yF C m (k + 1)) (yF C m k))) := bF_mul (K := 1078) (L := 1078) (bF_sub (bF_up ha) (xF_b hV m k)) (bF_sub (yF_b hV m (k + 1)) (yF_b hV m k))
theorem tf_n2 {C : tp_C} {m k : Nat} {a : UInt32} (hV : vOK C) (ha : bF 1075 a) (hk : k + 1 < cP C m) : vf_n32 (FP.fdiv (FP.fmul (FP.fsub a (xF C m k)) (FP.fsub (yF C m (k + 1)) (yF C m k))) (FP.fsub (xF C m (k + 1)) (xF C m k))) := nF_div (bF_n (tf_n1 hV ha)) (nzF_lt (xF_b hV m k) (xF_b hV m (k + 1)) (hV.t hk).2)
theorem tf_n3 {C : tp_C} {m k : Nat} {a : UInt32} (hV : vOK C) (ha : bF 1075 a) (hk : k + 1 < cP C m) : vf_n32 (tfV (xF C m) (yF C m) k a) := nF_add (tf_n2 hV ha hk) (yF_b hV m k)
theorem tb_n {C : tp_C} {m : Nat} {a : UInt64} (hV : vOK C) (ha : bD 1075 a) (hP : 2 ≤ cP C m) (hP8 : cP C m ≤ 8) : vf_n64 (tbD C m a) := by
  unfold tbD
  split
  · exact bD_n (hV.y _ _)
  · split
    · exact bD_n (hV.y _ _)
    · rename_i h
      exact tb_n3 hV ha (tbK_lt hV ha hP hP8 (by simpa using h)).2
theorem tf_n {C : tp_C} {m : Nat} {a : UInt32} (hV : vOK C) (ha : bF 1075 a) (hP : 2 ≤ cP C m) (hP8 : cP C m ≤ 8) : vf_n32 (tbF C m a) := by
  unfold tbF
  split
  · exact bF_n (yF_b hV _ _)
  · split
    · exact bF_n (yF_b hV _ _)
    · rename_i h
      exact tf_n3 hV ha (tfK_lt hV ha hP hP8 (by simpa using h)).2
/-- roots: the number as m times an even power of two, m of 53 or 54 digits; two digits of m for each one of the root -/
def rtU : Nat → Nat → Nat
  | 0, _ => 0
  | u + 1, F => if F < 2 ^ 52 then rtU u (2 * F) + 1 else 0
def rtE (v : UInt64) : Int := if v.toNat / 2 ^ 52 = 0 then 1 - (rtU 53 (v.toNat % 2 ^ 52) : Int) - 1075 else (v.toNat / 2 ^ 52 : Int) - 1075
def rtM0 (v : UInt64) : Nat := if v.toNat / 2 ^ 52 = 0 then v.toNat % 2 ^ 52 * 2 ^ rtU 53 (v.toNat % 2 ^ 52) else v.toNat % 2 ^ 52 + 2 ^ 52
def rtM (v : UInt64) : Nat := if rtE v % 2 = 0 then rtM0 v else 2 * rtM0 v
def rtP (v : UInt64) : Int := if rtE v % 2 = 0 then rtE v else rtE v - 1
def rtS (m : Nat) : Nat → Nat × Nat → Nat × Nat := fun k a => if 4 * a.1 + 1 ≤ 4 * a.2 + (if k < 27 then m / 2 ^ (52 - 2 * k) % 4 else 0) then (2 * a.1 + 1, 4 * a.2 + (if k < 27 then m / 2 ^ (52 - 2 * k) % 4 else 0) - (4 * a.1 + 1)) else (2 * a.1, 4 * a.2 + (if k < 27 then m / 2 ^ (52 - 2 * k) % 4 else 0))
def rtQ (m n : Nat) : Nat × Nat := it_ (rtS m) n (0, 0)
def rtR (v : UInt64) : Nat := ((rtQ (rtM v) 54).1 + 1) / 2
def rtB (v : UInt64) : UInt64 := UInt64.ofNat ((rtP v / 2 - 26 + 1023).toNat * 2 ^ 52)
def rtD (v : UInt64) : UInt64 := if fx_eq v FP.dconst0 then v else FP.dmul (FP.l2d (lN (rtR v))) (rtB v)
/-- what root takes: a small number from 0 on -/
def rtOK (v : UInt64) : Prop := bD 1100 v ∧ fx_lt v FP.dconst0 = false
/-- what a module makes, by its kind -/
def mkD (C : tp_C) (d : md_T) (m : Nat) : UInt64 := match cK C m with
  | 0 => suD C (dAD d 19) m
  | 1 => FP.dneg (a0D C (dAD d 19) m 0)
  | 4 => FP.dmul (a0D C (dAD d 19) m 0) (a0D C (dAD d 19) m 1)
  | 5 => if fx_eq (a0D C (dAD d 19) m 1) FP.dconst0 then (if fx_eq (a0D C (dAD d 19) m 0) FP.dconst0 then FP.dconst0 else if fx_gt (a0D C (dAD d 19) m 0) FP.dconst0 then 4609434218613702656 else 13832806255468478464) else FP.ddiv (a0D C (dAD d 19) m 0) (a0D C (dAD d 19) m 1)
  | 6 => if fx_lt (a0D C (dAD d 19) m 0) FP.dconst0 then FP.dconst0 else rtD (a0D C (dAD d 19) m 0)
  | 7 => tbD C m (a0D C (dAD d 19) m 0)
  | 8 => if fx_gt (a0D C (dAD d 19) m 0) (a0D C (dAD d 19) m 1) then FP.dconst1 else 13830554455654793216
  | 9 => if fx_gt (inD C (dAD d 19) m 2) FP.dconst0 then a0D C (dAD d 19) m 0 else a0D C (dAD d 19) m 1
  | 10 => FP.dmul (a0D C (dAD d 19) m 0) (cS C m)
  | 11 => dAD d 21 (16 * m)
  | 12 => if fx_gt (a0D C (dAD d 19) m 0) (cS C m) then cS C m else if fx_lt (a0D C (dAD d 19) m 0) (FP.dneg (cS C m)) then FP.dneg (cS C m) else a0D C (dAD d 19) m 0
  | _ => dAD d 17 m
def mkL (C : tp_C) (d : md_T) (m : Nat) : md_T := match cK C m with
  | 5 => if fx_eq (a0D C (dAD d 19) m 1) FP.dconst0 && !fx_eq (a0D C (dAD d 19) m 0) FP.dconst0 then mLight d m else d
  | 6 => if fx_lt (a0D C (dAD d 19) m 0) FP.dconst0 then mLight d m else d
  | _ => d
def sF (C : tp_C) (m : Nat) : UInt32 := FP.d2f (cS C m)
def mkF (C : tp_C) (d : md_T) (m : Nat) : UInt32 := match cK C m with
  | 0 => suF C (dAF d 20) m
  | 1 => FP.fneg (a0F C (dAF d 20) m 0)
  | 4 => FP.fmul (a0F C (dAF d 20) m 0) (a0F C (dAF d 20) m 1)
  | 5 => if fy_eq (a0F C (dAF d 20) m 1) FP.fconst0 then (if fy_eq (a0F C (dAF d 20) m 0) FP.fconst0 then FP.fconst0 else if fy_gt (a0F C (dAF d 20) m 0) FP.fconst0 then 1069547520 else 3217031168) else FP.fdiv (a0F C (dAF d 20) m 0) (a0F C (dAF d 20) m 1)
  | 6 => if fy_lt (a0F C (dAF d 20) m 0) FP.fconst0 then FP.fconst0 else FP.d2f (rtD (FP.f2d (a0F C (dAF d 20) m 0)))
  | 7 => tbF C m (a0F C (dAF d 20) m 0)
  | 8 => if fy_gt (a0F C (dAF d 20) m 0) (a0F C (dAF d 20) m 1) then FP.fconst1 else 3212836864
  | 9 => if fy_gt (inF C (dAF d 20) m 2) FP.fconst0 then a0F C (dAF d 20) m 0 else a0F C (dAF d 20) m 1
  | 10 => FP.fmul (a0F C (dAF d 20) m 0) (sF C m)
  | 11 => dAF d 22 (16 * m)
  | 12 => if fy_gt (a0F C (dAF d 20) m 0) (sF C m) then sF C m else if fy_lt (a0F C (dAF d 20) m 0) (FP.fneg (sF C m)) then FP.fneg (sF C m) else a0F C (dAF d 20) m 0
  | _ => dAF d 18 m
def mkLF (C : tp_C) (d : md_T) (m : Nat) : md_T := match cK C m with
  | 5 => if fy_eq (a0F C (dAF d 20) m 1) FP.fconst0 && !fy_eq (a0F C (dAF d 20) m 0) FP.fconst0 then mLight d m else d
  | 6 => if fy_lt (a0F C (dAF d 20) m 0) FP.fconst0 then mLight d m else d
  | _ => d
/-- a module that can be read -/
def okM (C : tp_C) (m : Nat) : Prop := hiB C m = true ∧ (cK C m = 7 → 2 ≤ cP C m)
theorem okM_2 {C : tp_C} {m : Nat} (h : okM C m) (hk : cK C m = 9) : (cF C m 2).isSome = true := by
  have h1 := h.1
  unfold hiB at h1
  rw [hk] at h1
  have h1 : ((cF C m 0).isSome && ((cF C m 1).isSome && (cF C m 2).isSome)) = true := h1
  simp only [Bool.and_eq_true] at h1
  exact h1.2.2
section TP10
variable {p : Program} {l : Launch} {e : Env} {R : Room} {s : State} {m : MethodId} {args : Array Value} {below : List Frame} {meth : Method} {c : Code} {H : Heap} {locs : List Loc} {cells slots : Nat} {Q : State → Prop}
variable {cc : ByteArray} {pc : Nat} {ls : Array Slot} {rest : List Value}
theorem va_ldcwF {T : State} (X : Stand p l e R s m args below meth c T locs cells slots) (hexec : p.tables.exec = Jvm.exec) {own : String} {index : Nat} {v : UInt32} (hown : s.vm.findClass own = some m.cls)
    (hconst : (Cond.constantFloat own index v).before args s = true) {g : JFrame} (hg : g.method = m) (hdg : decode c.code g.pc = .ok (.ldc_w index, 3)) :
    ∀ target, Steps p.tables e below (T.setTop { g with pc := g.pc + 3, stack := .float v :: g.stack }) target → Steps p.tables e below (T.setTop g) target := by
  obtain ⟨k, cf, hk, hcf, hcp⟩ := Cond.constantFloat_spec hown hconst
  obtain ⟨k', hk', he⟩ := X.warmed.alike.2.2 _ _ hk
  intro target hrest
  subst hg
  jvm_step X.here [hexec, hdg, ldc_w.wp_float (s := T) (f := g) X.here.top hk' (by rw [he]; exact hcf) hcp]
  exact hrest
theorem lv_ldcfw (hexec : p.tables.exec = Jvm.exec) (hb : c.code = cc) {own : String} {index : Nat} {v : UInt32} (hown : s.vm.findClass own = some m.cls) (hconst : (Jvm.Cond.constantFloat own index v).before args s = true) (hdg : decode cc pc = .ok (.ldc_w index, 3)) (k : W p l e R s m args below meth c H locs cells slots Q (F0 m (pc + 3) ls (.float v :: rest))) : W p l e R s m args below meth c H locs cells slots Q (F0 m pc ls rest) := by
  intro T hT X
  obtain ⟨t, a, b⟩ := k T hT X
  exact ⟨t, va_ldcwF X hexec hown hconst (g := F0 m pc ls rest) rfl (by rw [hb]; exact hdg) t a, b⟩
end TP10
