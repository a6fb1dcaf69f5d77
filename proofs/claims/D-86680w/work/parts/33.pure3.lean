/-! patching, telling: pure answers and settings -/
theorem mOK.a {C : tp_C} (h : mOK C) (m : Nat) : cA C m ≤ 300 := h.2.2.2.2.1 m
theorem mOK.mo {C : tp_C} (h : mOK C) : cM C ≤ 2 := h.2.2.2.2.2.1
theorem mOK.r {C : tp_C} (h : mOK C) : cR C ≤ 2 := h.2.2.2.2.2.2.1
theorem mOK.hv {C : tp_C} (h : mOK C) : cH C ≤ 20 := h.2.2.2.2.2.2.2.1
theorem mOK.o {C : tp_C} (h : mOK C) {s : Nat} (hs : s < cZ C) : cO C s < cN C := h.2.2.2.2.2.2.2.2.2.1 s hs
theorem mOK.w {C : tp_C} (h : mOK C) : cW C ≤ 6 := h.2.2.2.2.2.2.2.2.2.2
/-- the settings' values: small, tables rise -/
def vOK (C : tp_C) : Prop := (∀ m, bD 1095 (cS C m)) ∧ (∀ m, bD 1075 (cB C m)) ∧ (∀ m i, bD 1075 (cX C m i)) ∧ (∀ m i, bD 1075 (cY C m i)) ∧ (∀ m i, i + 1 < cP C m → fx_lt (cX C m i) (cX C m (i + 1)) = true ∧ fy_lt (FP.d2f (cX C m i)) (FP.d2f (cX C m (i + 1))) = true)
theorem vOK.s {C : tp_C} (h : vOK C) (m : Nat) : bD 1095 (cS C m) := h.1 m
theorem vOK.b {C : tp_C} (h : vOK C) (m : Nat) : bD 1075 (cB C m) := h.2.1 m
theorem vOK.x {C : tp_C} (h : vOK C) (m i : Nat) : bD 1075 (cX C m i) := h.2.2.1 m i
theorem vOK.y {C : tp_C} (h : vOK C) (m i : Nat) : bD 1075 (cY C m i) := h.2.2.2.1 m i
theorem vOK.t {C : tp_C} (h : vOK C) {m i : Nat} (hi : i + 1 < cP C m) : fx_lt (cX C m i) (cX C m (i + 1)) = true ∧ fy_lt (FP.d2f (cX C m i)) (FP.d2f (cX C m (i + 1))) = true := h.2.2.2.2 m i hi
theorem tp_x {C : tp_C} {m i : Nat} (h : i < 8) : (fun j => cX C (j / 8) (j % 8)) (8 * m + i) = cX C m i := by
  show cX C ((8 * m + i) / 8) ((8 * m + i) % 8) = _
  rw [tp_d8 h, tp_m8 h]
theorem tp_y {C : tp_C} {m i : Nat} (h : i < 8) : (fun j => cY C (j / 8) (j % 8)) (8 * m + i) = cY C m i := by
  show cY C ((8 * m + i) / 8) ((8 * m + i) % 8) = _
  rw [tp_d8 h, tp_m8 h]
def smB (b : Int64) : Bool := nbB b && wiB b.toUInt64 13832806255468478464 4609434218613702656
theorem smB_nb {b : Int64} (h : smB b = true) : nbB b = true := by
  unfold smB at h; cases e : nbB b with
  | true => rfl
  | false => rw [e] at h; cases h
/-- a new module -/
def mdB (k : Int32) (s : Int64) : Bool := inB k (nI 0) (nI 13) && (nbB s && stB (ixN k) s.toUInt64)
def mdR (C : tp_C) (k : Int32) (s : Int64) : Int32 := if mdB k s then (if cM C = 0 then (if cN C = 20 then -104 else nI (cN C)) else -103) else -102
def mdC (C : tp_C) (k : Int32) (s : Int64) : tp_C := if mdB k s = true ∧ cM C = 0 ∧ ¬ cN C = 20 then wN (wS (wK C (vf_upd (cK C) (cN C) (ixN k))) (vf_upd (cS C) (cN C) s.toUInt64)) (cN C + 1) else C
/-- a cord -/
def oN (o : Int32) : Option Nat := if o = -1 then none else some (ixN o)
def cdB (C : tp_C) (m o : Int32) : Bool := imB C m && (decide (o = -1) || imB C o)
def cdR (C : tp_C) (m i o : Int32) : Int32 := if cdB C m o then (if inB i (nI 0) (nI 5) then (if cM C = 0 then nI 1 else -103) else -102) else -101
def cdC (C : tp_C) (m i o : Int32) (t : Bool) : tp_C := if cdB C m o = true ∧ inB i (nI 0) (nI 5) = true ∧ cM C = 0 then wT (wF C (up2 (cF C) (ixN m) (ixN i) (oN o))) (up2 (cT C) (ixN m) (ixN i) (t && !decide (o = -1))) else C
/-- a table's point -/
def ptB (C : tp_C) (m : Nat) (x y : Int64) : Bool := decide (cK C m = 7) && (smB x && smB y)
def ptU (C : tp_C) (m : Nat) (x : Int64) : Bool := decide (cP C m = 0) || (fx_gt x.toUInt64 (cX C m (cP C m - 1)) && fy_gt (FP.d2f x.toUInt64) (FP.d2f (cX C m (cP C m - 1))))
def ptR (C : tp_C) (m : Int32) (x y : Int64) : Int32 := if imB C m then (if ptB C (ixN m) x y then (if ptU C (ixN m) x then (if cM C = 0 then (if cP C (ixN m) = 8 then -104 else nI (cP C (ixN m) + 1)) else -103) else -102) else -102) else -101
def ptC (C : tp_C) (m : Int32) (x y : Int64) : tp_C := if imB C m = true ∧ ptB C (ixN m) x y = true ∧ ptU C (ixN m) x = true ∧ cM C = 0 ∧ ¬ cP C (ixN m) = 8 then wP (wY (wX C (up2 (cX C) (ixN m) (cP C (ixN m)) x.toUInt64)) (up2 (cY C) (ixN m) (cP C (ixN m)) y.toUInt64)) (vf_upd (cP C) (ixN m) (cP C (ixN m) + 1)) else C
/-- a beginning -/
def bgB (C : tp_C) (m : Nat) (v : Int64) : Bool := smB v && rmB (cK C m)
def bgR (C : tp_C) (m : Int32) (v : Int64) : Int32 := if imB C m then (if bgB C (ixN m) v then (if cM C = 0 then nI 1 else -103) else -102) else -101
def bgC (C : tp_C) (m : Int32) (v : Int64) : tp_C := if imB C m = true ∧ bgB C (ixN m) v = true ∧ cM C = 0 then wB C (vf_upd (cB C) (ixN m) v.toUInt64) else C
/-- a setting -/
def seB (C : tp_C) (m : Nat) (v : Int64) : Bool := nbB v && stB (cK C m) v.toUInt64
def seR (C : tp_C) (m : Int32) (v : Int64) : Int32 := if imB C m then (if seB C (ixN m) v then (if cM C = 0 then nI 1 else -103) else -102) else -101
def seC (C : tp_C) (m : Int32) (v : Int64) : tp_C := if imB C m = true ∧ seB C (ixN m) v = true ∧ cM C = 0 then wS C (vf_upd (cS C) (ixN m) v.toUInt64) else C
/-- the rule -/
def ruB (a k : Int32) : Bool := inB a (nI 0) (nI 2) && inB k (nI 1) (nI 20)
def ruR (C : tp_C) (a k : Int32) : Int32 := if ruB a k then (if cM C = 0 then nI 1 else -103) else -102
def ruC (C : tp_C) (a k : Int32) : tp_C := if ruB a k = true ∧ cM C = 0 then wH (wR C (ixN a)) (ixN k) else C
/-- a failure -/
def flR (C : tp_C) (m a : Int32) : Int32 := if imB C m then (if inB a (nI 0) (nI 300) then nI 1 else -102) else -101
def flC (C : tp_C) (m a : Int32) : tp_C := if imB C m = true ∧ inB a (nI 0) (nI 300) = true then wA C (vf_upd (cA C) (ixN m) (ixN a)) else C
/-- a strip -/
def spB (C : tp_C) (m : Int32) : Bool := imB C m && (decide (cM C = 0) && !decide (cZ C = 6))
def spR (C : tp_C) (m : Int32) : Int32 := if imB C m then (if cM C = 0 then (if cZ C = 6 then -104 else nI (cZ C)) else -103) else -101
def spC (C : tp_C) (m : Int32) : tp_C := if imB C m = true ∧ cM C = 0 ∧ ¬ cZ C = 6 then wZ (wO C (vf_upd (cO C) (cZ C) (ixN m))) (cZ C + 1) else C
def spD (C : tp_C) (m : Int32) (d : md_T) : md_T := if imB C m = true ∧ cM C = 0 ∧ ¬ cZ C = 6 then uAI d 39 (cZ C) (nI 0) else d
/-- the strips' counts are small -/
def smOK (d : md_T) : Prop := ∀ s, ∃ n, n ≤ 120 ∧ dAI d 39 s = nI n
def cntN (d : md_T) (s : Nat) : Nat := ixN (dAI d 39 s)
theorem smOK.le {d : md_T} (h : smOK d) (s : Nat) : cntN d s ≤ 120 := by
  obtain ⟨n, h1, h2⟩ := h s
  unfold cntN; rw [h2, ixN_nI (by omega)]; exact h1
theorem smOK.eq {d : md_T} (h : smOK d) (s : Nat) : dAI d 39 s = nI (cntN d s) := by
  obtain ⟨n, h1, h2⟩ := h s
  unfold cntN; rw [h2, ixN_nI (by omega)]
def isB (C : tp_C) (s : Int32) : Bool := inB s (nI 0) (nI (cZ C) - nI 1)
theorem is_nat {C : tp_C} {s : Int32} (h : inB s (nI 0) (nI (cZ C) - nI 1) = true) (hN : cZ C ≤ 6) : ∃ j, j < cZ C ∧ s = nI j := by
  obtain ⟨h1, h2⟩ := inB_spec.mp h
  rw [Int32.le_iff_toInt_le] at h1 h2
  rw [pk_sub_toInt (by omega) (by omega)] at h2
  have e0 : (nI 0).toInt = 0 := rfl
  obtain ⟨j, hj, rfl⟩ := nI_of (x := s) (by rw [Int32.lt_iff_toInt_lt]; show ¬ s.toInt < 0; omega)
  rw [nI_toInt hj] at h2
  exact ⟨j, by omega, rfl⟩
theorem ib_nat {n : Nat} {s : Int32} (h : inB s (nI 0) (nI n - nI 1) = true) (hN : n < 2 ^ 30) : ∃ j, j < n ∧ s = nI j := by
  obtain ⟨h1, h2⟩ := inB_spec.mp h
  rw [Int32.le_iff_toInt_le] at h1 h2
  rw [pk_sub_toInt (by omega) (by omega)] at h2
  have e0 : (nI 0).toInt = 0 := rfl
  obtain ⟨j, hj, rfl⟩ := nI_of (x := s) (by rw [Int32.lt_iff_toInt_lt]; show ¬ s.toInt < 0; omega)
  rw [nI_toInt hj] at h2
  exact ⟨j, by omega, rfl⟩
def smpL (C : tp_C) (d : md_T) (s i : Int32) : Int64 := if isB C s = true ∧ inB i (nI 0) (nI (cntN d (ixN s)) - nI 1) = true then (dAD d 40 (120 * ixN s + ixN i)).toInt64 else 0
def rdL (C : tp_C) (d : md_T) (k : Nat) (m : Int32) : Int64 := if imB C m = true ∧ ¬ cM C = 0 then (dAD d k (ixN m)).toInt64 else 0
def siI (C : tp_C) (d : md_T) (m : Int32) : Int32 := if imB C m = true ∧ ¬ cM C = 0 then (dAF d 20 (ixN m)).toInt32 else nI 0
def raL (C : tp_C) (d : md_T) (m : Int32) : Int64 := if imB C m = true ∧ ¬ cM C = 0 ∧ cK C (ixN m) = 2 then (dAD d 26 (ixN m)).toInt64 else 0
def swL (C : tp_C) (d : md_T) (j : Int32) : Int64 := if inB j (nI 0) (nI (cW C) - nI 1) then (dAD d 42 (ixN j)).toInt64 else 0
def abI (C : tp_C) (m a : Int32) : Int32 := if imB C m then (if inB a (nI 0) (nI 14) then (if ixN a = 0 then nI (cK C (ixN m)) else if ixN a < 7 then oI (cF C (ixN m) (ixN a - 1)) else if ixN a < 13 then bI (cT C (ixN m) (ixN a - 7)) else if ixN a = 13 then nI (cP C (ixN m)) else nI (cA C (ixN m))) else -102) else -101
/-- crossings and peaks: from index i on, n found so far -/
def crF (f : Nat → UInt64) (cnt : Nat) (k : Int32) : Nat → Nat → Nat → Int32
  | 0, _, _ => -1
  | u + 1, i, n => if cnt ≤ i then -1 else if fx_gt (f i) FP.dconst0 = fx_gt (f (i - 1)) FP.dconst0 then crF f cnt k u (i + 1) n else if nI n = k then nI i else crF f cnt k u (i + 1) (n + 1)
def pkF (f : Nat → UInt64) (cnt : Nat) (k : Int32) : Nat → Nat → Nat → Int32
  | 0, _, _ => -1
  | u + 1, i, n => if cnt ≤ i + 1 then -1 else if (fx_gt (f i) (f (i - 1)) && fx_ge (f i) (f (i + 1))) = false then pkF f cnt k u (i + 1) n else if nI n = k then nI i else pkF f cnt k u (i + 1) (n + 1)
def cr_u : Nat := 200
def crI (C : tp_C) (d : md_T) (s k : Int32) : Int32 := if isB C s then crF (fun i => dAD d 40 (120 * ixN s + i)) (cntN d (ixN s)) k cr_u 1 0 else -101
def pkI (C : tp_C) (d : md_T) (s k : Int32) : Int32 := if isB C s then pkF (fun i => dAD d 40 (120 * ixN s + i)) (cntN d (ixN s)) k cr_u 1 0 else -101
/-- what runs is small, and no NaN -/
def rOK (d : md_T) : Prop := (∀ k, bD 1075 (dAD d 19 k)) ∧ (∀ k, bF 1075 (dAF d 20 k)) ∧ (∀ k, bD 1075 (dAD d 17 k)) ∧ (∀ k, bF 1075 (dAF d 18 k)) ∧ (∀ k, bD 1075 (dAD d 21 k)) ∧ (∀ k, bF 1075 (dAF d 22 k))
theorem rOK.rd {d : md_T} (h : rOK d) : ∀ k, bD 1075 (dAD d 19 k) := h.1
theorem rOK.rf {d : md_T} (h : rOK d) : ∀ k, bF 1075 (dAF d 20 k) := h.2.1
theorem rOK.st {d : md_T} (h : rOK d) : ∀ k, bD 1075 (dAD d 17 k) := h.2.2.1
theorem rOK.sf {d : md_T} (h : rOK d) : ∀ k, bF 1075 (dAF d 18 k) := h.2.2.2.1
theorem rOK.rw {d : md_T} (h : rOK d) : ∀ k, bD 1075 (dAD d 21 k) := h.2.2.2.2.1
theorem rOK.rwf {d : md_T} (h : rOK d) : ∀ k, bF 1075 (dAF d 22 k) := h.2.2.2.2.2
