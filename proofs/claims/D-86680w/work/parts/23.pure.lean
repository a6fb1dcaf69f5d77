/-! pure pieces of both panels: comparisons, settings, the clamp, what a cord brings -/
theorem bI_t {b : Bool} (h : b = true) : nI 1 = bI b := by rw [h]; rfl
theorem bI_f {b : Bool} (h : b = false) : nI 0 = bI b := by rw [h]; rfl
def inB (v lo hi : Int32) : Bool := !decide (v < lo) && !decide (hi < v)
def rmB (k : Nat) : Bool := k == 2 || k == 3 || k == 11 || k == 13
def nbB (b : Int64) : Bool := !decide ((9218868437227405312 : Int64) < (b &&& (9223372036854775807 : Int64)))
def wiB (v lo hi : UInt64) : Bool := fx_ge v lo && fx_le v hi
def stB (k : Nat) (s : UInt64) : Bool := if k = 10 then wiB s 13830554455654793216 FP.dconst1 else if k = 11 then (wiB s FP.dconst1 4625196817309499392 && fx_eq s (FP.i2d (FP.d2i s))) else if k = 12 then wiB s FP.dconst0 4609434218613702656 else if k = 13 then (wiB s FP.dconst0 4696837146684686336 && fx_eq s (FP.i2d (FP.d2i s))) else fx_eq s FP.dconst0
def ouD (v : UInt64) : Bool := fx_gt v 4609434218613702656 || fx_lt v 13832806255468478464
def clD (v : UInt64) : UInt64 := if ouD v then (if fx_gt v FP.dconst0 then 4609434218613702656 else 13832806255468478464) else if fx_eq v FP.dconst0 then FP.dconst0 else v
def ouF (v : UInt32) : Bool := fy_gt v 1069547520 || fy_lt v 3217031168
def clF (v : UInt32) : UInt32 := if ouF v then (if fy_gt v FP.fconst0 then 1069547520 else 3217031168) else if fy_eq v FP.fconst0 then FP.fconst0 else v
def sgD (b : Bool) (v : UInt64) : UInt64 := if b then FP.dneg v else v
def sgF (b : Bool) (v : UInt32) : UInt32 := if b then FP.fneg v else v
/-- what a cord brings, by the readings rd -/
def inD (C : tp_C) (rd : Nat → UInt64) (m i : Nat) : UInt64 := sgD (cT C m i) (rd ((cF C m i).getD 0))
def inF (C : tp_C) (rd : Nat → UInt32) (m i : Nat) : UInt32 := sgF (cT C m i) (rd ((cF C m i).getD 0))
theorem cl_fin {x : UInt64} (h : vf_n64 x) (ho : ouD x = false) : bD 1075 x := by
  have hv := (nD_val x).mp h
  unfold ouD at ho
  rw [Bool.or_eq_false_iff] at ho
  obtain ⟨h1, h2⟩ := ho
  cases hx : v64 x with
  | nan => exact absurd hx hv
  | inf s =>
    exfalso
    have e1 : FP.dcmp x 4609434218613702656 = some (compare (FP.Core.signed s 1) 0) := by
      show FP.Core.order (v64 x) (v64 4609434218613702656) = _
      rw [hx, k15]; rfl
    have e2 : FP.dcmp x 13832806255468478464 = some (compare (FP.Core.signed s 1) 0) := by
      show FP.Core.order (v64 x) (v64 13832806255468478464) = _
      rw [hx, km15]; rfl
    unfold fx_gt at h1; unfold fx_lt at h2
    rw [e1] at h1; rw [e2] at h2
    cases s
    · exact absurd h1 (by decide)
    · exact absurd h2 (by decide)
  | fin s c q =>
    have hf : fD x := ⟨s, c, q, hx⟩
    rw [fx_gt_z hf fD_15, zD_15] at h1
    rw [fx_lt_z hf fD_m15, zD_m15] at h2
    rw [bD_z hf]
    have h1 := of_decide_eq_false h1
    have h2 := of_decide_eq_false h2
    have := fl_3
    omega
theorem cl_finF {x : UInt32} (h : vf_n32 x) (ho : ouF x = false) : bF 1075 x := by
  have hv := (nF_val x).mp h
  unfold ouF at ho
  rw [Bool.or_eq_false_iff] at ho
  obtain ⟨h1, h2⟩ := ho
  cases hx : v32 x with
  | nan => exact absurd hx hv
  | inf s =>
    exfalso
    have e1 : FP.fcmp x 1069547520 = some (compare (FP.Core.signed s 1) 0) := by
      show FP.Core.order (v32 x) (v32 1069547520) = _
      rw [hx, k15f]; rfl
    have e2 : FP.fcmp x 3217031168 = some (compare (FP.Core.signed s 1) 0) := by
      show FP.Core.order (v32 x) (v32 3217031168) = _
      rw [hx, km15f]; rfl
    unfold fy_gt at h1; unfold fy_lt at h2
    rw [e1] at h1; rw [e2] at h2
    cases s
    · exact absurd h1 (by decide)
    · exact absurd h2 (by decide)
  | fin s c q =>
    have hf : fF x := ⟨s, c, q, hx⟩
    rw [fy_gt_z hf fF_15, zF_15] at h1
    rw [fy_lt_z hf fF_m15, zF_m15] at h2
    rw [bF_z hf]
    have h1 := of_decide_eq_false h1
    have h2 := of_decide_eq_false h2
    have := fl_3
    omega
/-- what has been clamped is small -/
theorem cl_b {x : UInt64} (h : vf_n64 x) : bD 1075 (clD x) := by
  unfold clD
  cases ho : ouD x
  · rw [if_neg (by decide)]
    split
    · exact bD_0
    · exact cl_fin h ho
  · rw [if_pos rfl]
    split
    · exact bD_15
    · exact bD_m15
theorem cl_bF {x : UInt32} (h : vf_n32 x) : bF 1075 (clF x) := by
  unfold clF
  cases ho : ouF x
  · rw [if_neg (by decide)]
    split
    · exact bF_0
    · exact cl_finF h ho
  · rw [if_pos rfl]
    split
    · exact bF_15
    · exact bF_m15
theorem sg_b {K : Nat} {b : Bool} {x : UInt64} (h : bD K x) : bD K (sgD b x) := by
  unfold sgD; split
  · exact bD_neg h
  · exact h
theorem sg_bF {K : Nat} {b : Bool} {x : UInt32} (h : bF K x) : bF K (sgF b x) := by
  unfold sgF; split
  · exact bF_neg h
  · exact h
theorem in_b {C : tp_C} {rd : Nat → UInt64} {m i : Nat} (h : ∀ k, bD 1075 (rd k)) : bD 1075 (inD C rd m i) := sg_b (h _)
theorem in_bF {C : tp_C} {rd : Nat → UInt32} {m i : Nat} (h : ∀ k, bF 1075 (rd k)) : bF 1075 (inF C rd m i) := sg_bF (h _)
/-- the sum of what the cords bring, one by one: the sum so far, and whether none came yet -/
def suS (C : tp_C) (rd : Nat → UInt64) (m : Nat) : Nat → UInt64 × Bool → UInt64 × Bool := fun i a => if (cF C m i).isSome then ((if a.2 then inD C rd m i else FP.dadd a.1 (inD C rd m i)), false) else a
def suSF (C : tp_C) (rd : Nat → UInt32) (m : Nat) : Nat → UInt32 × Bool → UInt32 × Bool := fun i a => if (cF C m i).isSome then ((if a.2 then inF C rd m i else FP.fadd a.1 (inF C rd m i)), false) else a
def suA (C : tp_C) (rd : Nat → UInt64) (m n : Nat) : UInt64 × Bool := it_ (suS C rd m) n (FP.dconst0, true)
def suAF (C : tp_C) (rd : Nat → UInt32) (m n : Nat) : UInt32 × Bool := it_ (suSF C rd m) n (FP.fconst0, true)
def suD (C : tp_C) (rd : Nat → UInt64) (m : Nat) : UInt64 := (suA C rd m 6).1
def suF (C : tp_C) (rd : Nat → UInt32) (m : Nat) : UInt32 := (suAF C rd m 6).1
theorem suA_b {C : tp_C} {rd : Nat → UInt64} {m : Nat} (h : ∀ k, bD 1075 (rd k)) : ∀ n, n ≤ 100 → bD (1075 + 2 * n) (suA C rd m n).1
  | 0, _ => bD_0
  | n + 1, hn => by
    have ih := suA_b (C := C) (m := m) h n (by omega)
    show bD (1075 + 2 * (n + 1)) (suS C rd m n (suA C rd m n)).1
    unfold suS
    split
    · dsimp only
      split
      · exact bD_up (in_b h)
      · exact bD_up (bD_add (K := 1075 + 2 * n) ih (bD_up (L := 1075 + 2 * n) (in_b h) (by omega)) (by omega)) (by omega)
    · exact bD_up ih
theorem suAF_b {C : tp_C} {rd : Nat → UInt32} {m : Nat} (h : ∀ k, bF 1075 (rd k)) : ∀ n, n ≤ 50 → bF (1075 + 2 * n) (suAF C rd m n).1
  | 0, _ => bF_0
  | n + 1, hn => by
    have ih := suAF_b (C := C) (m := m) h n (by omega)
    show bF (1075 + 2 * (n + 1)) (suSF C rd m n (suAF C rd m n)).1
    unfold suSF
    split
    · dsimp only
      split
      · exact bF_up (in_bF h)
      · exact bF_up (bF_add (K := 1075 + 2 * n) ih (bF_up (L := 1075 + 2 * n) (in_bF h) (by omega)) (by omega) (by omega)) (by omega)
    · exact bF_up ih
theorem su_b {C : tp_C} {rd : Nat → UInt64} {m : Nat} (h : ∀ k, bD 1075 (rd k)) : bD 1087 (suD C rd m) := suA_b h 6 (by omega)
theorem su_bF {C : tp_C} {rd : Nat → UInt32} {m : Nat} (h : ∀ k, bF 1075 (rd k)) : bF 1087 (suF C rd m) := suAF_b h 6 (by omega)
/-! what lights a lamp of the reference -/
def mLight (d : md_T) (m : Nat) : md_T := if dAI d 24 m = -1 then uAI d 24 m (dI d 44) else d
def mAfter (d : md_T) (m : Nat) (v : UInt64) : md_T := if ouD v then mLight d m else d
def mAfterF (d : md_T) (m : Nat) (v : UInt32) : md_T := if ouF v then mLight d m else d
theorem lv_eq {ls : Array Slot} {n : Nat} {l l' : List (Nat × Value)} (h : lv_has ls n l) (e : l = l') : lv_has ls n l' := e ▸ h
section TP7
variable {p : Program} {l : Launch} {e : Env} {R : Room} {s : State} {m : MethodId} {args : Array Value} {below : List Frame} {meth : Method} {c : Code} {H : Heap} {locs : List Loc} {cells slots : Nat} {Q : State → Prop}
variable {cc : ByteArray} {pc : Nat} {ls : Array Slot} {rest : List Value}
/-- a switch over a natural that is one of ks, all of which lead to one place -/
theorem sw_in {n : Nat} (ks : List Nat) (hn : n ∈ ks) (hx : p.tables.exec = Jvm.exec) (hb : c.code = cc) {dflt lo hi : Int} {offs : Array Int} {len : Nat} {off : Int} {tgt : Nat} (hdg : decode cc pc = .ok (.tableswitch dflt lo hi offs, len)) (hall : ks.all (fun k => decide (k < 2147483648) && (!decide ((k : Int) < lo) && (!decide (hi < (k : Int)) && decide (offs[((k : Int) - lo).toNat]? = some off)))) = true) (ht : (pc : Int) + off = (tgt : Int)) (kk : W p l e R s m args below meth c H locs cells slots Q (F0 m tgt ls rest)) : W p l e R s m args below meth c H locs cells slots Q (F0 m pc ls (.int (nI n) :: rest)) := by
  have h := List.all_eq_true.mp hall n hn
  simp only [Bool.and_eq_true, decide_eq_true_eq, Bool.not_eq_true', decide_eq_false_iff_not] at h
  obtain ⟨h0, h1, h2, h3⟩ := h
  have e1 : (nI n).toInt = (n : Int) := nI_toInt (by omega)
  exact lv_tableIn hx hb hdg (by rw [e1]; exact h1) (by rw [e1]; exact h2) (by rw [e1]; exact h3) ht kk
theorem sw_out {n : Nat} (ks : List Nat) (hn : n ∈ ks) (hx : p.tables.exec = Jvm.exec) (hb : c.code = cc) {dflt lo hi : Int} {offs : Array Int} {len : Nat} {tgt : Nat} (hdg : decode cc pc = .ok (.tableswitch dflt lo hi offs, len)) (hall : ks.all (fun k => decide (k < 2147483648) && (decide ((k : Int) < lo) || decide (hi < (k : Int)))) = true) (ht : (pc : Int) + dflt = (tgt : Int)) (kk : W p l e R s m args below meth c H locs cells slots Q (F0 m tgt ls rest)) : W p l e R s m args below meth c H locs cells slots Q (F0 m pc ls (.int (nI n) :: rest)) := by
  have h := List.all_eq_true.mp hall n hn
  simp only [Bool.and_eq_true, Bool.or_eq_true, decide_eq_true_eq] at h
  obtain ⟨h0, h1⟩ := h
  have e1 : (nI n).toInt = (n : Int) := nI_toInt (by omega)
  exact lv_tableOut hx hb hdg (by rw [e1]; exact h1) ht kk
end TP7
