/-! whole arrays set; the first index; levels, circles, checks of the settings -/
def sAI (d : md_T) (k : Nat) (f : Nat → Int32) : md_T := (dI d, dD d, dH d, va_up (dAI d) k f, dAD d, dAF d)
def sAD (d : md_T) (k : Nat) (f : Nat → UInt64) : md_T := (dI d, dD d, dH d, dAI d, va_up (dAD d) k f, dAF d)
def sAF (d : md_T) (k : Nat) (f : Nat → UInt32) : md_T := (dI d, dD d, dH d, dAI d, dAD d, va_up (dAF d) k f)
theorem up_same {α : Type} (f : Nat → α) (k : Nat) : va_up f k (f k) = f := by
  funext j; unfold va_up; split
  · rename_i h; rw [h]
  · rfl
theorem up_at {α : Type} (f : Nat → α) (k : Nat) (v : α) : va_up f k v k = v := by simp [va_up]
theorem uAI_sAI (d : md_T) (k : Nat) (f : Nat → Int32) (j : Nat) (v : Int32) : uAI (sAI d k f) k j v = sAI d k (upd f j v) := by
  simp only [uAI, sAI, dI, dD, dH, dAI, dAD, dAF, bx_uu, up_at]
theorem uAD_sAD (d : md_T) (k : Nat) (f : Nat → UInt64) (j : Nat) (v : UInt64) : uAD (sAD d k f) k j v = sAD d k (vf_upd f j v) := by
  simp only [uAD, sAD, dI, dD, dH, dAI, dAD, dAF, bx_uu, up_at]
theorem uAF_sAF (d : md_T) (k : Nat) (f : Nat → UInt32) (j : Nat) (v : UInt32) : uAF (sAF d k f) k j v = sAF d k (vf_upd f j v) := by
  simp only [uAF, sAF, dI, dD, dH, dAI, dAD, dAF, bx_uu, up_at]
theorem sAI_self (d : md_T) (k : Nat) : sAI d k (dAI d k) = d := by
  unfold sAI; rw [up_same]; rfl
theorem sAD_self (d : md_T) (k : Nat) : sAD d k (dAD d k) = d := by
  unfold sAD; rw [up_same]; rfl
theorem sAF_self (d : md_T) (k : Nat) : sAF d k (dAF d k) = d := by
  unfold sAF; rw [up_same]; rfl
theorem dAI_sAI (d : md_T) (k : Nat) (f : Nat → Int32) : dAI (sAI d k f) k = f := up_at _ _ _
theorem sAI_sAI (d : md_T) (k : Nat) (f g : Nat → Int32) : sAI (sAI d k f) k g = sAI d k g := by
  simp only [sAI, dI, dD, dH, dAI, dAD, dAF, bx_uu]
theorem op_none {o : Option Nat} (h : o.isSome = false) : o = none := by cases o with
  | none => rfl
  | some q => cases h
theorem op_some {o : Option Nat} (h : o.isSome = true) : ∃ q, o = some q := by cases o with
  | none => cases h
  | some q => exact ⟨q, rfl⟩
/-- the first index below n with p -/
def fi_ (p : Nat → Bool) (n : Nat) : Option Nat := (List.range n).find? p
theorem fi_none {p : Nat → Bool} {n : Nat} (h : ∀ k, k < n → p k = false) : fi_ p n = none := by
  unfold fi_
  rw [List.find?_eq_none]
  intro k hk
  rw [h k (List.mem_range.mp hk)]
  decide
theorem fi_some {p : Nat → Bool} {n i : Nat} (hi : i < n) (hp : p i = true) (h : ∀ k, k < i → p k = false) : fi_ p n = some i := by
  induction n with
  | zero => omega
  | succ n ih =>
    unfold fi_
    rw [List.range_succ, List.find?_append]
    by_cases e : i < n
    · rw [show (List.range n).find? p = some i from ih e]; rfl
    · have : i = n := by omega
      subst this
      rw [show (List.range i).find? p = none from fi_none h]
      simp [hp]
theorem fi_inv {p : Nat → Bool} {n i : Nat} (h : fi_ p n = some i) : i < n ∧ p i = true ∧ ∀ k, k < i → p k = false := by
  induction n with
  | zero => cases h
  | succ n ih =>
    unfold fi_ at h
    rw [List.range_succ, List.find?_append] at h
    cases e : (List.range n).find? p with
    | some j =>
      rw [e] at h
      obtain rfl : j = i := by simpa using h
      obtain ⟨h1, h2, h3⟩ := ih e
      exact ⟨by omega, h2, h3⟩
    | none =>
      rw [e] at h
      have e2 := List.find?_eq_none.mp e
      by_cases hp : p n = true
      · have : n = i := by simpa [hp] using h
        subst this
        exact ⟨by omega, hp, fun k hk => by simpa using e2 k (List.mem_range.mpr hk)⟩
      · simp [hp] at h
theorem fi_inv0 {p : Nat → Bool} {n : Nat} (h : fi_ p n = none) : ∀ k, k < n → p k = false := by
  intro k hk
  have := List.find?_eq_none.mp h k (List.mem_range.mpr hk)
  simpa using this
theorem lt_sB {i : Nat} {p : Nat → Bool} (h : ∀ k, k < i → p k = false) (hi : p i = false) : ∀ k, k < i + 1 → p k = false := lt_s h hi
/-- inputs: what a kind needs -/
def anyB (C : tp_C) (m n : Nat) : Bool := it_ (fun i b => b || (cF C m i).isSome) n false
def hiG (k : Nat) : Nat := if k = 0 ∨ k = 2 then 0 else if k = 1 ∨ k = 6 ∨ k = 7 ∨ k = 10 ∨ k = 11 ∨ k = 12 then 1 else if k = 9 then 2 else if k = 13 then 3 else 4
def hiB (C : tp_C) (m : Nat) : Bool := match hiG (cK C m) with
  | 0 => anyB C m 6
  | 1 => (cF C m 0).isSome
  | 2 => (cF C m 0).isSome && ((cF C m 1).isSome && (cF C m 2).isSome)
  | 3 => true
  | _ => (cF C m 0).isSome && (cF C m 1).isSome
/-- circles: the array of what is reached -/
def clr (f : Nat → Int32) (n : Nat) : Nat → Int32 := it_ (fun k f => upd f k (bI false)) n f
def ciI (C : tp_C) (k : Nat) : Nat → (Nat → Int32) → (Nat → Int32) := fun i f => match cF C k i with
  | some q => upd f q (bI true)
  | none => f
def ciS (C : tp_C) (m : Nat) : Nat → (Nat → Int32) → (Nat → Int32) := fun k f => if (k = m ∨ (f k != 0) = true) ∧ rmB (cK C k) = false then it_ (ciI C k) 6 f else f
def ciT (C : tp_C) (m : Nat) : Nat → (Nat → Int32) → (Nat → Int32) := fun _ f => it_ (ciS C m) (cN C) f
def ciF (C : tp_C) (m : Nat) (f : Nat → Int32) : Nat → Int32 := it_ (ciT C m) (cN C + 1) (clr f (cN C))
def ciB (C : tp_C) (m : Nat) (d : md_T) : Bool := if rmB (cK C m) then false else (ciF C m (dAI d 43) m != 0)
def ciD (C : tp_C) (m : Nat) (d : md_T) : md_T := if rmB (cK C m) then d else sAI d 43 (ciF C m (dAI d 43))
def ciL (C : tp_C) (d : md_T) (m : Nat) : md_T := it_ (ciD C) m d
/-- the check: its answer, what it leaves -/
def ckP1 (C : tp_C) : Nat → Bool := fun m => !hiB C m
def ckP2 (C : tp_C) : Nat → Bool := fun m => decide (cK C m = 7) && decide (cP C m < 2)
def ckP3 (C : tp_C) (d : md_T) : Nat → Bool := fun m => ciB C m (ciL C d m)
def ckN (C : tp_C) (d : md_T) : Nat := match fi_ (ckP1 C) (cN C) with
  | some m => 1 + m
  | none => match fi_ (ckP2 C) (cN C) with
    | some m => 1 + m
    | none => match fi_ (ckP3 C d) (cN C) with
      | some m => 1 + m
      | none => 0
def ckD (C : tp_C) (d : md_T) : md_T := match fi_ (ckP1 C) (cN C) with
  | some _ => uI d 16 (nI 1)
  | none => match fi_ (ckP2 C) (cN C) with
    | some _ => uI d 16 (nI 2)
    | none => match fi_ (ckP3 C d) (cN C) with
      | some m => uI (ciL C d (m + 1)) 16 (nI 3)
      | none => uI (ciL C d (cN C)) 16 (nI 0)
/-- levels: the array -/
def leS (C : tp_C) (f : Nat → Int32) (k : Nat) : Nat → Int32 × Bool → Int32 × Bool := fun i a => match cF C k i with
  | some q => ((if f q ≤ a.1 then a.1 else f q), a.2 && !decide (f q = -1))
  | none => a
def leA (C : tp_C) (f : Nat → Int32) (k n : Nat) : Int32 × Bool := it_ (leS C f k) n (nI 0, true)
def leM (C : tp_C) : Nat → (Nat → Int32) → (Nat → Int32) := fun k f => if f k = -1 then upd f k (if (leA C f k 6).2 then (leA C f k 6).1 + nI 1 else -1) else f
def leT (C : tp_C) : Nat → (Nat → Int32) → (Nat → Int32) := fun _ f => it_ (leM C) (cN C) f
def le0 (C : tp_C) (f : Nat → Int32) (n : Nat) : Nat → Int32 := it_ (fun m f => upd f m (if rmB (cK C m) then nI 0 else -1)) n f
def leF (C : tp_C) (f : Nat → Int32) : Nat → Int32 := it_ (leT C) (cN C) (le0 C f (cN C))
def leD (C : tp_C) (d : md_T) : md_T := sAI d 10 (leF C (dAI d 10))
/-- an int that is a module's number -/
def imB (C : tp_C) (m : Int32) : Bool := inB m (nI 0) (nI (cN C) - nI 1)
def ixN (m : Int32) : Nat := m.toNatClampNeg
theorem ixN_nI {j : Nat} (h : j < 2 ^ 31) : ixN (nI j) = j := nI_clamp h
theorem inB_spec {v lo hi : Int32} : inB v lo hi = true ↔ lo ≤ v ∧ v ≤ hi := by
  unfold inB
  simp only [Bool.and_eq_true, Bool.not_eq_true', decide_eq_false_iff_not, Int32.not_lt]
theorem im_nat {C : tp_C} {m : Int32} (h : inB m (nI 0) (nI (cN C) - nI 1) = true) (hN : cN C ≤ 20) : ∃ j, j < cN C ∧ m = nI j := by
  obtain ⟨h1, h2⟩ := inB_spec.mp h
  rw [Int32.le_iff_toInt_le] at h1 h2
  rw [pk_sub_toInt (by omega) (by omega)] at h2
  have e0 : (nI 0).toInt = 0 := rfl
  obtain ⟨j, hj, rfl⟩ := nI_of (x := m) (by rw [Int32.lt_iff_toInt_lt]; show ¬ m.toInt < 0; omega)
  rw [nI_toInt hj] at h2
  exact ⟨j, by omega, rfl⟩
theorem im_of {C : tp_C} {j : Nat} (hj : j < cN C) (hN : cN C ≤ 20) : inB (nI j) (nI 0) (nI (cN C) - nI 1) = true := by
  refine inB_spec.mpr ⟨?_, ?_⟩
  · rw [Int32.le_iff_toInt_le, nI_toInt (by omega), nI_toInt (by omega)]; omega
  · rw [Int32.le_iff_toInt_le, pk_sub_toInt (by omega) (by omega), nI_toInt (by omega)]; omega
theorem in_nat {v : Int32} {a b : Nat} (h : inB v (nI a) (nI b) = true) (ha : a < 2 ^ 31) (hb : b < 2 ^ 31) : ∃ j, a ≤ j ∧ j ≤ b ∧ v = nI j := by
  obtain ⟨h1, h2⟩ := inB_spec.mp h
  rw [Int32.le_iff_toInt_le, nI_toInt ha] at h1
  rw [Int32.le_iff_toInt_le, nI_toInt hb] at h2
  obtain ⟨j, hj, rfl⟩ := nI_of (x := v) (by rw [Int32.lt_iff_toInt_lt]; show ¬ v.toInt < 0; omega)
  rw [nI_toInt hj] at h1 h2
  exact ⟨j, by omega, by omega, rfl⟩
theorem bI0 : bI false = nI 0 := rfl
theorem bI1 : bI true = nI 1 := rfl
theorem suA_s (C : tp_C) (rd : Nat → UInt64) (m n : Nat) : suA C rd m (n + 1) = suS C rd m n (suA C rd m n) := rfl
theorem suAF_s (C : tp_C) (rd : Nat → UInt32) (m n : Nat) : suAF C rd m (n + 1) = suSF C rd m n (suAF C rd m n) := rfl
theorem anyB_s (C : tp_C) (m n : Nat) : anyB C m (n + 1) = (anyB C m n || (cF C m n).isSome) := rfl
theorem leA_s (C : tp_C) (f : Nat → Int32) (k n : Nat) : leA C f k (n + 1) = leS C f k n (leA C f k n) := rfl
theorem clr_s (f : Nat → Int32) (n : Nat) : clr f (n + 1) = upd (clr f n) n (bI false) := rfl
theorem le0_s (C : tp_C) (f : Nat → Int32) (n : Nat) : le0 C f (n + 1) = upd (le0 C f n) n (if rmB (cK C n) then nI 0 else -1) := rfl
theorem ciL_s (C : tp_C) (d : md_T) (n : Nat) : ciL C d (n + 1) = ciD C n (ciL C d n) := rfl
theorem ciS_eq (C : tp_C) (m k : Nat) (f : Nat → Int32) : ciS C m k f = if (k = m ∨ (f k != 0) = true) ∧ rmB (cK C k) = false then it_ (ciI C k) 6 f else f := rfl
theorem nb_tf {b : Bool} (h : b = true) (h2 : b = false) : False := by rw [h] at h2; cases h2
theorem fl_cmp_self (a : Int) : compare a a = .eq := by simp
theorem fx_self {x : UInt64} (h : vf_n64 x) : fx_eq x x = true := by
  have hv := (nD_val x).mp h
  unfold fx_eq
  have e1 : FP.dcmp x x = FP.Core.order (v64 x) (v64 x) := rfl
  rw [e1]
  cases hx : v64 x with
  | nan => exact absurd hx hv
  | inf s => cases s <;> decide
  | fin s c q => simp [FP.Core.order]
theorem fy_self {x : UInt32} (h : vf_n32 x) : fy_eq x x = true := by
  have hv := (nF_val x).mp h
  unfold fy_eq
  have e1 : FP.fcmp x x = FP.Core.order (v32 x) (v32 x) := rfl
  rw [e1]
  cases hx : v32 x with
  | nan => exact absurd hx hv
  | inf s => cases s <;> decide
  | fin s c q => simp [FP.Core.order]
def mxI (a b : Int32) : Int32 := if a < b then b else a
theorem nb_n {b : Int64} (h : nbB b = true) : vf_n64 b.toUInt64 := by
  unfold nbB at h
  simp only [Bool.not_eq_true', decide_eq_false_iff_not, Int64.not_lt] at h
  rw [nD_iff]
  rw [Int64.le_iff_toInt_le] at h
  have e1 : (b &&& (9223372036854775807 : Int64)).toInt = ((b.toUInt64.toNat % 2 ^ 63 : Nat) : Int) := by
    have e2 : (b &&& (9223372036854775807 : Int64)).toBitVec.toNat = b.toUInt64.toNat % 2 ^ 63 := by
      show (b.toBitVec &&& (9223372036854775807 : Int64).toBitVec).toNat = b.toBitVec.toNat % 2 ^ 63
      rw [BitVec.toNat_and]
      show b.toBitVec.toNat &&& (2 ^ 63 - 1) = _
      rw [Nat.and_two_pow_sub_one_eq_mod]
    rw [show (b &&& (9223372036854775807 : Int64)).toInt = (b &&& (9223372036854775807 : Int64)).toBitVec.toInt from rfl, BitVec.toInt_eq_toNat_of_lt, e2]
    rw [e2]
    have := Nat.mod_lt b.toUInt64.toNat (show 0 < 2 ^ 63 by decide)
    omega
  rw [e1] at h
  have e3 : (9218868437227405312 : Int64).toInt = 9218868437227405312 := by decide
  rw [e3] at h
  omega
theorem nb_sn {b : Int64} (h : vf_n64 b.toUInt64) : vn_snl2d b = false := by
  unfold vn_snl2d
  unfold vf_n64 at h
  have h2 : ¬ (b.toUInt64 &&& 0x7fffffffffffffff > 0x7ff0000000000000) := by
    intro h3
    have h3 : (0x7ff0000000000000 : UInt64) < b.toUInt64 &&& 0x7fffffffffffffff := h3
    rw [UInt64.lt_iff_toNat_lt] at h3
    rw [UInt64.le_iff_toNat_le] at h
    omega
  simp [h2]
section TP9
variable {p : Program} {l : Launch} {e : Env} {R : Room} {s : State} {m : MethodId} {args : Array Value} {below : List Frame} {meth : Method} {c : Code} {H : Heap} {cells slots : Nat} {Q : State → Prop}
variable {cc : ByteArray} {pc nL : Nat} {ls : Array Slot} {rest : List Value}
theorem ss_startF {y : MethodName} {n h : Nat} {ret : Option FieldType} {As : List Value} {o : Option Value} {own : String} (hy : plainFor y = true) (hc : y.cls = own) (hle : (lg_sl As).length ≤ n)
    (body : ∀ (p : Program) (e : Env) (s : State) (m : MethodId) (below : List Frame) (meth : Method) (c : Code) (ls : Array Slot), CallFix p m c cc n s As.toArray lw_all own → meth.sig.returnType = ret → meth.locks = false → lv_has ls n (lv_args 0 As) → W p l e (rm_ h) s m As.toArray below meth c s.heap [] 0 0 (MQ below (sQ o) As.toArray s 0 0 (fun _ => False)) (F0 m 0 ls [])) : sC l y cc n ret h As o := by
  refine va_MetF (cc := cc) (maxL := n) (ret := ret) hy rfl ?_
  intro p e s m args below meth c s₁ B hml hv
  have hv : args = As.toArray := hv
  subst hv
  have hts := atoms_spec (ws := ws_ y cc n ret) B.pre
  have hts : ∀ w ∈ lw_all, w.before _ s = true := fun w h => hts w (List.mem_cons_of_mem _ h)
  have hown : s.vm.findClass own = some m.cls := by rw [← hc]; exact findClass_of_methodNamed B.named
  have hl := lv_entry As (n := n) hle
  rw [lg_entry_eq]
  exact body p e s m below meth c _ ⟨B.exec, B.bytes, hml, hown, hts⟩ B.returns B.notSynchronized hl
end TP9
def cmI (a b : Int32) : Int32 := if b ≤ a then (if a = b then nI 0 else nI 1) else -1
