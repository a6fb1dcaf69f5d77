/-! the twin's world while it is made -/
/-- a panel that shows another count of modules -/
def qW (dA : Nat → ClassId) (v : Nat) (C : tp_C) (d : md_T) (j : xj_T) : wr_F := wr_s (xW dA C d j) 0 (jA j 0, .inr (0, (xPs C d j).set 1 (.int (nI v))))
theorem qW_self (dA : Nat → ClassId) (C : tp_C) (d : md_T) (j : xj_T) : qW dA (cN C) C d j = xW dA C d j := by
  funext r
  unfold qW
  by_cases h : r = 0
  · subst h
    have e : (xPs C d j).set 1 (Value.int (nI (cN C))) = xPs C d j := xPs_set rfl (fun _ _ _ => rfl)
    rw [wr_s_self, xW_p (x := .inr (0, xPs C d j)) (by decide) rfl, e]
  · rw [wr_s_ne h]
theorem qW_0 {dA : Nat → ClassId} {v : Nat} {C : tp_C} {d : md_T} {j : xj_T} : qW dA v C d j 0 = some (jA j 0, .inr (0, (xPs C d j).set 1 (.int (nI v)))) := wr_s_self
theorem qW_ne {dA : Nat → ClassId} {v : Nat} {C : tp_C} {d : md_T} {j : xj_T} {r : Nat} (h : r ≠ 0) : qW dA v C d j r = xW dA C d j r := wr_s_ne h
theorem wr_cm {w : wr_F} {r q : Nat} {x y : Nat × va_E} (h : r ≠ q) : wr_s (wr_s w r x) q y = wr_s (wr_s w q y) r x := by
  funext i; unfold wr_s
  by_cases h1 : i = q
  · subst h1; rw [if_pos rfl, if_neg (Ne.symm h), if_pos rfl]
  · rw [if_neg h1]
    by_cases h2 : i = r
    · rw [if_pos h2, if_pos h2]
    · rw [if_neg h2, if_neg h2, if_neg h1]
theorem wr_ss {w : wr_F} {r : Nat} {x y : Nat × va_E} : wr_s (wr_s w r x) r y = wr_s w r y := by
  funext i; unfold wr_s
  by_cases h : i = r
  · rw [if_pos h, if_pos h]
  · rw [if_neg h, if_neg h, if_neg h]
theorem qW_s {dA : Nat → ClassId} {v : Nat} {C C' : tp_C} {d : md_T} {j : xj_T} {r : Nat} {x : Nat × va_E} (hr : r ≠ 0) (h : wr_s (xW dA C d j) r x = xW dA C' d j) (hp : xPs C' d j = xPs C d j) : wr_s (qW dA v C d j) r x = qW dA v C' d j := by
  unfold qW
  rw [wr_cm (Ne.symm hr), h, hp]
def msk {α : Type} (z : α) (f : Nat → α) (i : Nat) : Nat → α := fun m => if m < i then f m else z
theorem msk_up {α : Type} (z : α) (f : Nat → α) (i : Nat) : (fun m => if m = i then f i else msk z f i m) = msk z f (i + 1) := by
  funext m; unfold msk
  by_cases h : m = i
  · subst h; rw [if_pos rfl, if_pos (Nat.lt_succ_self _)]
  · rw [if_neg h]
    by_cases h1 : m < i
    · rw [if_pos h1, if_pos (Nat.lt_succ_of_lt h1)]
    · rw [if_neg h1, if_neg (by omega)]
theorem msk_sk {α : Type} {z : α} {f : Nat → α} {i : Nat} (h : f i = z) : msk z f i = msk z f (i + 1) := by
  funext m; unfold msk
  by_cases h1 : m < i
  · rw [if_pos h1, if_pos (Nat.lt_succ_of_lt h1)]
  · rw [if_neg h1]
    by_cases h2 : m = i
    · subst h2; rw [if_pos (Nat.lt_succ_self _), h]
    · rw [if_neg (by omega)]
theorem msk_vf {α : Type} {z : α} {f : Nat → α} {i : Nat} : vf_upd (msk z f i) i (f i) = msk z f (i + 1) := by
  rw [← msk_up]; rfl
theorem msk_n {α : Type} {z : α} {f : Nat → α} {i : Nat} (h : ∀ m, i ≤ m → f m = z) : msk z f i = f := by
  funext m; unfold msk
  by_cases h1 : m < i
  · rw [if_pos h1]
  · rw [if_neg h1, h m (by omega)]
def dz_ : Nat → UInt64 := fun _ => FP.dconst0
/-- settings of a twin of i modules, without cords -/
def tD (C : tp_C) (i : Nat) : tp_C := (i, msk 0 (cK C) i, msk FP.dconst0 (cS C) i, fun _ _ => none, fun _ _ => false, msk FP.dconst0 (cB C) i, msk 0 (cP C) i, msk dz_ (cX C) i, msk dz_ (cY C) i, fun _ => 0, 0, cR C, cH C, 0, fun _ => 0, 0)
theorem tD_fd (C : tp_C) (i : Nat) : fdC (tD C i) := fun m hm => by
  have e : ∀ {α : Type} (z : α) (f : Nat → α), msk z f i m = z := fun z f => if_neg (by have : i ≤ m := hm; omega)
  refine ⟨e _ _, e _ _, e _ _, rfl, fun k => ⟨rfl, rfl, ?_, ?_⟩⟩
  · show msk dz_ (cX C) i m k = _; rw [e]; rfl
  · show msk dz_ (cY C) i m k = _; rw [e]; rfl
theorem nm_fd (C : tp_C) : fdD C nmd := fun m _ => ⟨rfl, rfl, rfl, rfl, rfl, rfl, rfl⟩
/-- mOK but for what it says of cords -/
theorem tD_ok {C : tp_C} (h : mOK C) {i : Nat} (hi : i ≤ cN C) : mOK (tD C i) := by
  have hN := h.n
  have mk : ∀ m, msk 0 (cK C) i m < 14 := fun m => by unfold msk; split; exact h.k m; decide
  have mp : ∀ m, msk 0 (cP C) i m ≤ 8 := fun m => by unfold msk; split; exact h.p m; decide
  exact ⟨by show i ≤ 20; omega, mk, fun m n k e => (by cases e), mp, fun m => Nat.zero_le _, Nat.zero_le _, h.2.2.2.2.2.2.1, h.2.2.2.2.2.2.2.1, Nat.zero_le _, fun s hs => absurd hs (Nat.not_lt_zero _), Nat.zero_le _⟩
theorem xs_txA {dA : Nat → ClassId} {C : tp_C} {d : md_T} {j : xj_T} {mm : Nat} {g : Nat → UInt64} (hk : cK C mm = 7) (hmm : mm < cN C) : wr_s (xW dA C d j) (xr mm 4) (jA j (xr mm 4), e_D (dA 2) 8 g) = xW dA (wX C (vf_upd (cX C) mm g)) d j := by
  have e : ∀ m', cX (wX C (vf_upd (cX C) mm g)) m' = if m' = mm then g else cX C m' := fun m' => rfl
  refine xW_setM (by decide) hmm rfl rfl ?_ (f10 (P := fun q => xPE dA (wX C (vf_upd (cX C) mm g)) d j q = xPE dA C d j q) rfl rfl rfl rfl rfl rfl rfl rfl rfl rfl) (fun m' i' hi hm' hne => ?_)
  · refine (xME_7_4 (C := (wX C (vf_upd (cX C) mm g))) hk).trans ?_; rw [e mm, if_pos rfl]
  · refine f6 (P := fun i' => ¬ (m' = mm ∧ i' = 4) → xME dA (wX C (vf_upd (cX C) mm g)) d j m' i' = xME dA C d j m' i') ?_ ?_ ?_ ?_ ?_ ?_ i' hi hne <;> intro hne
    · exact rfl
    · exact rfl
    · exact rfl
    · exact rfl
    · have h : m' ≠ mm := fun h => hne ⟨h, rfl⟩
      show xM4 (cK C m') dA (wX C (vf_upd (cX C) mm g)) d j m' = xM4 (cK C m') dA C d j m'
      have e2 := e m'; rw [if_neg h] at e2; unfold xM4; rw [e2] <;> rfl
    · exact rfl
theorem xs_tyA {dA : Nat → ClassId} {C : tp_C} {d : md_T} {j : xj_T} {mm : Nat} {g : Nat → UInt64} (hk : cK C mm = 7) (hmm : mm < cN C) : wr_s (xW dA C d j) (xr mm 5) (jA j (xr mm 5), e_D (dA 2) 8 g) = xW dA (wY C (vf_upd (cY C) mm g)) d j := by
  have e : ∀ m', cY (wY C (vf_upd (cY C) mm g)) m' = if m' = mm then g else cY C m' := fun m' => rfl
  refine xW_setM (by decide) hmm rfl rfl ?_ (f10 (P := fun q => xPE dA (wY C (vf_upd (cY C) mm g)) d j q = xPE dA C d j q) rfl rfl rfl rfl rfl rfl rfl rfl rfl rfl) (fun m' i' hi hm' hne => ?_)
  · refine (xME_7_5 (C := (wY C (vf_upd (cY C) mm g))) hk).trans ?_; rw [e mm, if_pos rfl]
  · refine f6 (P := fun i' => ¬ (m' = mm ∧ i' = 5) → xME dA (wY C (vf_upd (cY C) mm g)) d j m' i' = xME dA C d j m' i') ?_ ?_ ?_ ?_ ?_ ?_ i' hi hne <;> intro hne
    · exact rfl
    · exact rfl
    · exact rfl
    · exact rfl
    · exact rfl
    · have h : m' ≠ mm := fun h => hne ⟨h, rfl⟩
      show xM5 (cK C m') dA (wY C (vf_upd (cY C) mm g)) d j m' = xM5 (cK C m') dA C d j m'
      have e2 := e m'; rw [if_neg h] at e2; unfold xM5; rw [e2] <;> rfl
/-- the new module is in its place -/
theorem tw_new {dA : Nat → ClassId} {C0 : tp_C} {j : xj_T} {k v : Nat} {s b : UInt64} {ad : Nat → Nat} (hC : mOK C0) (hc : fdC C0) (hk : k < 14) (hN : cN C0 < 20) :
    wr_s (wr_s (cmb (qW dA v C0 nmd j) (nmW dA k s ad) (cN C0)) (xr (cN C0) 0) (ad 10, .inr (k + 2, (xFs (nmC k s) nmd (nmj ad) 0).set 2 (.double b)))) 1 (jA j 1, e_Q (dA 5) 20 (va_up (fun m => if m < cN C0 then some (jA j (xr m 0)) else none) (cN C0) (some (ad 10)))) = qW dA v (wB (nwC C0 k s) (vf_upd (cB (nwC C0 k s)) (cN C0) b)) nmd (nwJ j (cN C0) ad) := by
  have x1 := xs_new (dA := dA) (j := j) (s := s) (ad := ad) hC hc (nm_fd C0) hk hN
  have n0 : xr (cN C0) 0 ≠ 0 := by unfold xr; omega
  have n1 : xr (cN C0) 0 ≠ 1 := by unfold xr; omega
  have ea : jA (nwJ j (cN C0) ad) (xr (cN C0) 0) = ad 10 := by
    show (if _ then _ else _) = _
    rw [if_pos ⟨Nat.le_refl _, by omega⟩]; congr 1; unfold xr; omega
  have ek : cK (nwC C0 k s) (cN C0) = k := vf_at _ _ _
  have ef : xFs (nwC C0 k s) nmd (nwJ j (cN C0) ad) (cN C0) = xFs (nmC k s) nmd (nmj ad) 0 := by
    have h := congrFun x1 (xr (cN C0) 0)
    rw [wr_s_ne n0, wr_s_ne n1, cmb_N, xW_m (m := cN C0) (i := 0) (by decide) (show cN C0 < cN (nwC C0 k s) from Nat.lt_succ_self _) rfl] at h
    injection h with h; injection h with _ h; injection h with h; injection h with _ h; exact h.symm
  have x2 := xs_start (dA := dA) (C := nwC C0 k s) (d := nmd) (j := nwJ j (cN C0) ad) (mm := cN C0) (v := b) (Nat.lt_succ_self _)
  rw [ea, ek, ef] at x2
  have e0 : xPs (nwC C0 k s) nmd (nwJ j (cN C0) ad) = (xPs C0 nmd j).set 1 (.int (nI (cN C0 + 1))) := by
    have h := congrFun x1 0
    rw [wr_s_self, xW_p (x := .inr (0, xPs (nwC C0 k s) nmd (nwJ j (cN C0) ad))) (by decide) rfl] at h
    injection h with h; injection h with _ h; injection h with h; injection h with _ h; exact h.symm
  have e1 : cmb (qW dA v C0 nmd j) (nmW dA k s ad) (cN C0) = wr_s (cmb (xW dA C0 nmd j) (nmW dA k s ad) (cN C0)) 0 (jA j 0, .inr (0, (xPs C0 nmd j).set 1 (.int (nI v)))) := by
    funext r; unfold cmb qW wr_s
    by_cases h : r = 0
    · subst h; rw [if_neg (by unfold xr; omega), if_pos rfl, if_pos rfl]
    · rw [if_neg h, if_neg h]
  rw [e1]
  unfold qW
  rw [← x2, ← x1]
  have e2 : xPs (wB (nwC C0 k s) (vf_upd (cB (nwC C0 k s)) (cN C0) b)) nmd (nwJ j (cN C0) ad) = xPs (nwC C0 k s) nmd (nwJ j (cN C0) ad) := rfl
  rw [e2, e0, List.set_set, nwJ_0 j (cN C0) ad (r := 0) (by decide), wr_cm n0, wr_ss, wr_cm (r := xr (cN C0) 0) n1, wr_cm (r := 0) (q := 1) (by decide), wr_cm (r := 0) (q := xr (cN C0) 0) (Ne.symm n0)]
theorem nwJ_nm (ad ad' : Nat → Nat) (i : Nat) : nwJ (nmj ad) i ad' = nmj (fun r => if xr i 0 ≤ r ∧ r < xr i 0 + 6 then ad' (r - 6 * i) else ad r) := by
  have e : ∀ {α : Type} (z : α), vf_upd (fun _ => z) i z = fun _ => z := fun z => by funext m; unfold vf_upd; split <;> rfl
  unfold nwJ nmj
  show (_, vf_upd (fun _ => FP.dconst0) i _, vf_upd (fun _ => FP.fconst0) i _, vf_upd (fun _ => (fun _ => FP.dconst0)) i _, vf_upd (fun _ => (fun _ => FP.fconst0)) i _, vf_upd (fun _ => FP.dconst0) i _, vf_upd (fun _ => FP.fconst0) i _, vf_upd (fun _ => FP.dconst0) i _, _, _, vf_upd (fun _ => (none : Option Nat)) i _) = _
  simp only [e]
  rfl
def xPq (n mm r hh z ww : Nat) (d : md_T) (j : xj_T) : List Value := (List.range 17).map (fun f => match f with
  | 0 => .ref (jA j 1) | 1 => .int (nI n) | 2 => .int (nI mm) | 3 => .int (nI r) | 4 => .int (nI hh) | 5 => .int (dI d 12) | 6 => .int (dI d 15) | 7 => .int (dI d 16) | 8 => .ref (jA j 2) | 9 => .int (nI z) | 10 => .ref (jA j 3) | 11 => .ref (jA j 4) | 12 => .ref (jA j 5) | 13 => .int (nI ww) | 14 => .ref (jA j 6) | 15 => .ref (jA j 7) | _ => .ref (jA j 8))
theorem xPs_q (C : tp_C) (d : md_T) (j : xj_T) : xPs C d j = xPq (cN C) (cM C) (cR C) (cH C) (cZ C) (cW C) d j := rfl
theorem xPq_s (n r h : Nat) (d : md_T) (j : xj_T) : (((xPq 0 0 0 4 0 0 d j).set 1 (.int (nI n))).set 3 (.int (nI r))).set 4 (.int (nI h)) = (xPq 0 0 r h 0 0 d j).set 1 (.int (nI n)) := rfl
theorem xPs_tD {C : tp_C} {j : xj_T} : (((xPs pnC nmd j).set 1 (.int (nI (cN C)))).set 3 (.int (nI (cR C)))).set 4 (.int (nI (cH C))) = (xPs (tD C 0) nmd j).set 1 (.int (nI (cN C))) := by
  rw [show xPs pnC nmd j = xPq 0 0 0 4 0 0 nmd j from xPs_q pnC nmd j, show xPs (tD C 0) nmd j = xPq 0 0 (cR C) (cH C) 0 0 nmd j from xPs_q (tD C 0) nmd j]
  exact xPq_s _ _ _ _ _
theorem pw_tw {dA : Nat → ClassId} {C : tp_C} {ad : Nat → Nat} : wr_s (wr_s (wr_s (xW dA pnC nmd (nmj ad)) 0 (ad 0, .inr (0, (xPs pnC nmd (nmj ad)).set 1 (.int (nI (cN C)))))) 0 (ad 0, .inr (0, ((xPs pnC nmd (nmj ad)).set 1 (.int (nI (cN C)))).set 3 (.int (nI (cR C)))))) 0 (ad 0, .inr (0, (((xPs pnC nmd (nmj ad)).set 1 (.int (nI (cN C)))).set 3 (.int (nI (cR C)))).set 4 (.int (nI (cH C))))) = qW dA (cN C) (tD C 0) nmd (nmj ad) := by
  rw [wr_ss, wr_ss, xPs_tD]
  funext r
  by_cases h : r = 0
  · subst h; rw [qW_0, wr_s_self]; rfl
  · rw [qW_ne h, wr_s_ne h]
    rcases xr_cases r with h9 | ⟨m', i', hi', rfl⟩
    · rw [xW_pp h9, xW_pp h9]
      exact congrArg (Option.map _) (f10 (P := fun r => r ≠ 0 → xPE dA pnC nmd (nmj ad) r = xPE dA (tD C 0) nmd (nmj ad) r) (fun h => absurd rfl h) (fun _ => rfl) (fun _ => rfl) (fun _ => rfl) (fun _ => rfl) (fun _ => rfl) (fun _ => rfl) (fun _ => rfl) (fun _ => rfl) (fun _ => rfl) r h9 h)
    · rw [xW_mm hi', xW_mm hi', if_neg (show ¬ m' < cN pnC from Nat.not_lt_zero _), if_neg (show ¬ m' < cN (tD C 0) from Nat.not_lt_zero _)]
theorem tD_s {C : tp_C} {i : Nat} (h7 : ¬ cK C i = 7 → cP C i = 0 ∧ cX C i = dz_ ∧ cY C i = dz_) (hk : ¬ cK C i = 7) : wB (nwC (tD C i) (cK C i) (cS C i)) (vf_upd (cB (nwC (tD C i) (cK C i) (cS C i))) i (cB C i)) = tD C (i + 1) := by
  obtain ⟨a1, a2, a3⟩ := h7 hk
  show (i + 1, vf_upd (msk 0 (cK C) i) i (cK C i), vf_upd (msk FP.dconst0 (cS C) i) i (cS C i), _, _, vf_upd (msk FP.dconst0 (cB C) i) i (cB C i), msk 0 (cP C) i, msk dz_ (cX C) i, msk dz_ (cY C) i, _) = _
  rw [msk_vf, msk_vf, msk_vf, msk_sk a1, msk_sk a2, msk_sk a3]; rfl
theorem tD_7 {C : tp_C} {i : Nat} {gx gy : Nat → UInt64} (hx : gx = cX C i) (hy : gy = cY C i) {C1 C2 C3 : tp_C} (h1 : C1 = wB (nwC (tD C i) (cK C i) (cS C i)) (vf_upd (cB (nwC (tD C i) (cK C i) (cS C i))) i (cB C i))) (h2 : C2 = wP C1 (vf_upd (cP C1) i (cP C i))) (h3 : C3 = wX C2 (vf_upd (cX C2) i gx)) : wY C3 (vf_upd (cY C3) i gy) = tD C (i + 1) := by
  subst h3; subst h2; subst h1; subst hx; subst hy
  show (i + 1, vf_upd (msk 0 (cK C) i) i (cK C i), vf_upd (msk FP.dconst0 (cS C) i) i (cS C i), _, _, vf_upd (msk FP.dconst0 (cB C) i) i (cB C i), vf_upd (msk 0 (cP C) i) i (cP C i), vf_upd (msk dz_ (cX C) i) i (cX C i), vf_upd (msk dz_ (cY C) i) i (cY C i), _) = _
  rw [msk_vf, msk_vf, msk_vf, msk_vf, msk_vf, msk_vf]; rfl
theorem cpy8 {f : Nat → UInt64} (h : ∀ k, 8 ≤ k → f k = FP.dconst0) : va_cpy f dz_ 0 0 8 = f := by
  funext k; unfold va_cpy
  by_cases h1 : k < 8
  · rw [if_pos ⟨Nat.zero_le _, by omega⟩]; congr 1; omega
  · rw [if_neg (by omega), h k (by omega)]; rfl
/-- cords of a twin: those of the modules below i, and k of i's -/
def cdI {α : Type} (z : α) (f : Nat → Nat → α) (i k : Nat) : Nat → Nat → α := fun m n => if m < i ∨ (m = i ∧ n < k) then f m n else z
def tE (C : tp_C) (i k : Nat) : tp_C := wT (wF (tD C (cN C)) (cdI none (cF C) i k)) (cdI false (cT C) i k)
theorem cdI_up {α : Type} (z : α) (f : Nat → Nat → α) (i k : Nat) : up2 (cdI z f i k) i k (f i k) = cdI z f i (k + 1) := by
  funext m n; unfold up2 cdI
  by_cases h : m = i ∧ n = k
  · rw [if_pos h, if_pos (Or.inr ⟨h.1, by omega⟩), h.1, h.2]
  · rw [if_neg h]
    by_cases h1 : m < i ∨ (m = i ∧ n < k)
    · rw [if_pos h1, if_pos (by omega)]
    · rw [if_neg h1, if_neg (by omega)]
theorem cdI_nx {α : Type} {z : α} {f : Nat → Nat → α} {i : Nat} (h : ∀ n, 6 ≤ n → f i n = z) : cdI z f i 6 = cdI z f (i + 1) 0 := by
  funext m n; unfold cdI
  by_cases h1 : m < i ∨ (m = i ∧ n < 6)
  · rw [if_pos h1, if_pos (by omega)]
  · rw [if_neg h1]
    by_cases h2 : m < i + 1 ∨ (m = i + 1 ∧ n < 0)
    · rw [if_pos h2, show m = i by omega, h n (by omega)]
    · rw [if_neg h2]
theorem cdI_0 {α : Type} (z : α) (f : Nat → Nat → α) : cdI z f 0 0 = fun _ _ => z := by
  funext m n; unfold cdI; rw [if_neg (by omega)]
theorem cdI_n {α : Type} {z : α} {f : Nat → Nat → α} {i : Nat} (h : ∀ m n, i ≤ m → f m n = z) : cdI z f i 0 = f := by
  funext m n; unfold cdI
  by_cases h1 : m < i ∨ (m = i ∧ n < 0)
  · rw [if_pos h1]
  · rw [if_neg h1, h m n (by omega)]
/-- what isn't in use is as at the beginning -/
def fdE (C : tp_C) : Prop := (∀ m, cN C ≤ m → cS C m = FP.dconst0) ∧ (∀ m n, 6 ≤ n → cF C m n = none ∧ cT C m n = false) ∧ (∀ m n, 8 ≤ n → cX C m n = FP.dconst0 ∧ cY C m n = FP.dconst0) ∧ (∀ m, ¬ cK C m = 7 → cP C m = 0 ∧ cX C m = dz_ ∧ cY C m = dz_)
/-- a twin's settings -/
def twC (C : tp_C) : tp_C := (cN C, cK C, cS C, cF C, cT C, cB C, cP C, cX C, cY C, fun _ => 0, 0, cR C, cH C, 0, fun _ => 0, 0)
theorem tE_0 (C : tp_C) : tD C (cN C) = tE C 0 0 := by
  show _ = wT (wF (tD C (cN C)) (cdI none (cF C) 0 0)) (cdI false (cT C) 0 0)
  rw [cdI_0, cdI_0]; rfl
theorem tE_n {C : tp_C} (h : fdC C) (he : fdE C) : tE C (cN C) 0 = twC C := by
  have hF : cdI none (cF C) (cN C) 0 = cF C := cdI_n (fun m n hm => ((h m hm).2.2.2.2 n).1)
  have hT : cdI false (cT C) (cN C) 0 = cT C := cdI_n (fun m n hm => ((h m hm).2.2.2.2 n).2.1)
  have hK : msk 0 (cK C) (cN C) = cK C := msk_n (fun m hm => (h m hm).1)
  have hS : msk FP.dconst0 (cS C) (cN C) = cS C := msk_n he.1
  have hB : msk FP.dconst0 (cB C) (cN C) = cB C := msk_n (fun m hm => (h m hm).2.1)
  have hP : msk 0 (cP C) (cN C) = cP C := msk_n (fun m hm => (h m hm).2.2.1)
  have hX : msk dz_ (cX C) (cN C) = cX C := msk_n (fun m hm => funext fun n => ((h m hm).2.2.2.2 n).2.2.1)
  have hY : msk dz_ (cY C) (cN C) = cY C := msk_n (fun m hm => funext fun n => ((h m hm).2.2.2.2 n).2.2.2)
  show (cN C, msk 0 (cK C) (cN C), msk FP.dconst0 (cS C) (cN C), cdI none (cF C) (cN C) 0, cdI false (cT C) (cN C) 0, msk FP.dconst0 (cB C) (cN C), msk 0 (cP C) (cN C), msk dz_ (cX C) (cN C), msk dz_ (cY C) (cN C), _) = _
  rw [hF, hT, hK, hS, hB, hP, hX, hY]; rfl
