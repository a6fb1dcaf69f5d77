/-! the settings changed, one at a time -/
def wN (C : tp_C) (v : Nat) : tp_C := (v, cK C, cS C, cF C, cT C, cB C, cP C, cX C, cY C, cA C, cM C, cR C, cH C, cZ C, cO C, cW C)
def wK (C : tp_C) (v : Nat → Nat) : tp_C := (cN C, v, cS C, cF C, cT C, cB C, cP C, cX C, cY C, cA C, cM C, cR C, cH C, cZ C, cO C, cW C)
def wS (C : tp_C) (v : Nat → UInt64) : tp_C := (cN C, cK C, v, cF C, cT C, cB C, cP C, cX C, cY C, cA C, cM C, cR C, cH C, cZ C, cO C, cW C)
def wF (C : tp_C) (v : Nat → Nat → Option Nat) : tp_C := (cN C, cK C, cS C, v, cT C, cB C, cP C, cX C, cY C, cA C, cM C, cR C, cH C, cZ C, cO C, cW C)
def wT (C : tp_C) (v : Nat → Nat → Bool) : tp_C := (cN C, cK C, cS C, cF C, v, cB C, cP C, cX C, cY C, cA C, cM C, cR C, cH C, cZ C, cO C, cW C)
def wB (C : tp_C) (v : Nat → UInt64) : tp_C := (cN C, cK C, cS C, cF C, cT C, v, cP C, cX C, cY C, cA C, cM C, cR C, cH C, cZ C, cO C, cW C)
def wP (C : tp_C) (v : Nat → Nat) : tp_C := (cN C, cK C, cS C, cF C, cT C, cB C, v, cX C, cY C, cA C, cM C, cR C, cH C, cZ C, cO C, cW C)
def wX (C : tp_C) (v : Nat → Nat → UInt64) : tp_C := (cN C, cK C, cS C, cF C, cT C, cB C, cP C, v, cY C, cA C, cM C, cR C, cH C, cZ C, cO C, cW C)
def wY (C : tp_C) (v : Nat → Nat → UInt64) : tp_C := (cN C, cK C, cS C, cF C, cT C, cB C, cP C, cX C, v, cA C, cM C, cR C, cH C, cZ C, cO C, cW C)
def wA (C : tp_C) (v : Nat → Nat) : tp_C := (cN C, cK C, cS C, cF C, cT C, cB C, cP C, cX C, cY C, v, cM C, cR C, cH C, cZ C, cO C, cW C)
def wM (C : tp_C) (v : Nat) : tp_C := (cN C, cK C, cS C, cF C, cT C, cB C, cP C, cX C, cY C, cA C, v, cR C, cH C, cZ C, cO C, cW C)
def wR (C : tp_C) (v : Nat) : tp_C := (cN C, cK C, cS C, cF C, cT C, cB C, cP C, cX C, cY C, cA C, cM C, v, cH C, cZ C, cO C, cW C)
def wH (C : tp_C) (v : Nat) : tp_C := (cN C, cK C, cS C, cF C, cT C, cB C, cP C, cX C, cY C, cA C, cM C, cR C, v, cZ C, cO C, cW C)
def wZ (C : tp_C) (v : Nat) : tp_C := (cN C, cK C, cS C, cF C, cT C, cB C, cP C, cX C, cY C, cA C, cM C, cR C, cH C, v, cO C, cW C)
def wO (C : tp_C) (v : Nat → Nat) : tp_C := (cN C, cK C, cS C, cF C, cT C, cB C, cP C, cX C, cY C, cA C, cM C, cR C, cH C, cZ C, v, cW C)
def wW (C : tp_C) (v : Nat) : tp_C := (cN C, cK C, cS C, cF C, cT C, cB C, cP C, cX C, cY C, cA C, cM C, cR C, cH C, cZ C, cO C, v)
def up2 {α : Type} (f : Nat → Nat → α) (m i : Nat) (v : α) : Nat → Nat → α := fun a b => if a = m ∧ b = i then v else f a b
theorem up2_at {α : Type} (f : Nat → Nat → α) (m i : Nat) (v : α) : up2 f m i v m i = v := by simp [up2]
theorem up2_ne {α : Type} (f : Nat → Nat → α) (m i : Nat) (v : α) {a b : Nat} (h : ¬ (a = m ∧ b = i)) : up2 f m i v a b = f a b := by simp [up2, h]
theorem cs_k {f : Nat → Nat} {j v : Nat} : (fun m => nI (vf_upd f j v m)) = upd (fun m => nI (f m)) j (nI v) := by
  funext m; unfold vf_upd upd; split <;> rfl
theorem cs_f {f : Nat → Nat → Option Nat} {m i : Nat} {o : Option Nat} (h : i < 6) : (fun j => oI (up2 f m i o (j / 6) (j % 6))) = upd (fun j => oI (f (j / 6) (j % 6))) (6 * m + i) (oI o) := by
  funext j; unfold up2 upd
  by_cases e : j = 6 * m + i
  · rw [if_pos e, if_pos (by omega)]
  · rw [if_neg e, if_neg (by omega)]
theorem cs_t {f : Nat → Nat → Bool} {m i : Nat} {o : Bool} (h : i < 6) : (fun j => bI (up2 f m i o (j / 6) (j % 6))) = upd (fun j => bI (f (j / 6) (j % 6))) (6 * m + i) (bI o) := by
  funext j; unfold up2 upd
  by_cases e : j = 6 * m + i
  · rw [if_pos e, if_pos (by omega)]
  · rw [if_neg e, if_neg (by omega)]
theorem cs_x {f : Nat → Nat → UInt64} {m i : Nat} {o : UInt64} (h : i < 8) : (fun j => up2 f m i o (j / 8) (j % 8)) = vf_upd (fun j => f (j / 8) (j % 8)) (8 * m + i) o := by
  funext j; unfold up2 vf_upd
  by_cases e : j = 8 * m + i
  · rw [if_pos e, if_pos (by omega)]
  · rw [if_neg e, if_neg (by omega)]
theorem mt4_last {j : Nat} (hj : j < 61) (h4 : mTy j = 4) (h0 : j ≠ 0) (h1 : j ≠ 11) (h2 : j ≠ 13) (h3 : j ≠ 14) (h5 : j ≠ 37) : j = 41 := by
  have : ∀ j, j < 61 → mTy j = 4 → (j = 0 ∨ j = 11 ∨ j = 13 ∨ j = 14 ∨ j = 37 ∨ j = 41) := by decide
  have := this j hj h4
  omega
theorem mt9_last {j : Nat} (h9 : mTy j = 9) (h1 : j ≠ 1) (h2 : j ≠ 2) (h3 : j ≠ 3) (h4 : j ≠ 4) (h5 : j ≠ 5) (h6 : j ≠ 6) (h7 : j ≠ 7) (h8 : j ≠ 8) (h10 : j ≠ 9) : j = 38 := by
  have : ∀ j, j < 61 → mTy j = 9 → (j = 1 ∨ j = 2 ∨ j = 3 ∨ j = 4 ∨ j = 5 ∨ j = 6 ∨ j = 7 ∨ j = 8 ∨ j = 9 ∨ j = 38) := by decide
  by_cases hj : j < 61
  · have := this j hj h9
    omega
  · exfalso
    revert h9; unfold mTy; split <;> first | omega | (intro h; cases h)
section TP8
variable {p : Program} {l : Launch} {e : Env} {R : Room} {s : State} {m : MethodId} {args : Array Value} {below : List Frame} {meth : Method} {c : Code} {H : Heap} {locs : List Loc} {cells slots : Nat} {Q : State → Prop}
variable {cc : ByteArray} {pc nL : Nat} {ls : Array Slot} {rest : List Value} {D : va_G} {dA : Nat → ClassId} {ad : Nat → Nat} {C : tp_C} {d : md_T}
theorem w_st {st st' : List Value} (h : st = st') (k : W p l e R s m args below meth c H locs cells slots Q (F0 m pc ls st')) : W p l e R s m args below meth c H locs cells slots Q (F0 m pc ls st) := h ▸ k
theorem mm_putN (S : CallFix p m c cc nL s args lw_all RX1) (G : mG D dA ad C d s H locs) {index : Nat} (hq : Cond.fieldLink RX1 index RX1 (TX1 0).2.1 (TX1 0).2.2.1 ∈ lw_all) {v : Nat} (hdg : decode cc pc = .ok (.putfield index, 3))
    (kk : ∀ (H1 : Heap) (locs1 : List Loc), mG D dA ad (wN C v) d s H1 locs1 → W p l e R s m args below meth c H1 locs1 cells slots Q (F0 m (pc + 3) ls rest)) : W p l e R s m args below meth c H locs cells slots Q (F0 m pc ls (.int (nI v) :: .ref (ad 0) :: rest)) := by
  refine mm_put (C' := wN C v) (d' := d) S G 0 (by decide) hq rfl rfl rfl rfl rfl (fun j hj hne => ?_) (fun j => rfl) hdg kk
  unfold mV
  split
  · rfl
  · rfl
  · rfl
  · rename_i h4
    unfold mCI
    split <;> first | rfl | exact absurd rfl hne | exact absurd h4 (by decide)
  · rfl
theorem mm_putM (S : CallFix p m c cc nL s args lw_all RX1) (G : mG D dA ad C d s H locs) {index : Nat} (hq : Cond.fieldLink RX1 index RX1 (TX1 11).2.1 (TX1 11).2.2.1 ∈ lw_all) {v : Nat} (hdg : decode cc pc = .ok (.putfield index, 3))
    (kk : ∀ (H1 : Heap) (locs1 : List Loc), mG D dA ad (wM C v) d s H1 locs1 → W p l e R s m args below meth c H1 locs1 cells slots Q (F0 m (pc + 3) ls rest)) : W p l e R s m args below meth c H locs cells slots Q (F0 m pc ls (.int (nI v) :: .ref (ad 0) :: rest)) := by
  refine mm_put (C' := wM C v) (d' := d) S G 11 (by decide) hq rfl rfl rfl rfl rfl (fun j hj hne => ?_) (fun j => rfl) hdg kk
  unfold mV
  split
  · rfl
  · rfl
  · rfl
  · rename_i h4
    unfold mCI
    split <;> first | rfl | exact absurd rfl hne | exact absurd h4 (by decide)
  · rfl
theorem mm_putR (S : CallFix p m c cc nL s args lw_all RX1) (G : mG D dA ad C d s H locs) {index : Nat} (hq : Cond.fieldLink RX1 index RX1 (TX1 13).2.1 (TX1 13).2.2.1 ∈ lw_all) {v : Nat} (hdg : decode cc pc = .ok (.putfield index, 3))
    (kk : ∀ (H1 : Heap) (locs1 : List Loc), mG D dA ad (wR C v) d s H1 locs1 → W p l e R s m args below meth c H1 locs1 cells slots Q (F0 m (pc + 3) ls rest)) : W p l e R s m args below meth c H locs cells slots Q (F0 m pc ls (.int (nI v) :: .ref (ad 0) :: rest)) := by
  refine mm_put (C' := wR C v) (d' := d) S G 13 (by decide) hq rfl rfl rfl rfl rfl (fun j hj hne => ?_) (fun j => rfl) hdg kk
  unfold mV
  split
  · rfl
  · rfl
  · rfl
  · rename_i h4
    unfold mCI
    split <;> first | rfl | exact absurd rfl hne | exact absurd h4 (by decide)
  · rfl
theorem mm_putH (S : CallFix p m c cc nL s args lw_all RX1) (G : mG D dA ad C d s H locs) {index : Nat} (hq : Cond.fieldLink RX1 index RX1 (TX1 14).2.1 (TX1 14).2.2.1 ∈ lw_all) {v : Nat} (hdg : decode cc pc = .ok (.putfield index, 3))
    (kk : ∀ (H1 : Heap) (locs1 : List Loc), mG D dA ad (wH C v) d s H1 locs1 → W p l e R s m args below meth c H1 locs1 cells slots Q (F0 m (pc + 3) ls rest)) : W p l e R s m args below meth c H locs cells slots Q (F0 m pc ls (.int (nI v) :: .ref (ad 0) :: rest)) := by
  refine mm_put (C' := wH C v) (d' := d) S G 14 (by decide) hq rfl rfl rfl rfl rfl (fun j hj hne => ?_) (fun j => rfl) hdg kk
  unfold mV
  split
  · rfl
  · rfl
  · rfl
  · rename_i h4
    unfold mCI
    split <;> first | rfl | exact absurd rfl hne | exact absurd h4 (by decide)
  · rfl
theorem mm_putZ (S : CallFix p m c cc nL s args lw_all RX1) (G : mG D dA ad C d s H locs) {index : Nat} (hq : Cond.fieldLink RX1 index RX1 (TX1 37).2.1 (TX1 37).2.2.1 ∈ lw_all) {v : Nat} (hdg : decode cc pc = .ok (.putfield index, 3))
    (kk : ∀ (H1 : Heap) (locs1 : List Loc), mG D dA ad (wZ C v) d s H1 locs1 → W p l e R s m args below meth c H1 locs1 cells slots Q (F0 m (pc + 3) ls rest)) : W p l e R s m args below meth c H locs cells slots Q (F0 m pc ls (.int (nI v) :: .ref (ad 0) :: rest)) := by
  refine mm_put (C' := wZ C v) (d' := d) S G 37 (by decide) hq rfl rfl rfl rfl rfl (fun j hj hne => ?_) (fun j => rfl) hdg kk
  unfold mV
  split
  · rfl
  · rfl
  · rfl
  · rename_i h4
    unfold mCI
    split <;> first | rfl | exact absurd rfl hne | exact absurd h4 (by decide)
  · rfl
theorem mm_putW (S : CallFix p m c cc nL s args lw_all RX1) (G : mG D dA ad C d s H locs) {index : Nat} (hq : Cond.fieldLink RX1 index RX1 (TX1 41).2.1 (TX1 41).2.2.1 ∈ lw_all) {v : Nat} (hdg : decode cc pc = .ok (.putfield index, 3))
    (kk : ∀ (H1 : Heap) (locs1 : List Loc), mG D dA ad (wW C v) d s H1 locs1 → W p l e R s m args below meth c H1 locs1 cells slots Q (F0 m (pc + 3) ls rest)) : W p l e R s m args below meth c H locs cells slots Q (F0 m pc ls (.int (nI v) :: .ref (ad 0) :: rest)) := by
  refine mm_put (C' := wW C v) (d' := d) S G 41 (by decide) hq rfl rfl rfl rfl rfl (fun j hj hne => ?_) (fun j => rfl) hdg kk
  unfold mV
  split
  · rfl
  · rfl
  · rfl
  · rename_i h4
    unfold mCI
    split <;> first | rfl | exact absurd rfl hne | exact absurd h4 (by decide) | (rename_i h0 h1 h2 h3 h5; exact absurd (mt4_last hj h4 h0 h1 h2 h3 h5) hne)
  · rfl
theorem mm_astK (S : CallFix p m c cc nL s args lw_all RX1) (G : mG D dA ad C d s H locs) {j : Nat} (hj : j < 20) {v : Nat} (hdg : decode cc pc = .ok (.iastore, 1))
    (kk : ∀ (H1 : Heap) (locs1 : List Loc), mG D dA ad (wK C (vf_upd (cK C) j v)) d s H1 locs1 → W p l e R s m args below meth c H1 locs1 cells slots Q (F0 m (pc + 1) ls rest)) : W p l e R s m args below meth c H locs cells slots Q (F0 m pc ls (.int (nI v) :: .int (nI (j)) :: .ref (ad 2) :: rest)) := by
  refine mm_iastC (C' := wK C (vf_upd (cK C) j v)) (d' := d) (n := 20) S G 1 0 (by decide) rfl rfl (by omega) (by decide) (by show some (e_I _ _ _) = some (e_I _ _ _); exact congrArg (fun z => some (e_I _ _ z)) (cs_k)) rfl (fun i_ hi_ => ?_) hdg kk
  unfold mE
  split <;> first | rfl | skip
  rename_i h9_
  congr 1
  unfold mCE
  split <;> first | rfl | exact absurd rfl hi_
theorem mm_astP (S : CallFix p m c cc nL s args lw_all RX1) (G : mG D dA ad C d s H locs) {j : Nat} (hj : j < 20) {v : Nat} (hdg : decode cc pc = .ok (.iastore, 1))
    (kk : ∀ (H1 : Heap) (locs1 : List Loc), mG D dA ad (wP C (vf_upd (cP C) j v)) d s H1 locs1 → W p l e R s m args below meth c H1 locs1 cells slots Q (F0 m (pc + 1) ls rest)) : W p l e R s m args below meth c H locs cells slots Q (F0 m pc ls (.int (nI v) :: .int (nI (j)) :: .ref (ad 7) :: rest)) := by
  refine mm_iastC (C' := wP C (vf_upd (cP C) j v)) (d' := d) (n := 20) S G 6 0 (by decide) rfl rfl (by omega) (by decide) (by show some (e_I _ _ _) = some (e_I _ _ _); exact congrArg (fun z => some (e_I _ _ z)) (cs_k)) rfl (fun i_ hi_ => ?_) hdg kk
  unfold mE
  split <;> first | rfl | skip
  rename_i h9_
  congr 1
  unfold mCE
  split <;> first | rfl | exact absurd rfl hi_
theorem mm_astA (S : CallFix p m c cc nL s args lw_all RX1) (G : mG D dA ad C d s H locs) {j : Nat} (hj : j < 20) {v : Nat} (hdg : decode cc pc = .ok (.iastore, 1))
    (kk : ∀ (H1 : Heap) (locs1 : List Loc), mG D dA ad (wA C (vf_upd (cA C) j v)) d s H1 locs1 → W p l e R s m args below meth c H1 locs1 cells slots Q (F0 m (pc + 1) ls rest)) : W p l e R s m args below meth c H locs cells slots Q (F0 m pc ls (.int (nI v) :: .int (nI (j)) :: .ref (ad 10) :: rest)) := by
  refine mm_iastC (C' := wA C (vf_upd (cA C) j v)) (d' := d) (n := 20) S G 9 0 (by decide) rfl rfl (by omega) (by decide) (by show some (e_I _ _ _) = some (e_I _ _ _); exact congrArg (fun z => some (e_I _ _ z)) (cs_k)) rfl (fun i_ hi_ => ?_) hdg kk
  unfold mE
  split <;> first | rfl | skip
  rename_i h9_
  congr 1
  unfold mCE
  split <;> first | rfl | exact absurd rfl hi_
theorem mm_astO (S : CallFix p m c cc nL s args lw_all RX1) (G : mG D dA ad C d s H locs) {j : Nat} (hj : j < 6) {v : Nat} (hdg : decode cc pc = .ok (.iastore, 1))
    (kk : ∀ (H1 : Heap) (locs1 : List Loc), mG D dA ad (wO C (vf_upd (cO C) j v)) d s H1 locs1 → W p l e R s m args below meth c H1 locs1 cells slots Q (F0 m (pc + 1) ls rest)) : W p l e R s m args below meth c H locs cells slots Q (F0 m pc ls (.int (nI v) :: .int (nI (j)) :: .ref (ad 39) :: rest)) := by
  refine mm_iastC (C' := wO C (vf_upd (cO C) j v)) (d' := d) (n := 6) S G 38 0 (by decide) rfl rfl (by omega) (by decide) (by show some (e_I _ _ _) = some (e_I _ _ _); exact congrArg (fun z => some (e_I _ _ z)) (cs_k)) rfl (fun i_ hi_ => ?_) hdg kk
  unfold mE
  split <;> first | rfl | skip
  rename_i h9_
  congr 1
  unfold mCE
  split <;> first | rfl | exact absurd rfl hi_ | (rename_i h1 h2 h3 h4 h5 h6 h7 h8 h9; exact absurd (mt9_last h9_ h1 h2 h3 h4 h5 h6 h7 h8 h9) hi_)
theorem mm_astF (S : CallFix p m c cc nL s args lw_all RX1) (G : mG D dA ad C d s H locs) {j : Nat} (hj : j < 20) {i : Nat} (hi : i < 6) {v : Option Nat} (hdg : decode cc pc = .ok (.iastore, 1))
    (kk : ∀ (H1 : Heap) (locs1 : List Loc), mG D dA ad (wF C (up2 (cF C) j i v)) d s H1 locs1 → W p l e R s m args below meth c H1 locs1 cells slots Q (F0 m (pc + 1) ls rest)) : W p l e R s m args below meth c H locs cells slots Q (F0 m pc ls (.int (oI v) :: .int (nI (6 * j + i)) :: .ref (ad 4) :: rest)) := by
  refine mm_iastC (C' := wF C (up2 (cF C) j i v)) (d' := d) (n := 120) S G 3 0 (by decide) rfl rfl (by omega) (by decide) (by show some (e_I _ _ _) = some (e_I _ _ _); exact congrArg (fun z => some (e_I _ _ z)) (cs_f hi)) rfl (fun i_ hi_ => ?_) hdg kk
  unfold mE
  split <;> first | rfl | skip
  rename_i h9_
  congr 1
  unfold mCE
  split <;> first | rfl | exact absurd rfl hi_
theorem mm_astT (S : CallFix p m c cc nL s args lw_all RX1) (G : mG D dA ad C d s H locs) {j : Nat} (hj : j < 20) {i : Nat} (hi : i < 6) {v : Bool} (hdg : decode cc pc = .ok (.bastore, 1))
    (kk : ∀ (H1 : Heap) (locs1 : List Loc), mG D dA ad (wT C (up2 (cT C) j i v)) d s H1 locs1 → W p l e R s m args below meth c H1 locs1 cells slots Q (F0 m (pc + 1) ls rest)) : W p l e R s m args below meth c H locs cells slots Q (F0 m pc ls (.int (bI v) :: .int (nI (6 * j + i)) :: .ref (ad 5) :: rest)) := by
  refine mm_zastC (C' := wT C (up2 (cT C) j i v)) (d' := d) (n := 120) S G 4 1 (by decide) rfl rfl (by omega) (by decide) (by cases v <;> rfl) (by show some (e_I _ _ _) = some (e_I _ _ _); exact congrArg (fun z => some (e_I _ _ z)) (cs_t hi)) rfl (fun i_ hi_ => ?_) hdg kk
  unfold mE
  split <;> first | rfl | skip
  rename_i h9_
  congr 1
  unfold mCE
  split <;> first | rfl | exact absurd rfl hi_
theorem mm_astS (S : CallFix p m c cc nL s args lw_all RX1) (G : mG D dA ad C d s H locs) {j : Nat} (hj : j < 20) {v : UInt64} (hdg : decode cc pc = .ok (.dastore, 1))
    (kk : ∀ (H1 : Heap) (locs1 : List Loc), mG D dA ad (wS C (vf_upd (cS C) j v)) d s H1 locs1 → W p l e R s m args below meth c H1 locs1 cells slots Q (F0 m (pc + 1) ls rest)) : W p l e R s m args below meth c H locs cells slots Q (F0 m pc ls (.double v :: .int (nI (j)) :: .ref (ad 3) :: rest)) := by
  refine mm_dastC (C' := wS C (vf_upd (cS C) j v)) (d' := d) (n := 20) S G 2 2 (by decide) rfl rfl (by omega) (by decide) (rfl) rfl (fun i_ hi_ => ?_) hdg kk
  unfold mE
  split <;> first | rfl | skip
  rename_i h9_
  congr 1
  unfold mCE
  split <;> first | rfl | exact absurd rfl hi_
theorem mm_astB (S : CallFix p m c cc nL s args lw_all RX1) (G : mG D dA ad C d s H locs) {j : Nat} (hj : j < 20) {v : UInt64} (hdg : decode cc pc = .ok (.dastore, 1))
    (kk : ∀ (H1 : Heap) (locs1 : List Loc), mG D dA ad (wB C (vf_upd (cB C) j v)) d s H1 locs1 → W p l e R s m args below meth c H1 locs1 cells slots Q (F0 m (pc + 1) ls rest)) : W p l e R s m args below meth c H locs cells slots Q (F0 m pc ls (.double v :: .int (nI (j)) :: .ref (ad 6) :: rest)) := by
  refine mm_dastC (C' := wB C (vf_upd (cB C) j v)) (d' := d) (n := 20) S G 5 2 (by decide) rfl rfl (by omega) (by decide) (rfl) rfl (fun i_ hi_ => ?_) hdg kk
  unfold mE
  split <;> first | rfl | skip
  rename_i h9_
  congr 1
  unfold mCE
  split <;> first | rfl | exact absurd rfl hi_
theorem mm_astX (S : CallFix p m c cc nL s args lw_all RX1) (G : mG D dA ad C d s H locs) {j : Nat} (hj : j < 20) {i : Nat} (hi : i < 8) {v : UInt64} (hdg : decode cc pc = .ok (.dastore, 1))
    (kk : ∀ (H1 : Heap) (locs1 : List Loc), mG D dA ad (wX C (up2 (cX C) j i v)) d s H1 locs1 → W p l e R s m args below meth c H1 locs1 cells slots Q (F0 m (pc + 1) ls rest)) : W p l e R s m args below meth c H locs cells slots Q (F0 m pc ls (.double v :: .int (nI (8 * j + i)) :: .ref (ad 8) :: rest)) := by
  refine mm_dastC (C' := wX C (up2 (cX C) j i v)) (d' := d) (n := 160) S G 7 2 (by decide) rfl rfl (by omega) (by decide) (by show some (e_D _ _ _) = some (e_D _ _ _); exact congrArg (fun z => some (e_D _ _ z)) (cs_x hi)) rfl (fun i_ hi_ => ?_) hdg kk
  unfold mE
  split <;> first | rfl | skip
  rename_i h9_
  congr 1
  unfold mCE
  split <;> first | rfl | exact absurd rfl hi_
theorem mm_astY (S : CallFix p m c cc nL s args lw_all RX1) (G : mG D dA ad C d s H locs) {j : Nat} (hj : j < 20) {i : Nat} (hi : i < 8) {v : UInt64} (hdg : decode cc pc = .ok (.dastore, 1))
    (kk : ∀ (H1 : Heap) (locs1 : List Loc), mG D dA ad (wY C (up2 (cY C) j i v)) d s H1 locs1 → W p l e R s m args below meth c H1 locs1 cells slots Q (F0 m (pc + 1) ls rest)) : W p l e R s m args below meth c H locs cells slots Q (F0 m pc ls (.double v :: .int (nI (8 * j + i)) :: .ref (ad 9) :: rest)) := by
  refine mm_dastC (C' := wY C (up2 (cY C) j i v)) (d' := d) (n := 160) S G 8 2 (by decide) rfl rfl (by omega) (by decide) (by show some (e_D _ _ _) = some (e_D _ _ _); exact congrArg (fun z => some (e_D _ _ z)) (cs_x hi)) rfl (fun i_ hi_ => ?_) hdg kk
  unfold mE
  split <;> first | rfl | skip
  rename_i h9_
  congr 1
  unfold mCE
  split <;> first | rfl | exact absurd rfl hi_
end TP8
