/-! the rows of a delay are written -/
/-- no delay is longer than its row -/
def dnOK (j : xj_T) : Prop := ∀ m n, jDn j m = some n → n ≤ 16
theorem xs_dw {dA : Nat → ClassId} {C : tp_C} {d : md_T} {j : xj_T} {mm n : Nat} {g f : Nat → UInt64} (hk : cK C mm = 11) (hd : jDn j mm = some n) (hD : dnOK j) (hmm : mm < cN C) (hin : ∀ k, k < n → g k = f (16 * mm + k)) (hz : ∀ k, n ≤ k → g k = FP.dconst0) (hout : ∀ q, ¬ (16 * mm ≤ q ∧ q < 16 * mm + 16) → f q = dAD d 21 q) : wr_s (xW dA C d j) (xr mm 4) (jA j (xr mm 4), e_D (dA 2) n g) = xW dA C (sAD d 21 f) j := by
  have e21 : dAD (sAD d 21 f) 21 = f := dAD_sAD d 21 f
  refine xW_setM (by decide) hmm rfl rfl ?_ (f10 (P := fun q => xPE dA C (sAD d 21 f) j q = xPE dA C d j q) rfl rfl rfl rfl rfl rfl rfl rfl rfl rfl) (fun m' i' hi hm' hne => ?_)
  · refine (xME_11_4 (C := C) hk hd).trans ?_
    refine congrArg some (congrArg _ ?_)
    funext k
    rw [e21]
    by_cases h : k < n
    · rw [if_pos h, hin k h]
    · rw [if_neg h, hz k (by omega)]
  · refine f6 (P := fun i' => ¬ (m' = mm ∧ i' = 4) → xME dA C (sAD d 21 f) j m' i' = xME dA C d j m' i') ?_ ?_ ?_ ?_ ?_ ?_ i' hi hne <;> intro hne
    · show some (Sum.inr (cK C m' + 2, xFs C (sAD d 21 f) j m')) = some (Sum.inr (cK C m' + 2, xFs C d j m'))
      exact congrArg some (congrArg Sum.inr (congrArg (Prod.mk _) (xFs_congr rfl (fun g hg => by unfold xV; split <;> rfl))))
    · exact rfl
    · exact rfl
    · exact rfl
    · have h : m' ≠ mm := fun h => hne ⟨h, rfl⟩
      by_cases hk' : cK C m' = 11
      · cases hd' : jDn j m' with
        | none => show xM4 (cK C m') dA C (sAD d 21 f) j m' = xM4 (cK C m') dA C d j m'; rw [hk']; show (jDn j m').map _ = (jDn j m').map _; rw [hd']; rfl
        | some n' =>
          rw [xME_11_4 hk' hd', xME_11_4 hk' hd', e21]
          refine congrArg some (congrArg _ ?_)
          funext k
          have := hD m' n' hd'
          by_cases hkn : k < n'
          · rw [if_pos hkn, if_pos hkn, hout _ (by omega)]
          · rw [if_neg hkn, if_neg hkn]
      · show xM4 (cK C m') dA C (sAD d 21 f) j m' = xM4 (cK C m') dA C d j m'
        unfold xM4
        split <;> first | rfl | (exfalso; apply hk'; assumption)
    · exact rfl
theorem xs_dn {dA : Nat → ClassId} {C : tp_C} {d : md_T} {j : xj_T} {mm n : Nat} {g f : Nat → UInt32} (hk : cK C mm = 11) (hd : jDn j mm = some n) (hD : dnOK j) (hmm : mm < cN C) (hin : ∀ k, k < n → g k = f (16 * mm + k)) (hz : ∀ k, n ≤ k → g k = FP.fconst0) (hout : ∀ q, ¬ (16 * mm ≤ q ∧ q < 16 * mm + 16) → f q = dAF d 22 q) : wr_s (xW dA C d j) (xr mm 5) (jA j (xr mm 5), e_F (dA 3) n g) = xW dA C (sAF d 22 f) j := by
  have e22 : dAF (sAF d 22 f) 22 = f := dAF_sAF d 22 f
  refine xW_setM (by decide) hmm rfl rfl ?_ (f10 (P := fun q => xPE dA C (sAF d 22 f) j q = xPE dA C d j q) rfl rfl rfl rfl rfl rfl rfl rfl rfl rfl) (fun m' i' hi hm' hne => ?_)
  · refine (xME_11_5 (C := C) hk hd).trans ?_
    refine congrArg some (congrArg _ ?_)
    funext k
    rw [e22]
    by_cases h : k < n
    · rw [if_pos h, hin k h]
    · rw [if_neg h, hz k (by omega)]
  · refine f6 (P := fun i' => ¬ (m' = mm ∧ i' = 5) → xME dA C (sAF d 22 f) j m' i' = xME dA C d j m' i') ?_ ?_ ?_ ?_ ?_ ?_ i' hi hne <;> intro hne
    · show some (Sum.inr (cK C m' + 2, xFs C (sAF d 22 f) j m')) = some (Sum.inr (cK C m' + 2, xFs C d j m'))
      exact congrArg some (congrArg Sum.inr (congrArg (Prod.mk _) (xFs_congr rfl (fun g hg => by unfold xV; split <;> rfl))))
    · exact rfl
    · exact rfl
    · exact rfl
    · exact rfl
    · have h : m' ≠ mm := fun h => hne ⟨h, rfl⟩
      by_cases hk' : cK C m' = 11
      · cases hd' : jDn j m' with
        | none => show xM5 (cK C m') dA C (sAF d 22 f) j m' = xM5 (cK C m') dA C d j m'; rw [hk']; show (jDn j m').map _ = (jDn j m').map _; rw [hd']; rfl
        | some n' =>
          rw [xME_11_5 hk' hd', xME_11_5 hk' hd', e22]
          refine congrArg some (congrArg _ ?_)
          funext k
          have := hD m' n' hd'
          by_cases hkn : k < n'
          · rw [if_pos hkn, if_pos hkn, hout _ (by omega)]
          · rw [if_neg hkn, if_neg hkn]
      · show xM5 (cK C m') dA C (sAF d 22 f) j m' = xM5 (cK C m') dA C d j m'
        unfold xM5
        split <;> first | rfl | (exfalso; apply hk'; assumption)
section TY3_
variable {p : Program} {l : Launch} {e : Env} {R : Room} {s : State} {m : MethodId} {args : Array Value} {below : List Frame} {meth : Method} {c : Code} {H : Heap} {locs : List Loc} {cells slots : Nat} {Q : State → Prop}
variable {cc : ByteArray} {pc nL : Nat} {ls : Array Slot} {rest st0 : List Value} {D : va_G} {dA : Nat → ClassId} {A : Nat → Prop} {C C' : tp_C} {d d' : md_T} {j j' : xj_T} {own : String}
/-- an array of doubles, moved within itself -/
theorem xx_copyd (S : CallFix p m c cc nL s args lw_all own) (G : xG D dA A C d j s H locs) {r a n : Nat} {f : Nat → UInt64} (hr : r < 130) (hw : xW dA C d j r = some (a, e_D (dA 2) n f)) {index : Nat} (q1 : Cond.methodLink own index arraycopyName ∈ lw_all) (q2 : Cond.native arraycopyName ∈ lw_all) (q3 : Cond.static arraycopyName ∈ lw_all) (q4 : Cond.initialized "java/lang/System" ∈ lw_all) {sp dp k : Nat} (h1 : sp + k ≤ n) (h2 : dp + k ≤ n) (hn : n < 2 ^ 31) (hset : wr_s (xW dA C d j) r (a, e_D (dA 2) n (va_cpy f f sp dp k)) = xW dA C' d' j') (hsz : ls.size = nL) (hR : 1 ≤ R.frames) (hW : (rest.map fun v => v.category).sum + (nativeFrameWords "java/lang/System" "arraycopy" 5 + 11) ≤ R.locals) (hdg : decode cc pc = .ok (.invokestatic index, 3))
    (kk : ∀ (H1 : Heap) (locs1 : List Loc), xG D dA A C' d' j' s H1 locs1 → W p l e R s m args below meth c H1 locs1 cells slots Q (F0 m (pc + 3) ls rest)) : W p l e R s m args below meth c H locs cells slots Q (F0 m pc ls (.int (nI k) :: .int (nI dp) :: .ref a :: .int (nI sp) :: .ref a :: rest)) := by
  obtain ⟨hx, hb, hml, hown, hts⟩ := S
  obtain ⟨hP, hK, hD, hS, hT⟩ := G
  obtain ⟨q0, h3, h4⟩ := wr_pos (N := 130) hr hw
  refine va_copyd hx hb (hml.trans hsz.symm) hown (hts _ q1) (hts _ q2) (hts _ q3) (hts _ q4) hK hP hD hS q0 q0 2 2 (ty := .double) h3 h3 rfl rfl rfl (nI_pos (by omega)) (nI_pos (by omega)) (nI_pos (by omega)) (by rw [nI_clamp (by omega), nI_clamp (by omega)]; exact h1) (by rw [nI_clamp (by omega), nI_clamp (by omega)]; exact h2) (fun i _ => rfl) hR hW hdg (fun H1 locs1 hP1 hD1 hS1 => ?_)
  rw [nI_clamp (by omega), nI_clamp (by omega), nI_clamp (by omega)] at hP1 hD1
  have e1 : (wr_l 130 (xW dA C d j)).set q0 (a, e_D (dA 2) n (va_cpy f f sp dp k)) = xL dA C' d' j' := by rw [h4, hset]; rfl
  unfold e_D at e1
  unfold xL at hP1 hD1
  rw [e1] at hP1 hD1
  exact kk H1 locs1 ⟨hP1, hK, hD1, hS1, hT⟩
theorem xx_copyf (S : CallFix p m c cc nL s args lw_all own) (G : xG D dA A C d j s H locs) {r a n : Nat} {f : Nat → UInt32} (hr : r < 130) (hw : xW dA C d j r = some (a, e_F (dA 3) n f)) {index : Nat} (q1 : Cond.methodLink own index arraycopyName ∈ lw_all) (q2 : Cond.native arraycopyName ∈ lw_all) (q3 : Cond.static arraycopyName ∈ lw_all) (q4 : Cond.initialized "java/lang/System" ∈ lw_all) {sp dp k : Nat} (h1 : sp + k ≤ n) (h2 : dp + k ≤ n) (hn : n < 2 ^ 31) (hset : wr_s (xW dA C d j) r (a, e_F (dA 3) n (va_cpy f f sp dp k)) = xW dA C' d' j') (hsz : ls.size = nL) (hR : 1 ≤ R.frames) (hW : (rest.map fun v => v.category).sum + (nativeFrameWords "java/lang/System" "arraycopy" 5 + 11) ≤ R.locals) (hdg : decode cc pc = .ok (.invokestatic index, 3))
    (kk : ∀ (H1 : Heap) (locs1 : List Loc), xG D dA A C' d' j' s H1 locs1 → W p l e R s m args below meth c H1 locs1 cells slots Q (F0 m (pc + 3) ls rest)) : W p l e R s m args below meth c H locs cells slots Q (F0 m pc ls (.int (nI k) :: .int (nI dp) :: .ref a :: .int (nI sp) :: .ref a :: rest)) := by
  obtain ⟨hx, hb, hml, hown, hts⟩ := S
  obtain ⟨hP, hK, hD, hS, hT⟩ := G
  obtain ⟨q0, h3, h4⟩ := wr_pos (N := 130) hr hw
  refine va_copyf hx hb (hml.trans hsz.symm) hown (hts _ q1) (hts _ q2) (hts _ q3) (hts _ q4) hK hP hD hS q0 q0 3 3 (ty := .float) h3 h3 rfl rfl rfl (nI_pos (by omega)) (nI_pos (by omega)) (nI_pos (by omega)) (by rw [nI_clamp (by omega), nI_clamp (by omega)]; exact h1) (by rw [nI_clamp (by omega), nI_clamp (by omega)]; exact h2) (fun i _ => rfl) hR hW hdg (fun H1 locs1 hP1 hD1 hS1 => ?_)
  rw [nI_clamp (by omega), nI_clamp (by omega), nI_clamp (by omega)] at hP1 hD1
  have e1 : (wr_l 130 (xW dA C d j)).set q0 (a, e_F (dA 3) n (va_cpy f f sp dp k)) = xL dA C' d' j' := by rw [h4, hset]; rfl
  unfold e_F at e1
  unfold xL at hP1 hD1
  rw [e1] at hP1 hD1
  exact kk H1 locs1 ⟨hP1, hK, hD1, hS1, hT⟩
end TY3_
/-- a row moved by one -/
theorem cpy_in {α : Type} (f : Nat → α) (z : α) (m n : Nat) : ∀ k, k < n → va_cpy (fun k => if k < n then f (16 * m + k) else z) (fun k => if k < n then f (16 * m + k) else z) 1 0 (n - 1) k = shf f m (n - 1) (16 * m + k) := by
  intro k hk
  unfold va_cpy shf
  by_cases h : k < n - 1
  · rw [if_pos ⟨Nat.zero_le _, by omega⟩, if_pos ⟨by omega, by omega⟩]
    show (if 1 + (k - 0) < n then f (16 * m + (1 + (k - 0))) else z) = _
    rw [if_pos (by omega), show 16 * m + (1 + (k - 0)) = 16 * m + k + 1 by omega]
  · rw [if_neg (by omega), if_neg (by omega)]
    exact if_pos hk
theorem cpy_z {α : Type} (f : Nat → α) (z : α) (m n : Nat) : ∀ k, n ≤ k → va_cpy (fun k => if k < n then f (16 * m + k) else z) (fun k => if k < n then f (16 * m + k) else z) 1 0 (n - 1) k = z := by
  intro k hk
  unfold va_cpy
  rw [if_neg (by omega)]
  exact if_neg (by omega)
theorem shf_out {α : Type} (f : Nat → α) {m n : Nat} (hn : n ≤ 16) : ∀ q, ¬ (16 * m ≤ q ∧ q < 16 * m + 16) → shf f m (n - 1) q = f q := by
  intro q hq
  unfold shf
  rw [if_neg (by omega)]
theorem vf_in {α : Type} (f : Nat → α) (z v : α) {m n i : Nat} (hi : i < n) : ∀ k, k < n → vf_upd (fun k => if k < n then f (16 * m + k) else z) i v k = vf_upd f (16 * m + i) v (16 * m + k) := by
  intro k hk
  unfold vf_upd
  by_cases h : k = i
  · rw [if_pos h, if_pos (by omega)]
  · rw [if_neg h, if_neg (by omega)]
    exact if_pos hk
theorem vf_z {α : Type} (f : Nat → α) (z v : α) {m n i : Nat} (hi : i < n) : ∀ k, n ≤ k → vf_upd (fun k => if k < n then f (16 * m + k) else z) i v k = z := by
  intro k hk
  unfold vf_upd
  rw [if_neg (by omega)]
  exact if_neg (by omega)
theorem vf_out {α : Type} (f : Nat → α) (v : α) {m i : Nat} (hi : i < 16) : ∀ q, ¬ (16 * m ≤ q ∧ q < 16 * m + 16) → vf_upd f (16 * m + i) v q = f q := by
  intro q hq
  unfold vf_upd
  rw [if_neg (by omega)]
theorem uAD_s (d : md_T) (k j : Nat) (v : UInt64) : uAD d k j v = sAD d k (vf_upd (dAD d k) j v) := rfl
theorem uAF_s (d : md_T) (k j : Nat) (v : UInt32) : uAF d k j v = sAF d k (vf_upd (dAF d k) j v) := rfl
