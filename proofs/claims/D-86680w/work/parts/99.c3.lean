/-! a new module beside the panel's world -/
section TA4_
variable {p : Program} {l : Launch} {e : Env} {R : Room} {s : State} {m : MethodId} {args : Array Value} {below : List Frame} {meth : Method} {c : Code} {H : Heap} {locs : List Loc} {cells slots : Nat} {Q : State → Prop}
variable {cc : ByteArray} {pc nL : Nat} {ls : Array Slot} {rest st0 : List Value} {D : va_G} {dA : Nat → ClassId} {A : Nat → Prop} {own : String} {w : wr_F} {P : Option Value → wr_F → Prop}
theorem wr_none : wr_l 130 (fun _ => none) = [] := by
  unfold wr_l
  induction (List.range 130) with
  | nil => rfl
  | cons a l ih => exact ih
/-- a static method that makes a world of its own -/
theorem ww_callSN {y : MethodName} {b : ByteArray} {L n index h mc ms : Nat} {r : Option FieldType} {As : List Value} (S : CallFix p m c cc nL s args lw_all own) (G : wG D dA A w s H locs) (hA : ∀ q, s.heap.size ≤ q → A q) (hM : gN l D dA y b L r h mc ms As (fun _ => none) P) (q1 : Cond.methodLink own index y ∈ lw_all) (q2 : Cond.static y ∈ lw_all) (q3 : Cond.initialized y.cls ∈ lw_all) (q4 : Cond.code y b L r ∈ lw_all)
    (hd : y.cls ≠ "java/lang/invoke/MethodHandle" ∧ y.cls ≠ "java/lang/invoke/VarHandle" ∧ (parseMethodDescriptor y.desc).map (fun d => d.parameters.length) = some n) (hR : h + 1 ≤ R.frames ∧ 8 + (L + 11) + 48 * h ≤ R.locals) (hn : As.length = n) (hsz : ls.size = nL) (hst : st0 = As.reverse ++ rest) (hW : (rest.map fun v => v.category).sum ≤ 8) (hdg : decode cc pc = .ok (.invokestatic index, 3)) (hf : cells + mc ≤ R.cells ∧ slots + ms ≤ R.slots)
    (kk : ∀ (o : Option Value) (w' : wr_F) (H1 : Heap) (locs1 : List Loc), P o w' → wG D dA A w s H1 locs1 → wG D dA A w' s H1 locs1 → (∀ q, gA w q → q < H.size) → (∀ q, gA w' q → H.size ≤ q) → W p l e R s m args below meth c H1 locs1 (cells + mc) (slots + ms) Q (F0 m (pc + 3) ls (o.toList ++ rest))) : W p l e R s m args below meth c H locs cells slots Q (F0 m pc ls st0) := by
  obtain ⟨hP, hK, hD, hS, hT⟩ := id G
  have G0 : wG D dA A (fun _ => none) s H locs := ⟨by rw [wr_none]; intro k q h; simp at h, hK, by rw [wr_none]; exact ⟨fun i k p' y h => by simp at h, fun k q h => by simp at h⟩, hS, hT⟩
  have hr := va_runS (As := As) (rest := rest) (g := F0 m pc ls st0) (locs := locs) (cells := cells) (slots := slots) (H := H) (below := below) (meth := meth) (e := e) S (hM H.size) (va_cwS (R := R) n S.2.2.2.2 (lw_S q1 q2 q3 q4) rfl rfl rfl hd hR) ⟨gI_blind, ww_pre G0⟩ rfl hn hsz hst (lv_room hW) hdg hf
  have hlt : ∀ q, gA w q → q < H.size := fun q ⟨r', x, hr', hx⟩ => (wr_P.mp hP r' (q, x) hr' hx).lt
  refine ww_afterN G0 hA hr (fun o w' H1 locs1 hp G1 hz hk hn1 => ?_)
  have hn2 : ∀ q, gA w' q → H.size ≤ q := fun q hq => (hn1 q hq).elim (fun ⟨_, _, _, h⟩ => by cases h) id
  refine kk o w' H1 locs1 hp ⟨wr_P.mpr (fun r' y' hr' hy => ?_), hK, hD, G1.2.2.2.1, hT⟩ G1 hlt hn2
  exact (wr_P.mp hP r' y' hr' hy).kept (hk y'.1 ((wr_P.mp hP r' y' hr' hy).lt) (fun ⟨_, _, _, h⟩ => by cases h))
/-- the new module takes the roles of the number N -/
def cmb (w w' : wr_F) (N : Nat) : wr_F := fun r => if xr N 0 ≤ r ∧ r < xr N 0 + 6 then w' (r - 6 * N) else w r
theorem cmb_G {w' : wr_F} {N z : Nat} (hN : N < 20) (G : wG D dA A w s H locs) (G1 : wG D dA A w' s H locs) (h1 : ∀ q, gA w q → q < z) (h2 : ∀ q, gA w' q → z ≤ q) : wG D dA A (cmb w w' N) s H locs := by
  obtain ⟨hP, hK, hD, hS, hT⟩ := G
  obtain ⟨hP1, -, hD1, -, -⟩ := G1
  have key : ∀ r y, r < 130 → cmb w w' N r = some y → (¬ (xr N 0 ≤ r ∧ r < xr N 0 + 6) ∧ w r = some y) ∨ ((xr N 0 ≤ r ∧ r < xr N 0 + 6) ∧ r - 6 * N < 130 ∧ w' (r - 6 * N) = some y) := fun r y hr hy => by
    unfold cmb at hy
    by_cases e : xr N 0 ≤ r ∧ r < xr N 0 + 6
    · rw [if_pos e] at hy; exact Or.inr ⟨e, by omega, hy⟩
    · rw [if_neg e] at hy; exact Or.inl ⟨e, hy⟩
  refine ⟨wr_P.mpr (fun r y hr hy => ?_), hK, wr_D.mpr ⟨fun i k p' y hi hk hpi hyk hxy => ?_, fun r y hr hy => ?_⟩, hS, hT⟩
  · rcases key r y hr hy with ⟨-, h⟩ | ⟨-, h0, h⟩
    · exact wr_P.mp hP r y hr h
    · exact wr_P.mp hP1 _ y h0 h
  · rcases key i p' hi hpi with ⟨a1, a2⟩ | ⟨a0, a1, a2⟩ <;> rcases key k y hk hyk with ⟨b1, b2⟩ | ⟨b0, b1, b2⟩
    · exact (wr_D.mp hD).1 i k p' y hi hk a2 b2 hxy
    · have := h1 _ ⟨i, p'.2, hi, a2⟩; have := h2 _ ⟨_, y.2, b1, b2⟩; omega
    · have := h1 _ ⟨k, y.2, hk, b2⟩; have := h2 _ ⟨_, p'.2, a1, a2⟩; omega
    · have := (wr_D.mp hD1).1 _ _ p' y a1 b1 a2 b2 hxy
      unfold xr at a0 b0; omega
  · rcases key r y hr hy with ⟨-, h⟩ | ⟨-, h0, h⟩
    · exact (wr_D.mp hD).2 r y hr h
    · exact (wr_D.mp hD1).2 _ y h0 h
end TA4_
/-- settings with a new module -/
def nwC (C : tp_C) (k : Nat) (s : UInt64) : tp_C := wN (wS (wK C (vf_upd (cK C) (cN C) k)) (vf_upd (cS C) (cN C) s)) (cN C + 1)
/-- notes with a new module -/
def nwJ (j : xj_T) (N : Nat) (ad : Nat → Nat) : xj_T := (fun r => if xr N 0 ≤ r ∧ r < xr N 0 + 6 then ad (r - 6 * N) else jA j r, vf_upd (jWf j) N FP.dconst0, vf_upd (jNf j) N FP.fconst0, vf_upd (jWr j) N (fun _ => FP.dconst0), vf_upd (jNr j) N (fun _ => FP.fconst0), vf_upd (jWn j) N FP.dconst0, vf_upd (jNn j) N FP.fconst0, vf_upd (jSr j) N FP.dconst0, jOd j, jRc j, vf_upd (jDn j) N none)
/-- what is not in use yet is as at the beginning -/
def fdC (C : tp_C) : Prop := ∀ m, cN C ≤ m → cK C m = 0 ∧ cB C m = FP.dconst0 ∧ cP C m = 0 ∧ cA C m = 0 ∧ (∀ i, cF C m i = none ∧ cT C m i = false ∧ cX C m i = FP.dconst0 ∧ cY C m i = FP.dconst0)
def fdD (C : tp_C) (d : md_T) : Prop := ∀ m, cN C ≤ m → dAD d 19 m = FP.dconst0 ∧ dAF d 20 m = FP.fconst0 ∧ dAI d 24 m = -1 ∧ dAD d 25 m = FP.dconst0 ∧ dAD d 17 m = FP.dconst0 ∧ dAF d 18 m = FP.fconst0 ∧ dAI d 23 m = 0
/-- the world with the new module -/
theorem xs_new {dA : Nat → ClassId} {C : tp_C} {d : md_T} {j : xj_T} {k : Nat} {s : UInt64} {ad : Nat → Nat} (hC : mOK C) (hc : fdC C) (hd : fdD C d) (hk : k < 14) (hN : cN C < 20) : wr_s (wr_s (cmb (xW dA C d j) (nmW dA k s ad) (cN C)) 1 (jA j 1, e_Q (dA 5) 20 (va_up (fun m => if m < cN C then some (jA j (xr m 0)) else none) (cN C) (some (ad 10))))) 0 (jA j 0, .inr (0, (xPs C d j).set 1 (.int (nI (cN C + 1))))) = xW dA (nwC C k s) d (nwJ j (cN C) ad) := by
  have eA : ∀ r, ¬ (xr (cN C) 0 ≤ r ∧ r < xr (cN C) 0 + 6) → jA (nwJ j (cN C) ad) r = jA j r := fun r h => if_neg h
  have eB : ∀ i, i < 6 → jA (nwJ j (cN C) ad) (xr (cN C) i) = ad (10 + i) := fun i hi => by
    show (if _ then _ else _) = _
    rw [if_pos ⟨by unfold xr; omega, by unfold xr; omega⟩]
    congr 1; unfold xr; omega
  have ne : ∀ m' i, i < 6 → m' ≠ cN C → ¬ (xr (cN C) 0 ≤ xr m' i ∧ xr m' i < xr (cN C) 0 + 6) := fun m' i hi h => by unfold xr; omega
  have p10 : ∀ r, r < 10 → ¬ (xr (cN C) 0 ≤ r ∧ r < xr (cN C) 0 + 6) := fun r h => by unfold xr; omega
  have eK : ∀ m', m' ≠ cN C → cK (nwC C k s) m' = cK C m' ∧ cS (nwC C k s) m' = cS C m' := fun m' h => ⟨vf_ne _ _ h, vf_ne _ _ h⟩
  have eN : cK (nwC C k s) (cN C) = k ∧ cS (nwC C k s) (cN C) = s := ⟨vf_at _ _ _, vf_at _ _ _⟩
  funext r
  rcases xr_cases r with h | ⟨m', i', hi', rfl⟩
  · by_cases h0 : r = 0
    · subst h0
      rw [wr_s_self, xW_pp (by decide)]
      show some (jA j 0, _) = some (jA (nwJ j (cN C) ad) 0, Sum.inr (0, xPs (nwC C k s) d (nwJ j (cN C) ad)))
      rw [eA 0 (p10 0 (by decide))]
      refine congrArg some (congrArg _ (congrArg Sum.inr (congrArg _ ?_)))
      refine xPs_set rfl (fun g hg hne => ?_)
      have a : ∀ r, r < 10 → jA (nwJ j (cN C) ad) r = jA j r := fun r hr => eA r (p10 r hr)
      revert hne
      refine f17 (P := fun g => g ≠ 1 → xPV (nwC C k s) d (nwJ j (cN C) ad) g = xPV C d j g) ?_ ?_ ?_ ?_ ?_ ?_ ?_ ?_ ?_ ?_ ?_ ?_ ?_ ?_ ?_ ?_ ?_ g hg <;> intro hne
      · exact congrArg Value.ref (a 1 (by decide))
      · exact absurd rfl hne
      · rfl
      · rfl
      · rfl
      · rfl
      · rfl
      · rfl
      · exact congrArg Value.ref (a 2 (by decide))
      · rfl
      · exact congrArg Value.ref (a 3 (by decide))
      · exact congrArg Value.ref (a 4 (by decide))
      · exact congrArg Value.ref (a 5 (by decide))
      · rfl
      · exact congrArg Value.ref (a 6 (by decide))
      · exact congrArg Value.ref (a 7 (by decide))
      · exact congrArg Value.ref (a 8 (by decide))
    · rw [wr_s_ne h0]
      by_cases h1 : r = 1
      · subst h1
        rw [wr_s_self, xW_pp (by decide)]
        show some (jA j 1, e_Q _ _ _) = some (jA (nwJ j (cN C) ad) 1, e_Q _ _ _)
        rw [eA 1 (p10 1 (by decide))]
        refine congrArg some (congrArg _ (congrArg _ (funext fun q => ?_)))
        show va_up _ _ _ q = if q < cN C + 1 then some (jA (nwJ j (cN C) ad) (xr q 0)) else none
        unfold va_up
        by_cases hq : q = cN C
        · rw [if_pos hq, if_pos (by omega), hq, eB 0 (by decide)]
        · rw [if_neg hq]
          show (if q < cN C then some (jA j (xr q 0)) else none) = _
          by_cases hl : q < cN C
          · rw [if_pos hl, if_pos (by omega), eA _ (ne q 0 (by decide) hq)]
          · rw [if_neg hl, if_neg (by omega)]
      · rw [wr_s_ne h1]
        show (if _ then _ else _) = _
        rw [if_neg (p10 r h), xW_pp h, xW_pp h, eA r (p10 r h)]
        refine f10 (P := fun r => r ≠ 0 → r ≠ 1 → (xPE dA C d j r).map (fun x => (jA j r, x)) = (xPE dA (nwC C k s) d (nwJ j (cN C) ad) r).map (fun x => (jA j r, x))) ?_ ?_ ?_ ?_ ?_ ?_ ?_ ?_ ?_ ?_ r h h0 h1 <;> intro h0 h1
        · exact absurd rfl h0
        · exact absurd rfl h1
        all_goals rfl
  · have n0 : xr m' i' ≠ 0 := by unfold xr; omega
    have n1 : xr m' i' ≠ 1 := by unfold xr; omega
    rw [wr_s_ne n0, wr_s_ne n1]
    by_cases hm : m' = cN C
    · subst hm
      show (if _ then _ else _) = _
      rw [if_pos ⟨by unfold xr; omega, by unfold xr; omega⟩, show xr (cN C) i' - 6 * cN C = xr 0 i' by unfold xr; omega, xW_mm hi', if_pos (show cN C < cN (nwC C k s) from Nat.lt_succ_self _), eB i' hi']
      show (if 10 ≤ xr 0 i' ∧ xr 0 i' < 16 then xW dA (nmC k s) nmd (nmj ad) (xr 0 i') else none) = _
      rw [if_pos ⟨by unfold xr; omega, by unfold xr; omega⟩, xW_mm hi', if_pos (show 0 < cN (nmC k s) from Nat.zero_lt_one)]
      obtain ⟨c1, c2, c3, c4, c5⟩ := hc (cN C) (Nat.le_refl _)
      obtain ⟨d1, d2, d3, d4, d5, d6, d7⟩ := hd (cN C) (Nat.le_refl _)
      have eM : xME dA (nmC k s) nmd (nmj ad) 0 i' = xME dA (nwC C k s) d (nwJ j (cN C) ad) (cN C) i' := by
        refine f6 (P := fun i' => xME dA (nmC k s) nmd (nmj ad) 0 i' = xME dA (nwC C k s) d (nwJ j (cN C) ad) (cN C) i') ?_ ?_ ?_ ?_ ?_ ?_ i' hi'
        · show some (Sum.inr (k + 2, xFs (nmC k s) nmd (nmj ad) 0)) = some (Sum.inr (cK (nwC C k s) (cN C) + 2, xFs (nwC C k s) d (nwJ j (cN C) ad) (cN C)))
          rw [eN.1]
          refine congrArg some (congrArg Sum.inr (congrArg _ ?_))
          unfold xFs
          rw [eN.1]
          show (List.range (kN k)).map _ = _
          apply List.map_congr_left
          intro f _
          have w1 : jWf (nwJ j (cN C) ad) (cN C) = FP.dconst0 := vf_at _ _ _
          have w2 : jNf (nwJ j (cN C) ad) (cN C) = FP.fconst0 := vf_at _ _ _
          have w3 : jWn (nwJ j (cN C) ad) (cN C) = FP.dconst0 := vf_at _ _ _
          have w4 : jNn (nwJ j (cN C) ad) (cN C) = FP.fconst0 := vf_at _ _ _
          have w5 : jSr (nwJ j (cN C) ad) (cN C) = FP.dconst0 := vf_at _ _ _
          have w6 : jDn (nwJ j (cN C) ad) (cN C) = none := vf_at _ _ _
          have w7 : cB (nwC C k s) (cN C) = FP.dconst0 := c2
          have w8 : cA (nwC C k s) (cN C) = 0 := c4
          have w9 : cP (nwC C k s) (cN C) = 0 := c3
          unfold xV xE xEk
          rw [eN.1, eN.2, eB 1 (by decide), eB 2 (by decide), eB 3 (by decide), eB 4 (by decide), eB 5 (by decide), w1, w2, w3, w4, w5, w6, w7, w8, w9, d1, d2, d3, d4, d5, d6, d7]
          rfl
        · show some (e_Q _ _ _) = some (e_Q _ _ _)
          refine congrArg some (congrArg _ (funext fun i => ?_))
          rw [show cF (nwC C k s) (cN C) i = none from (c5 i).1]; rfl
        · show some (e_I _ _ _) = some (e_I _ _ _)
          refine congrArg some (congrArg _ (funext fun i => ?_))
          rw [show cF (nwC C k s) (cN C) i = none from (c5 i).1]; rfl
        · show some (e_I _ _ _) = some (e_I _ _ _)
          refine congrArg some (congrArg _ (funext fun i => ?_))
          rw [show cT (nwC C k s) (cN C) i = false from (c5 i).2.1]; rfl
        · show xM4 k dA (nmC k s) nmd (nmj ad) 0 = xM4 (cK (nwC C k s) (cN C)) dA (nwC C k s) d (nwJ j (cN C) ad) (cN C)
          rw [eN.1]
          have w1 : jWr (nwJ j (cN C) ad) (cN C) = fun _ => FP.dconst0 := vf_at _ _ _
          have w6 : jDn (nwJ j (cN C) ad) (cN C) = none := vf_at _ _ _
          have w7 : cX (nwC C k s) (cN C) = fun _ => FP.dconst0 := funext fun i => (c5 i).2.2.1
          unfold xM4
          rw [w1, w6, w7]; rfl
        · show xM5 k dA (nmC k s) nmd (nmj ad) 0 = xM5 (cK (nwC C k s) (cN C)) dA (nwC C k s) d (nwJ j (cN C) ad) (cN C)
          rw [eN.1]
          have w1 : jNr (nwJ j (cN C) ad) (cN C) = fun _ => FP.fconst0 := vf_at _ _ _
          have w6 : jDn (nwJ j (cN C) ad) (cN C) = none := vf_at _ _ _
          have w7 : cY (nwC C k s) (cN C) = fun _ => FP.dconst0 := funext fun i => (c5 i).2.2.2
          unfold xM5
          rw [w1, w6, w7]; rfl
      rw [eM]
      refine congrArg (fun f => Option.map f _) (funext fun x => ?_)
      show (ad (xr 0 i'), x) = (ad (10 + i'), x)
      rw [show xr 0 i' = 10 + i' by unfold xr; omega]
    · show (if _ then _ else _) = _
      rw [if_neg (ne m' i' hi' hm), xW_mm hi', xW_mm hi', eA _ (ne m' i' hi' hm)]
      by_cases hl : m' < cN C
      · rw [if_pos hl, if_pos (show m' < cN (nwC C k s) from Nat.lt_succ_of_lt hl)]
        refine congrArg (Option.map _) ?_
        have aa : ∀ i, i < 6 → jA (nwJ j (cN C) ad) (xr m' i) = jA j (xr m' i) := fun i hi => eA _ (ne m' i hi hm)
        have q1 : jWf (nwJ j (cN C) ad) m' = jWf j m' := vf_ne _ _ hm
        have q2 : jNf (nwJ j (cN C) ad) m' = jNf j m' := vf_ne _ _ hm
        have q3 : jWn (nwJ j (cN C) ad) m' = jWn j m' := vf_ne _ _ hm
        have q4 : jNn (nwJ j (cN C) ad) m' = jNn j m' := vf_ne _ _ hm
        have q5 : jSr (nwJ j (cN C) ad) m' = jSr j m' := vf_ne _ _ hm
        have q6 : jDn (nwJ j (cN C) ad) m' = jDn j m' := vf_ne _ _ hm
        have q7 : jWr (nwJ j (cN C) ad) m' = jWr j m' := vf_ne _ _ hm
        have q8 : jNr (nwJ j (cN C) ad) m' = jNr j m' := vf_ne _ _ hm
        refine f6 (P := fun i' => xME dA C d j m' i' = xME dA (nwC C k s) d (nwJ j (cN C) ad) m' i') ?_ ?_ ?_ ?_ ?_ ?_ i' hi'
        · show some (Sum.inr (cK C m' + 2, xFs C d j m')) = some (Sum.inr (cK (nwC C k s) m' + 2, xFs (nwC C k s) d (nwJ j (cN C) ad) m'))
          rw [(eK m' hm).1]
          refine congrArg some (congrArg Sum.inr (congrArg _ ?_))
          refine (xFs_congr (eK m' hm).1 (fun g hg => ?_)).symm
          unfold xV xE xEk
          rw [aa 1 (by decide), aa 2 (by decide), aa 3 (by decide), aa 4 (by decide), aa 5 (by decide), q1, q2, q3, q4, q5, q6, (eK m' hm).1, (eK m' hm).2]
          rfl
        · show some (e_Q _ _ _) = some (e_Q _ _ _)
          refine congrArg some (congrArg _ (funext fun i => ?_))
          show (cF C m' i).map _ = (cF C m' i).map _
          cases hf : cF C m' i with
          | none => rfl
          | some q => exact congrArg some (eA _ (ne q 0 (by decide) (fun e => by have := hC.f hf; omega))).symm
        · rfl
        · rfl
        · show xM4 (cK C m') dA C d j m' = xM4 (cK (nwC C k s) m') dA (nwC C k s) d (nwJ j (cN C) ad) m'
          rw [(eK m' hm).1]
          unfold xM4
          rw [q6, q7]; rfl
        · show xM5 (cK C m') dA C d j m' = xM5 (cK (nwC C k s) m') dA (nwC C k s) d (nwJ j (cN C) ad) m'
          rw [(eK m' hm).1]
          unfold xM5
          rw [q6, q8]; rfl
      · rw [if_neg hl, if_neg (show ¬ m' < cN (nwC C k s) from fun z => by have z : m' < cN C + 1 := z; omega)]
