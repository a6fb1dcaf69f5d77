/-! what the panel shows, kind by kind -/
theorem xL_vk {dA : Nat → ClassId} {C : tp_C} {d d' : md_T} {j : xj_T} (hC : mOK C) (h1 : dI d 12 = dI d' 12) (h2 : dI d 15 = dI d' 15) (h3 : dI d 16 = dI d' 16) (h4 : dAD d 40 = dAD d' 40) (h5 : dAI d 39 = dAI d' 39) (h6 : dAD d 42 = dAD d' 42) (h7 : dAI d 10 = dAI d' 10)
    (hm : ∀ m, m < cN C → dAD d 19 m = dAD d' 19 m ∧ dAF d 20 m = dAF d' 20 m ∧ dAI d 24 m = dAI d' 24 m ∧ dAD d 25 m = dAD d' 25 m) (hs : ∀ m, m < cN C → (cK C m = 2 ∨ cK C m = 3 ∨ cK C m = 13) → dAD d 17 m = dAD d' 17 m ∧ dAF d 18 m = dAF d' 18 m) (h23 : ∀ m, m < cN C → cK C m = 13 → dAI d 23 m = dAI d' 23 m)
    (hr : ∀ m n, m < cN C → cK C m = 11 → jDn j m = some n → ∀ k, k < n → dAD d 21 (16 * m + k) = dAD d' 21 (16 * m + k) ∧ dAF d 22 (16 * m + k) = dAF d' 22 (16 * m + k)) : xL dA C d j = xL dA C d' j := by
  have eV : ∀ m, m < cN C → ∀ g, g < kN (cK C m) → xV C d j m g = xV C d' j m g := by
    intro m hmm g hg
    obtain ⟨a1, a2, a3, a4⟩ := hm m hmm
    by_cases h11 : g < 11
    · rcases (show g = 0 ∨ g = 1 ∨ g = 2 ∨ g = 3 ∨ g = 4 ∨ g = 5 ∨ g = 6 ∨ g = 7 ∨ g = 8 ∨ g = 9 ∨ g = 10 by omega) with rfl | rfl | rfl | rfl | rfl | rfl | rfl | rfl | rfl | rfl | rfl
      · rfl
      · rfl
      · rfl
      · rfl
      · rfl
      · rfl
      · exact congrArg Value.double a1
      · exact congrArg Value.float a2
      · exact congrArg Value.int a3
      · exact congrArg Value.double a4
      · rfl
    · rw [xV_ge (by omega), xV_ge (by omega)]
      have hk14 := hC.k m
      rcases (show cK C m = 2 ∨ cK C m = 3 ∨ cK C m = 7 ∨ cK C m = 11 ∨ cK C m = 13 ∨ (¬ cK C m = 2 ∧ ¬ cK C m = 3 ∧ ¬ cK C m = 7 ∧ ¬ cK C m = 11 ∧ ¬ cK C m = 13) by omega) with h | h | h | h | h | h
      · obtain ⟨b1, b2⟩ := hs m hmm (Or.inl h)
        rw [h] at hg ⊢
        have hg : g < 18 := hg
        rcases (show g = 11 ∨ g = 12 ∨ g = 13 ∨ g = 14 ∨ g = 15 ∨ g = 16 ∨ g = 17 by omega) with rfl | rfl | rfl | rfl | rfl | rfl | rfl
        · exact congrArg Value.double b1
        · exact congrArg Value.float b2
        · rfl
        · rfl
        · rfl
        · rfl
        · rfl
      · obtain ⟨b1, b2⟩ := hs m hmm (Or.inr (Or.inl h))
        rw [h] at hg ⊢
        have hg : g < 15 := hg
        rcases (show g = 11 ∨ g = 12 ∨ g = 13 ∨ g = 14 by omega) with rfl | rfl | rfl | rfl
        · exact congrArg Value.double b1
        · exact congrArg Value.float b2
        · rfl
        · rfl
      · rw [h] at hg ⊢
        have hg : g < 14 := hg
        rcases (show g = 11 ∨ g = 12 ∨ g = 13 by omega) with rfl | rfl | rfl <;> rfl
      · rw [h] at hg ⊢
        have hg : g < 17 := hg
        rcases (show g = 11 ∨ g = 12 ∨ g = 13 ∨ g = 14 ∨ g = 15 ∨ g = 16 by omega) with rfl | rfl | rfl | rfl | rfl | rfl <;> rfl
      · obtain ⟨b1, b2⟩ := hs m hmm (Or.inr (Or.inr h))
        have b3 := h23 m hmm h
        rw [h] at hg ⊢
        have hg : g < 14 := hg
        rcases (show g = 11 ∨ g = 12 ∨ g = 13 by omega) with rfl | rfl | rfl
        · exact congrArg Value.double b1
        · exact congrArg Value.float b2
        · exact congrArg Value.int b3
      · exfalso
        have e : kN (cK C m) = 11 := by
          unfold kN
          split <;> first | rfl | omega
        omega
  have eF : ∀ m, m < cN C → xFs C d j m = xFs C d' j m := fun m hmm => by
    unfold xFs
    apply List.map_congr_left
    intro g hg
    exact eV m hmm g (List.mem_range.mp hg)
  have eP : xPs C d j = xPs C d' j := by
    unfold xPs
    apply List.map_congr_left
    intro f _
    unfold xPV
    rw [h1, h2, h3]
  have e4 : ∀ m, m < cN C → xM4 (cK C m) dA C d j m = xM4 (cK C m) dA C d' j m ∧ xM5 (cK C m) dA C d j m = xM5 (cK C m) dA C d' j m := by
    intro m hmm
    by_cases h : cK C m = 11
    · have hx := hr m
      rw [h]
      show (jDn j m).map _ = (jDn j m).map _ ∧ (jDn j m).map _ = (jDn j m).map _
      cases hd : jDn j m with
      | none => exact ⟨rfl, rfl⟩
      | some n =>
        have hx := hx n hmm h hd
        refine ⟨congrArg some (congrArg _ (funext fun k => ?_)), congrArg some (congrArg _ (funext fun k => ?_))⟩
        · by_cases hk : k < n
          · rw [if_pos hk, if_pos hk, (hx k hk).1]
          · rw [if_neg hk, if_neg hk]
        · by_cases hk : k < n
          · rw [if_pos hk, if_pos hk, (hx k hk).2]
          · rw [if_neg hk, if_neg hk]
    · unfold xM4 xM5
      refine ⟨?_, ?_⟩
      · split <;> first | rfl | (exfalso; apply h; assumption)
      · split <;> first | rfl | (exfalso; apply h; assumption)
  unfold xL
  apply wr_l_congr
  intro r _
  unfold xW
  have e1 : xPE dA C d j r = xPE dA C d' j r := by
    unfold xPE
    rw [eP, h4, h5, h6, h7]
  rw [e1]
  by_cases hr10 : r < 10
  · rw [if_pos hr10, if_pos hr10]
  · rw [if_neg hr10, if_neg hr10]
    by_cases hmm : (r - 10) / 6 < cN C
    · rw [if_pos hmm, if_pos hmm]
      have e2 : ∀ i, xME dA C d j ((r - 10) / 6) i = xME dA C d' j ((r - 10) / 6) i := by
        intro i
        unfold xME
        rw [eF _ hmm, (e4 _ hmm).1, (e4 _ hmm).2]
      rw [e2]
    · rw [if_neg hmm, if_neg hmm]
/-- what a delay notes at the beginning -/
def bgJ (C : tp_C) (m n q4 q5 : Nat) (j : xj_T) : xj_T := (vf_upd (vf_upd (jA j) (xr m 4) q4) (xr m 5) q5, vf_upd (jWf j) m (cB C m), vf_upd (jNf j) m (FP.d2f (cB C m)), jWr j, jNr j, jWn j, jNn j, jSr j, jOd j, jRc j, vf_upd (jDn j) m (some n))
/-- rows of zeros -/
def zrD (d : md_T) (m : Nat) : md_T := sAF (sAD d 21 (fil (dAD d 21) m 16 FP.dconst0)) 22 (fil (dAF d 22) m 16 FP.fconst0)
/-- a cell of the role 9 takes another's place -/
def wmv (w : wr_F) (r : Nat) : wr_F := fun q => if q = r then w 9 else if q = 9 then none else w q
theorem wmv_G {D : va_G} {dA : Nat → ClassId} {A : Nat → Prop} {w : wr_F} {s : State} {H : Heap} {locs : List Loc} {r : Nat} (hr : r < 130) (h9 : r ≠ 9) (G : wG D dA A w s H locs) : wG D dA A (wmv w r) s H locs := by
  refine wG_sub (fun q => if q = r then 9 else q) (fun q hq y hy => ?_) (fun q q' hq hq' h1 h2 he => ?_) G
  · unfold wmv at hy
    by_cases e : q = r
    · rw [if_pos e] at hy
      simp only [e, if_true]
      exact ⟨by decide, hy⟩
    · rw [if_neg e] at hy
      by_cases e9 : q = 9
      · rw [if_pos e9] at hy; cases hy
      · rw [if_neg e9] at hy
        simp only [e, if_false]
        exact ⟨hq, hy⟩
  · unfold wmv at h1 h2
    by_cases e : q = r <;> by_cases e' : q' = r
    · rw [e, e']
    · simp only [e, e', if_true, if_false] at he
      rw [if_neg e', if_pos he.symm] at h2; cases h2
    · simp only [e, e', if_true, if_false] at he
      rw [if_neg e, if_pos he] at h1; cases h1
    · simp only [e, e', if_false] at he
      exact he
/-- the world behind the making of a delay's rows -/
theorem xs_bg {dA : Nat → ClassId} {C : tp_C} {d : md_T} {j : xj_T} {m n q4 q5 : Nat} (hk : cK C m = 11) (hm : m < cN C) (hN : cN C ≤ 20) (hD : dnOK j) (h16 : n ≤ 16) (hW : jWf j m = cB C m) (hW2 : jNf j m = FP.d2f (cB C m)) :
    wmv (wr_s (wr_s (wmv (wr_s (wr_s (xW dA C d j) 9 (q4, e_D (dA 2) n (fun _ => FP.dconst0))) (xr m 0) (jA j (xr m 0), .inr (11 + 2, (xFs C d j m).set 13 (.ref q4)))) (xr m 4)) 9 (q5, e_F (dA 3) n (fun _ => FP.fconst0))) (xr m 0) (jA j (xr m 0), .inr (11 + 2, ((xFs C d j m).set 13 (.ref q4)).set 14 (.ref q5)))) (xr m 5) = xW dA C (zrD d m) (bgJ C m n q4 q5 j) := by
  have e9 : ∀ m i, xr m i ≠ 9 := fun m i => by unfold xr; omega
  have eA : ∀ r, r ≠ xr m 4 → r ≠ xr m 5 → jA (bgJ C m n q4 q5 j) r = jA j r := fun r h4 h5 => by
    show vf_upd (vf_upd (jA j) (xr m 4) q4) (xr m 5) q5 r = _
    rw [vf_ne _ _ h5, vf_ne _ _ h4]
  have hd : jDn (bgJ C m n q4 q5 j) m = some n := by show vf_upd _ m _ m = _; rw [vf_at]
  have eD : ∀ m', m' ≠ m → jDn (bgJ C m n q4 q5 j) m' = jDn j m' := fun m' h => vf_ne _ _ h
  have eW : ∀ m', jWf (bgJ C m n q4 q5 j) m' = jWf j m' := fun m' => by
    show vf_upd _ m _ m' = _
    by_cases h : m' = m
    · rw [h, vf_at, hW]
    · rw [vf_ne _ _ h]
  have eN : ∀ m', jNf (bgJ C m n q4 q5 j) m' = jNf j m' := fun m' => by
    show vf_upd _ m _ m' = _
    by_cases h : m' = m
    · rw [h, vf_at, hW2]
    · rw [vf_ne _ _ h]
  have x45 : ∀ m' i, i < 6 → (m' ≠ m ∨ i < 4) → xr m' i ≠ xr m 4 ∧ xr m' i ≠ xr m 5 := fun m' i hi h => by unfold xr; omega
  have z21 : ∀ q, ¬ (16 * m ≤ q ∧ q < 16 * m + 16) → dAD (zrD d m) 21 q = dAD d 21 q ∧ dAF (zrD d m) 22 q = dAF d 22 q := fun q hq => by
    unfold zrD
    rw [ss_Ds, ss_Fs]
    unfold fil
    rw [if_neg hq, if_neg hq]; exact ⟨rfl, rfl⟩
  have z0 : ∀ k, k < 16 → dAD (zrD d m) 21 (16 * m + k) = FP.dconst0 ∧ dAF (zrD d m) 22 (16 * m + k) = FP.fconst0 := fun k hk => by
    unfold zrD
    rw [ss_Ds, ss_Fs]
    unfold fil
    rw [if_pos ⟨by omega, by omega⟩, if_pos ⟨by omega, by omega⟩]; exact ⟨rfl, rfl⟩
  funext r
  rcases xr_cases r with h | ⟨m', i', hi', rfl⟩
  · have n0 : r ≠ xr m 0 := fun e => xr_10 m 0 (by rw [← e]; exact h)
    have n4 : r ≠ xr m 4 := fun e => xr_10 m 4 (by rw [← e]; exact h)
    have n5 : r ≠ xr m 5 := fun e => xr_10 m 5 (by rw [← e]; exact h)
    unfold wmv
    rw [if_neg n5]
    by_cases h9 : r = 9
    · rw [if_pos h9, h9]; rfl
    · rw [if_neg h9, wr_s_ne n0, wr_s_ne h9]
      show (if r = xr m 4 then _ else _) = _
      rw [if_neg n4, if_neg h9, wr_s_ne n0, wr_s_ne h9, xW_pp h, xW_pp h]
      refine f10 (P := fun r => r ≠ xr m 4 → r ≠ xr m 5 → (xPE dA C d j r).map (fun x => (jA j r, x)) = (xPE dA C (zrD d m) (bgJ C m n q4 q5 j) r).map (fun x => (jA (bgJ C m n q4 q5 j) r, x))) ?_ ?_ ?_ ?_ ?_ ?_ ?_ ?_ ?_ ?_ r h n4 n5 <;> intro n4 n5 <;> rw [eA _ n4 n5]
      · show some (jA j 0, _) = some (jA j 0, _)
        refine congrArg some (congrArg _ (congrArg Sum.inr (congrArg _ ?_)))
        unfold xPs
        apply List.map_congr_left
        intro f _
        have a : ∀ r, r < 10 → jA (bgJ C m n q4 q5 j) r = jA j r := fun r hr => eA r (fun e => xr_10 m 4 (by rw [← e]; exact hr)) (fun e => xr_10 m 5 (by rw [← e]; exact hr))
        unfold xPV
        split <;> first | rfl | exact congrArg Value.ref (a _ (by decide)).symm
      · show some (jA j 1, _) = some (jA j 1, _)
        refine congrArg some (congrArg _ ?_)
        show e_Q _ _ _ = e_Q _ _ _
        refine congrArg _ (funext fun q => ?_)
        by_cases hq : q < cN C
        · rw [if_pos hq, if_pos hq, eA _ (x45 q 0 (by decide) (Or.inr (by decide))).1 (x45 q 0 (by decide) (Or.inr (by decide))).2]
        · rw [if_neg hq, if_neg hq]
      · rfl
      · rfl
      · rfl
      · rfl
      · rfl
      · rfl
      · rfl
      · rfl
  · by_cases hmm : m' = m
    · subst hmm
      refine f6 (P := fun i' => wmv _ (xr m' 5) (xr m' i') = xW dA C (zrD d m') (bgJ C m' n q4 q5 j) (xr m' i')) ?_ ?_ ?_ ?_ ?_ ?_ i' hi'
      · unfold wmv
        rw [if_neg (xr_ne (by decide)), if_neg (e9 _ _), xW_mm (by decide), if_pos hm, eA _ (xr_ne (by decide)) (xr_ne (by decide))]
        show (if xr m' 0 = xr m' 0 then _ else _) = _
        rw [if_pos rfl]
        show some (jA j (xr m' 0), _) = some (jA j (xr m' 0), Sum.inr (cK C m' + 2, xFs C (zrD d m') (bgJ C m' n q4 q5 j) m'))
        rw [hk]
        refine congrArg some (congrArg _ (congrArg Sum.inr (congrArg _ ?_)))
        apply List.ext_getElem?
        intro g
        by_cases hg : g < 17
        · have hl : kN (cK C m') = 17 := by rw [hk]; rfl
          rw [xFs_at (by rw [hl]; exact hg) rfl]
          by_cases h14 : 14 = g
          · subst h14
            rw [List.getElem?_set_self (by rw [List.length_set, xFs_len, hl]; decide), xV_11_14 hk hd]
            show some (Value.ref q5) = some (Value.ref (vf_upd _ (xr m' 5) q5 (xr m' 5)))
            rw [vf_at]
          · rw [List.getElem?_set_ne h14]
            by_cases h13 : 13 = g
            · subst h13
              rw [List.getElem?_set_self (by rw [xFs_len, hl]; decide), xV_11_13 hk hd]
              show some (Value.ref q4) = some (Value.ref (vf_upd (vf_upd (jA j) (xr m' 4) q4) (xr m' 5) q5 (xr m' 4)))
              rw [vf_ne _ _ (xr_ne (by decide)), vf_at]
            · rw [List.getElem?_set_ne h13, xFs_at (by rw [hl]; exact hg) rfl]
              rcases (show g = 0 ∨ g = 1 ∨ g = 2 ∨ g = 3 ∨ g = 4 ∨ g = 5 ∨ g = 6 ∨ g = 7 ∨ g = 8 ∨ g = 9 ∨ g = 10 ∨ g = 11 ∨ g = 12 ∨ g = 15 ∨ g = 16 by omega) with rfl | rfl | rfl | rfl | rfl | rfl | rfl | rfl | rfl | rfl | rfl | rfl | rfl | rfl | rfl
              · rfl
              · rfl
              · rfl
              · show some (Value.ref _) = some (Value.ref _); rw [eA _ (xr_ne (by decide)) (xr_ne (by decide))]
              · show some (Value.ref _) = some (Value.ref _); rw [eA _ (xr_ne (by decide)) (xr_ne (by decide))]
              · show some (Value.ref _) = some (Value.ref _); rw [eA _ (xr_ne (by decide)) (xr_ne (by decide))]
              · rfl
              · rfl
              · rfl
              · rfl
              · rfl
              · rw [xV_11_11 hk, xV_11_11 hk, eW]
              · rw [xV_11_12 hk, xV_11_12 hk, eN]
              · rw [xV_11_15 hk, xV_11_15 hk]; rfl
              · rw [xV_11_16 hk, xV_11_16 hk]; rfl
        · have hl : kN (cK C m') = 17 := by rw [hk]; rfl
          rw [List.getElem?_eq_none (by rw [List.length_set, List.length_set, xFs_len, hl]; omega), List.getElem?_eq_none (by rw [xFs_len, hl]; omega)]
      · unfold wmv
        rw [if_neg (xr_ne (by decide)), if_neg (e9 _ _), wr_s_ne (xr_ne (by decide)), wr_s_ne (e9 _ _)]
        show (if xr m' 1 = xr m' 4 then _ else _) = _
        rw [if_neg (xr_ne (by decide)), if_neg (e9 _ _), wr_s_ne (xr_ne (by decide)), wr_s_ne (e9 _ _), xW_mm (by decide), xW_mm (by decide), eA _ (xr_ne (by decide)) (xr_ne (by decide)), if_pos hm, if_pos hm]
        show some (jA j (xr m' 1), e_Q _ _ _) = some (jA j (xr m' 1), e_Q _ _ _)
        refine congrArg some (congrArg _ (congrArg _ (funext fun i => ?_)))
        cases cF C m' i with
        | none => rfl
        | some k => exact congrArg some (eA _ (x45 k 0 (by decide) (Or.inr (by decide))).1 (x45 k 0 (by decide) (Or.inr (by decide))).2).symm
      · unfold wmv
        rw [if_neg (xr_ne (by decide)), if_neg (e9 _ _), wr_s_ne (xr_ne (by decide)), wr_s_ne (e9 _ _)]
        show (if xr m' 2 = xr m' 4 then _ else _) = _
        rw [if_neg (xr_ne (by decide)), if_neg (e9 _ _), wr_s_ne (xr_ne (by decide)), wr_s_ne (e9 _ _), xW_mm (by decide), xW_mm (by decide), eA _ (xr_ne (by decide)) (xr_ne (by decide)), if_pos hm, if_pos hm]
        rfl
      · unfold wmv
        rw [if_neg (xr_ne (by decide)), if_neg (e9 _ _), wr_s_ne (xr_ne (by decide)), wr_s_ne (e9 _ _)]
        show (if xr m' 3 = xr m' 4 then _ else _) = _
        rw [if_neg (xr_ne (by decide)), if_neg (e9 _ _), wr_s_ne (xr_ne (by decide)), wr_s_ne (e9 _ _), xW_mm (by decide), xW_mm (by decide), eA _ (xr_ne (by decide)) (xr_ne (by decide)), if_pos hm, if_pos hm]
        rfl
      · unfold wmv
        rw [if_neg (xr_ne (by decide)), if_neg (e9 _ _), wr_s_ne (xr_ne (by decide)), wr_s_ne (e9 _ _)]
        show (if xr m' 4 = xr m' 4 then _ else _) = _
        rw [if_pos rfl, wr_s_ne (fun e => e9 m' 0 e.symm)]
        show (if 9 = 9 then _ else _) = _
        rw [if_pos rfl, xW_m (by decide) hm (xME_11_4 hk hd)]
        show some (q4, e_D _ _ _) = some (vf_upd (vf_upd (jA j) (xr m' 4) q4) (xr m' 5) q5 (xr m' 4), e_D _ _ _)
        rw [vf_ne _ _ (xr_ne (by decide)), vf_at]
        refine congrArg some (congrArg _ (congrArg _ (funext fun k => ?_)))
        by_cases hkn : k < n
        · rw [if_pos hkn, (z0 k (by omega)).1]
        · rw [if_neg hkn]
      · unfold wmv
        rw [if_pos rfl, wr_s_ne (fun e => e9 m' 0 e.symm)]
        show (if 9 = 9 then _ else _) = _
        rw [if_pos rfl, xW_m (by decide) hm (xME_11_5 hk hd)]
        show some (q5, e_F _ _ _) = some (vf_upd (vf_upd (jA j) (xr m' 4) q4) (xr m' 5) q5 (xr m' 5), e_F _ _ _)
        rw [vf_at]
        refine congrArg some (congrArg _ (congrArg _ (funext fun k => ?_)))
        by_cases hkn : k < n
        · rw [if_pos hkn, (z0 k (by omega)).2]
        · rw [if_neg hkn]
    · have x0 : ∀ i, xr m' i' ≠ xr m i ∨ 6 ≤ i := fun i => by
        by_cases h6 : i < 6
        · exact Or.inl (fun e => hmm (xr_inj hi' h6 e).1)
        · exact Or.inr (by omega)
      have n0 := (x0 0).resolve_right (by decide); have n4 := (x0 4).resolve_right (by decide); have n5 := (x0 5).resolve_right (by decide)
      unfold wmv
      rw [if_neg n5, if_neg (e9 _ _), wr_s_ne n0, wr_s_ne (e9 _ _)]
      show (if xr m' i' = xr m 4 then _ else _) = _
      rw [if_neg n4, if_neg (e9 _ _), wr_s_ne n0, wr_s_ne (e9 _ _), xW_mm hi', xW_mm hi', eA _ n4 n5]
      by_cases hm' : m' < cN C
      · rw [if_pos hm', if_pos hm']
        refine congrArg (Option.map _) ?_
        refine f6 (P := fun i' => xME dA C d j m' i' = xME dA C (zrD d m) (bgJ C m n q4 q5 j) m' i') ?_ ?_ ?_ ?_ ?_ ?_ i' hi'
        · show some (Sum.inr (cK C m' + 2, xFs C d j m')) = some (Sum.inr (cK C m' + 2, xFs C (zrD d m) (bgJ C m n q4 q5 j) m'))
          refine congrArg some (congrArg Sum.inr (congrArg _ ?_))
          refine xFs_congr rfl (fun g hg => ?_)
          have aa : ∀ i, i < 6 → jA (bgJ C m n q4 q5 j) (xr m' i) = jA j (xr m' i) := fun i hi => eA _ (x45 m' i hi (Or.inl hmm)).1 (x45 m' i hi (Or.inl hmm)).2
          unfold xV xE xEk
          rw [aa 1 (by decide), aa 2 (by decide), aa 3 (by decide), aa 4 (by decide), aa 5 (by decide), eW, eN, eD _ hmm]
          rfl
        · show some (e_Q _ _ _) = some (e_Q _ _ _)
          refine congrArg some (congrArg _ (funext fun i => ?_))
          cases cF C m' i with
          | none => rfl
          | some k => exact congrArg some (eA _ (x45 k 0 (by decide) (Or.inr (by decide))).1 (x45 k 0 (by decide) (Or.inr (by decide))).2).symm
        · rfl
        · rfl
        · show xM4 (cK C m') dA C d j m' = xM4 (cK C m') dA C (zrD d m) (bgJ C m n q4 q5 j) m'
          by_cases hk' : cK C m' = 11
          · rw [hk']
            show (jDn j m').map _ = (jDn (bgJ C m n q4 q5 j) m').map _
            rw [eD _ hmm]
            cases hd' : jDn j m' with
            | none => rfl
            | some n' =>
              have := hD m' n' hd'
              refine congrArg some (congrArg _ (funext fun k => ?_))
              by_cases hkn : k < n'
              · rw [if_pos hkn, if_pos hkn, (z21 _ (by omega)).1]
              · rw [if_neg hkn, if_neg hkn]
          · unfold xM4
            split <;> first | rfl | (exfalso; apply hk'; assumption)
        · show xM5 (cK C m') dA C d j m' = xM5 (cK C m') dA C (zrD d m) (bgJ C m n q4 q5 j) m'
          by_cases hk' : cK C m' = 11
          · rw [hk']
            show (jDn j m').map _ = (jDn (bgJ C m n q4 q5 j) m').map _
            rw [eD _ hmm]
            cases hd' : jDn j m' with
            | none => rfl
            | some n' =>
              have := hD m' n' hd'
              refine congrArg some (congrArg _ (funext fun k => ?_))
              by_cases hkn : k < n'
              · rw [if_pos hkn, if_pos hkn, (z21 _ (by omega)).2]
              · rw [if_neg hkn, if_neg hkn]
          · unfold xM5
            split <;> first | rfl | (exfalso; apply hk'; assumption)
      · rw [if_neg hm', if_neg hm']
