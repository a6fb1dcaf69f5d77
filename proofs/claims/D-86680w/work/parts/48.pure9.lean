/-! beginning, strips, keeping, counting, digest -/
def fil {α : Type} (f : Nat → α) (m k : Nat) (v : α) : Nat → α := fun j => if 16 * m ≤ j ∧ j < 16 * m + k then v else f j
theorem fil_0 {α : Type} (f : Nat → α) (m : Nat) (v : α) : fil f m 0 v = f := by funext j; unfold fil; rw [if_neg (by omega)]
theorem fil_s {α : Type} (f : Nat → α) (m k : Nat) (v : α) : vf_upd (fil f m k v) (16 * m + k) v = fil f m (k + 1) v := by
  funext j; unfold vf_upd fil
  by_cases e : j = 16 * m + k
  · rw [if_pos e, if_pos (by omega)]
  · rw [if_neg e]
    by_cases h : 16 * m ≤ j ∧ j < 16 * m + k
    · rw [if_pos h, if_pos (by omega)]
    · rw [if_neg h, if_neg (by omega)]
theorem fil_all {α : Type} {P : α → Prop} {f : Nat → α} {m k : Nat} {v : α} (h : ∀ j, P (f j)) (hv : P v) : ∀ j, P (fil f m k v j) := by
  intro j; unfold fil; split
  · exact hv
  · exact h _
def rbI (d : md_T) (m k : Nat) (v : UInt64) : md_T := sAF (sAD d 21 (fil (dAD d 21) m k v)) 22 (fil (dAF d 22) m k (FP.d2f v))
theorem rbI_0 (d : md_T) (m : Nat) (v : UInt64) : rbI d m 0 v = d := by unfold rbI; rw [fil_0, fil_0, sAD_self, sAF_self]
theorem rbI_s (d : md_T) (m k : Nat) (v : UInt64) : uAF (uAD (rbI d m k v) 21 (16 * m + k) v) 22 (16 * m + k) (FP.d2f v) = rbI d m (k + 1) v := by
  unfold rbI; rw [uAD_sAF, uAD_sAD, uAF_sAF, fil_s, fil_s]
def sd0 (C : tp_C) (m : Nat) : Int32 := if cK C m = 13 then FP.d2i (cS C m) else nI 0
def bg5 (C : tp_C) (m : Nat) (d : md_T) : md_T := uAI (uAF (uAD (uAD (uAI d 24 m (-1)) 25 m FP.dconst0) 17 m (cB C m)) 18 m (FP.d2f (cB C m))) 23 m (sd0 C m)
def bgS (C : tp_C) : Nat → md_T → md_T := fun m d => rbI (bg5 C m d) m 16 (cB C m)
def bgN (C : tp_C) (n : Nat) (d : md_T) : md_T := it_ (bgS C) n d
def be0 (C : tp_C) (d : md_T) : md_T := uI (uI (leD C d) 12 (nI 0)) 44 (nI 0)
def be1 (C : tp_C) (d : md_T) : md_T := raD C (bgN C (cN C) (be0 C d))
def beV (C : tp_C) (d : md_T) (m : Nat) : UInt64 := if cK C m = 2 then suD C (dAD d 19) m else FP.dconst0
def beS (C : tp_C) : Nat → md_T → md_T := fun m d => uAD (dfS m d) 26 m (beV C d m)
def beN (C : tp_C) (n : Nat) (d : md_T) : md_T := it_ (beS C) n d
def beD (C : tp_C) (d : md_T) : md_T := beN C (cN C) (be1 C d)
/-- levels are small -/
def lcn (f : Nat → Int32) (n : Nat) : Nat := it_ (fun m a => if f m = -1 then a else a + 1) n 0
theorem lcn_s (f : Nat → Int32) (n : Nat) : lcn f (n + 1) = if f n = -1 then lcn f n else lcn f n + 1 := rfl
theorem lcn_le (f : Nat → Int32) : ∀ n, lcn f n ≤ n
  | 0 => Nat.le_refl 0
  | n + 1 => by have := lcn_le f n; rw [lcn_s]; split <;> omega
theorem lcn_up {f : Nat → Int32} {k : Nat} {v : Int32} (h : f k = -1) (hv : ¬ v = -1) : ∀ n, lcn (upd f k v) n = if k < n then lcn f n + 1 else lcn f n
  | 0 => rfl
  | n + 1 => by
    rw [lcn_s, lcn_s, lcn_up h hv n]
    by_cases e : n = k
    · subst e
      rw [show upd f n v n = v by simp [upd], if_neg hv, h, if_neg (by omega), if_pos rfl, if_pos (by omega)]
    · rw [show upd f k v n = f n by simp [upd, e]]
      by_cases hk : k < n
      · have hk2 : k < n + 1 := by omega
        rw [if_pos hk, if_pos hk2]
        by_cases hf : f n = -1
        · rw [if_pos hf, if_pos hf]
        · rw [if_neg hf, if_neg hf]
      · have hk2 : ¬ k < n + 1 := by omega
        rw [if_neg hk, if_neg hk2]
theorem leA_b {C : tp_C} {f : Nat → Int32} {k B : Nat} (hB : B ≤ 1000) (h : ∀ m, m < cN C → (f m).toInt ≤ B) (hF : ∀ i q, cF C k i = some q → q < cN C) : ∀ n, 0 ≤ (leA C f k n).1.toInt ∧ (leA C f k n).1.toInt ≤ B
  | 0 => ⟨by show 0 ≤ (nI 0).toInt; decide, by show (nI 0).toInt ≤ (B : Int); rw [nI_toInt (by decide)]; omega⟩
  | n + 1 => by
    have ih := leA_b hB h hF n
    rw [leA_s]
    unfold leS
    split
    · rename_i q hq
      dsimp only
      split
      · exact ih
      · rename_i hlt
        rw [Int32.le_iff_toInt_le] at hlt
        have := h q (hF n q hq)
        omega
    · exact ih
def lqOK (C : tp_C) (f : Nat → Int32) : Prop := (∀ m, m < cN C → (f m).toInt ≤ lcn f (cN C)) ∧ ∀ m, cN C ≤ m → (f m).toInt ≤ 20
theorem lq_M {C : tp_C} {f : Nat → Int32} {k : Nat} (hC : mOK C) (hk : k < cN C) (h : lqOK C f) : lqOK C (leM C k f) := by
  unfold leM
  by_cases h1 : f k = -1
  · rw [if_pos h1]
    have hN := hC.n
    have hc := lcn_le f (cN C)
    have hb := leA_b (C := C) (f := f) (k := k) (B := lcn f (cN C)) (by omega) h.1 (fun i q e => hC.f e) 6
    by_cases h2 : (leA C f k 6).2 = true
    · rw [if_pos h2]
      have e1 : ((leA C f k 6).1 + nI 1).toInt = (leA C f k 6).1.toInt + 1 := by
        rw [Int32.toInt_add]
        show Int.bmod (_ + (nI 1).toInt) _ = _
        rw [nI_toInt (by decide)]
        apply Int.bmod_eq_of_le <;> omega
      have hv : ¬ (leA C f k 6).1 + nI 1 = -1 := fun e => by
        have := congrArg Int32.toInt e
        rw [e1, show (-1 : Int32).toInt = -1 by decide] at this
        omega
      have hcn := lcn_up h1 hv (cN C)
      rw [if_pos hk] at hcn
      refine ⟨fun m hm => ?_, fun m hm => ?_⟩
      · rw [hcn]
        by_cases e : m = k
        · subst e
          rw [show upd f m ((leA C f m 6).1 + nI 1) m = (leA C f m 6).1 + nI 1 by simp [upd], e1]; omega
        · rw [show upd f k ((leA C f k 6).1 + nI 1) m = f m by simp [upd, e]]
          have := h.1 m hm; omega
      · rw [show upd f k ((leA C f k 6).1 + nI 1) m = f m by simp [upd, show m ≠ k by omega]]; exact h.2 m hm
    · rw [if_neg h2]
      have e : upd f k (-1) = f := by
        funext m; unfold upd; split
        · rename_i e; rw [e, h1]
        · rfl
      rw [e]; exact h
  · rw [if_neg h1]; exact h
theorem lq_0 {C : tp_C} {f : Nat → Int32} (h : lvOK f) : ∀ n, n ≤ cN C → (∀ m, m < n → (le0 C f n m).toInt ≤ 0) ∧ ∀ m, n ≤ m → le0 C f n m = f m
  | 0, _ => ⟨fun m hm => by omega, fun m _ => rfl⟩
  | n + 1, hn => by
    obtain ⟨h1, h2⟩ := lq_0 (C := C) h n (by omega)
    rw [le0_s]
    refine ⟨fun m hm => ?_, fun m hm => ?_⟩
    · unfold upd; split
      · split <;> decide
      · exact h1 m (by omega)
    · have hne : ¬ m = n := by omega
      unfold upd; rw [if_neg hne]; exact h2 m (by omega)
theorem le_lv {C : tp_C} {f : Nat → Int32} (hC : mOK C) (h : lvOK f) : lvOK (leF C f) := by
  have hN := hC.n
  have h20 : ∀ m, (f m).toInt ≤ 20 := fun m => by
    have := h m; rw [Int32.le_iff_toInt_le, nI_toInt (by decide)] at this; exact this
  have q0 : lqOK C (le0 C f (cN C)) := by
    obtain ⟨h1, h2⟩ := lq_0 (C := C) h (cN C) (Nat.le_refl _)
    exact ⟨fun m hm => by have := h1 m hm; omega, fun m hm => by rw [h2 m hm]; exact h20 m⟩
  have q1 : lqOK C (leF C f) := it_ok (n := cN C) q0 (fun t a _ ha => it_ok (n := cN C) ha (fun k a hk ha => lq_M hC hk ha) (cN C) (Nat.le_refl _)) (cN C) (Nat.le_refl _)
  intro m
  rw [Int32.le_iff_toInt_le, nI_toInt (by decide)]
  by_cases hm : m < cN C
  · have := q1.1 m hm
    have := lcn_le (leF C f) (cN C)
    show (leF C f m).toInt ≤ ((20 : Nat) : Int)
    omega
  · exact q1.2 m (by omega)
/-- strips -/
theorem pm_sI {f g : Nat → Int32} {n : Nat} {v : Int32} (h : v = g n) : upd (pm f n g) n v = pm f (n + 1) g := pm_s h
def spF (f : Nat → UInt64) (n : Nat) (c : Nat → Nat) (g : Nat → UInt64) : Nat → UInt64 := fun j => if j / 120 < n ∧ j % 120 = c (j / 120) then g (j / 120) else f j
theorem spF_0 (f : Nat → UInt64) (c : Nat → Nat) (g : Nat → UInt64) : spF f 0 c g = f := by funext j; unfold spF; rw [if_neg (by omega)]
theorem spF_s {f : Nat → UInt64} {n : Nat} {c : Nat → Nat} {g : Nat → UInt64} (h : c n < 120) : vf_upd (spF f n c g) (120 * n + c n) (g n) = spF f (n + 1) c g := by
  funext j; unfold vf_upd spF
  by_cases e : j = 120 * n + c n
  · have e1 : j / 120 = n := by omega
    rw [if_pos e, e1, if_pos (by omega)]
  · rw [if_neg e]
    by_cases h2 : j / 120 < n ∧ j % 120 = c (j / 120)
    · rw [if_pos h2, if_pos (by omega)]
    · rw [if_neg h2, if_neg]
      rintro ⟨h3, h4⟩
      by_cases h5 : j / 120 = n
      · rw [h5] at h4; omega
      · exact h2 ⟨by omega, h4⟩
def tsI (C : tp_C) (d : md_T) (n : Nat) : md_T := sAI (sAD d 40 (spF (dAD d 40) n (cntN d) (fun s => dAD d 19 (cO C s)))) 39 (pm (dAI d 39) n (fun s => nI (cntN d s + 1)))
def tsD (C : tp_C) (d : md_T) : md_T := tsI C d (cZ C)
theorem tsI_0 (C : tp_C) (d : md_T) : tsI C d 0 = d := by unfold tsI; rw [pm_0, spF_0, sAD_self, sAI_self]
theorem tsI_s (C : tp_C) (d : md_T) (n : Nat) (h : cntN d n < 120) : uAI (uAD (tsI C d n) 40 (120 * n + cntN d n) (dAD d 19 (cO C n))) 39 n (nI (cntN d n + 1)) = tsI C d (n + 1) := by
  have e1 : uAD (tsI C d n) 40 (120 * n + cntN d n) (dAD d 19 (cO C n)) = sAI (uAD (sAD d 40 (spF (dAD d 40) n (cntN d) (fun s => dAD d 19 (cO C s)))) 40 (120 * n + cntN d n) (dAD d 19 (cO C n))) 39 (pm (dAI d 39) n (fun s => nI (cntN d s + 1))) := rfl
  rw [e1, uAD_sAD, uAI_sAI, spF_s (g := fun s => dAD d 19 (cO C s)) h, pm_sI rfl]
  rfl
/-- kept aside, and back -/
def keS : Nat → md_T → md_T := fun i d => uAD (uAD (uAI (uAI (uAF (uAD (uAF (uAD d 27 i (dAD d 17 i)) 28 i (dAF d 18 i)) 29 i (dAD d 19 i)) 30 i (dAF d 20 i)) 33 i (dAI d 23 i)) 34 i (dAI d 24 i)) 35 i (dAD d 25 i)) 36 i (dAD d 26 i)
def krS : Nat → md_T → md_T := fun i d => uAF (uAD d 31 i (dAD d 21 i)) 32 i (dAF d 22 i)
def ke1 (d : md_T) (n : Nat) : md_T := it_ keS n (uI d 58 (dI d 12))
def ke2 (d : md_T) (n : Nat) : md_T := it_ krS n (ke1 d 20)
def k320 : Nat := 320
def keD (d : md_T) : md_T := ke2 d k320
def baS : Nat → md_T → md_T := fun i d => uAD (uAD (uAI (uAI (uAF (uAD (uAF (uAD d 17 i (dAD d 27 i)) 18 i (dAF d 28 i)) 19 i (dAD d 29 i)) 20 i (dAF d 30 i)) 23 i (dAI d 33 i)) 24 i (dAI d 34 i)) 25 i (dAD d 35 i)) 26 i (dAD d 36 i)
def brS : Nat → md_T → md_T := fun i d => uAF (uAD d 21 i (dAD d 31 i)) 22 i (dAF d 32 i)
def ba1 (d : md_T) (n : Nat) : md_T := it_ baS n (uI d 12 (dI d 58))
def ba2 (d : md_T) (n : Nat) : md_T := it_ brS n (ba1 d 20)
def baD (d : md_T) : md_T := ba2 d k320
/-- counts -/
def ctF (C : tp_C) (n : Nat) : Nat := it_ (fun k a => a + if (cF C (k / 6) (k % 6)).isSome then 1 else 0) n 0
theorem ctF_s (C : tp_C) (n : Nat) : ctF C (n + 1) = ctF C n + if (cF C (n / 6) (n % 6)).isSome then 1 else 0 := rfl
def ctL (d : md_T) (n : Nat) : Nat := it_ (fun m a => a + if dAI d 24 m = -1 then 0 else 1) n 0
theorem ctL_s (d : md_T) (n : Nat) : ctL d (n + 1) = ctL d n + if dAI d 24 n = -1 then 0 else 1 := rfl
theorem ctF_le (C : tp_C) : ∀ n, ctF C n ≤ n
  | 0 => Nat.le_refl 0
  | n + 1 => by have := ctF_le C n; rw [ctF_s]; split <;> omega
theorem ctL_le (d : md_T) : ∀ n, ctL d n ≤ n
  | 0 => Nat.le_refl 0
  | n + 1 => by have := ctL_le d n; rw [ctL_s]; split <;> omega
def c120 : Nat := 120
def coI (C : tp_C) (d : md_T) (a : Int32) : Int32 := if inB a (nI 0) (nI 7) then (match ixN a with
  | 0 => nI (cN C)
  | 1 => nI (cZ C)
  | 2 => nI (ctF C c120)
  | 3 => rmx (leF C (dAI d 10)) (cN C)
  | 4 => nI (ctL d (cN C))
  | 5 => dI d 15
  | 6 => nI (cR C)
  | _ => nI (cH C)) else -102
def coD (C : tp_C) (d : md_T) (a : Int32) : md_T := if a = nI 3 then leD C d else d
theorem sw8 (a : Int32) : (∃ j, j ≤ 7 ∧ a = nI j) ∨ (inB a (nI 0) (nI 7) = false ∧ (a.toInt < 0 ∨ 7 < a.toInt)) := by
  cases h : inB a (nI 0) (nI 7) with
  | true =>
    obtain ⟨j, -, hj, e⟩ := in_nat h (by decide) (by decide)
    exact Or.inl ⟨j, hj, e⟩
  | false =>
    refine Or.inr ⟨rfl, ?_⟩
    have : ¬ (nI 0 ≤ a ∧ a ≤ nI 7) := fun e => nb_tf (inB_spec.mpr e) h
    rw [Int32.le_iff_toInt_le, Int32.le_iff_toInt_le, nI_toInt (by decide), nI_toInt (by decide)] at this
    omega
/-- the digest -/
def mxH (h v : Int64) : Int64 := 31 * h + v
def dgI (C : tp_C) (m : Nat) : Nat → Int64 → Int64 := fun i h => mxH (mxH h (oI (cF C m i)).toInt64) (if cT C m i then 1 else 0)
def dg6 (C : tp_C) (m n : Nat) (h : Int64) : Int64 := it_ (dgI C m) n h
def dgR (C : tp_C) (d : md_T) (m : Nat) (h : Int64) : Int64 := if cM C = 0 then h else mxH (mxH (mxH h (dAD d 19 m).toInt64) ((dAF d 20 m).toInt32).toInt64) (dAI d 24 m).toInt64
def dgM (C : tp_C) (d : md_T) : Nat → Int64 → Int64 := fun m h => dgR C d m (mxH (dg6 C m 6 (mxH (mxH h (nI (cK C m)).toInt64) (cS C m).toInt64)) (cB C m).toInt64)
def dg1 (C : tp_C) (d : md_T) (n : Nat) : Int64 := it_ (dgM C d) n (mxH (mxH 47 (nI (cM C)).toInt64) (dI d 12).toInt64)
def dgJ (d : md_T) (s : Nat) : Nat → Int64 → Int64 := fun i h => mxH h (dAD d 40 (120 * s + i)).toInt64
def dgT (d : md_T) (s n : Nat) (h : Int64) : Int64 := it_ (dgJ d s) n h
def dgS (d : md_T) : Nat → Int64 → Int64 := fun s h => dgT d s (cntN d s) (mxH h (nI (cntN d s)).toInt64)
def dg2 (C : tp_C) (d : md_T) (n : Nat) : Int64 := it_ (dgS d) n (dg1 C d (cN C))
def dgL (C : tp_C) (d : md_T) : Int64 := dg2 C d (cZ C)
