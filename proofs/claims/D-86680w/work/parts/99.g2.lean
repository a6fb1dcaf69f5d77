/-! without circles all levels are found, and the order is the levels' -/
set_option maxRecDepth 100000
/-- inputs that are found -/
def inB6 (C : tp_C) (g : Nat → Bool) (k n : Nat) : Bool := it_ (fun i b => b && (match cF C k i with
  | some q => g q
  | none => true)) n true
theorem inB6_s (C : tp_C) (g : Nat → Bool) (k n : Nat) : inB6 C g k (n + 1) = (inB6 C g k n && (match cF C k n with
  | some q => g q
  | none => true)) := rfl
theorem inB6_mem (C : tp_C) (g : Nat → Bool) (k : Nat) : ∀ n, inB6 C g k n = true ↔ ∀ i, i < n → ∀ q, cF C k i = some q → g q = true
  | 0 => ⟨fun _ i h => by omega, fun _ => rfl⟩
  | n + 1 => by
    rw [inB6_s, Bool.and_eq_true, inB6_mem C g k n]
    constructor
    · rintro ⟨h1, h2⟩ i hi q hq
      by_cases e : i = n
      · subst e; rw [hq] at h2; exact h2
      · exact h1 i (by omega) q hq
    · intro h
      refine ⟨fun i hi => h i (by omega), ?_⟩
      cases hc : cF C k n with
      | none => rfl
      | some q => exact h n (by omega) q hc
def loB (C : tp_C) : Nat → (Nat → Bool) → (Nat → Bool) := fun k g => if g k = false ∧ inB6 C g k 6 = true then vf_upd g k true else g
def gB (f : Nat → Int32) : Nat → Bool := fun k => !decide (f k = -1)
theorem gB_t {f : Nat → Int32} {k : Nat} : gB f k = true ↔ ¬ f k = -1 := by unfold gB; simp
theorem gB_f {f : Nat → Int32} {k : Nat} : gB f k = false ↔ f k = -1 := by unfold gB; simp
/-- how many levels were found -/
def fnd (C : tp_C) (f : Nat → Int32) : Nat := ctB (fun k => !rmB (cK C k) && gB f k) (cN C)
/-- levels that were found are above their inputs' -/
def lvI (C : tp_C) (f : Nat → Int32) : Prop := (∀ k, k < cN C → rmB (cK C k) = true → f k = nI 0) ∧ ∀ k, k < cN C → rmB (cK C k) = false → f k = -1 ∨ ∃ l, f k = nI l ∧ 1 ≤ l ∧ l ≤ fnd C f ∧ ∀ i, i < 6 → ∀ q, cF C k i = some q → ∃ l', f q = nI l' ∧ l' < l
theorem fnd_le (C : tp_C) (f : Nat → Int32) : fnd C f ≤ cN C := ctB_le _ _
theorem lvI_n {C : tp_C} {f : Nat → Int32} (h : lvI C f) {q : Nat} (hq : q < cN C) (hg : ¬ f q = -1) : ∃ l, f q = nI l ∧ l ≤ fnd C f := by
  cases hr : rmB (cK C q) with
  | true => exact ⟨0, h.1 q hq hr, Nat.zero_le _⟩
  | false =>
    rcases h.2 q hq hr with e | ⟨l, e1, -, e2, -⟩
    · exact absurd e hg
    · exact ⟨l, e1, e2⟩
/-- the greatest of the inputs' levels -/
theorem leA_v {C : tp_C} (hC : mOK C) {f : Nat → Int32} (h : lvI C f) (k : Nat) : ∀ n, ((leA C f k n).2 = inB6 C (gB f) k n) ∧ ((leA C f k n).2 = true → ∃ l, (leA C f k n).1 = nI l ∧ l ≤ fnd C f ∧ ∀ i, i < n → ∀ q, cF C k i = some q → ∃ l', f q = nI l' ∧ l' ≤ l)
  | 0 => ⟨rfl, fun _ => ⟨0, rfl, Nat.zero_le _, fun i hi => by omega⟩⟩
  | n + 1 => by
    obtain ⟨h1, h2⟩ := leA_v hC h k n
    have hN := hC.n
    have hF := fnd_le C f
    rw [leA_s, inB6_s]
    unfold leS
    cases hc : cF C k n with
    | none =>
      refine ⟨by rw [h1]; simp, fun ht => ?_⟩
      obtain ⟨l, e1, e2, e3⟩ := h2 ht
      refine ⟨l, e1, e2, fun i hi q hq => ?_⟩
      by_cases e : i = n
      · subst e; rw [hc] at hq; cases hq
      · exact e3 i (by omega) q hq
    | some q =>
      refine ⟨by show ((leA C f k n).2 && !decide (f q = -1)) = (inB6 C (gB f) k n && gB f q); rw [h1]; rfl, fun ht => ?_⟩
      have ht : ((leA C f k n).2 && !decide (f q = -1)) = true := ht
      rw [Bool.and_eq_true] at ht
      obtain ⟨l, e1, e2, e3⟩ := h2 ht.1
      obtain ⟨l', g1, g2⟩ := lvI_n h (hC.f hc) (by simpa using ht.2)
      show ∃ z, (if f q ≤ (leA C f k n).1 then (leA C f k n).1 else f q) = nI z ∧ _
      rw [e1, g1]
      have hle : nI l' ≤ nI l ↔ l' ≤ l := by rw [Int32.le_iff_toInt_le, nI_toInt (by omega), nI_toInt (by omega)]; omega
      by_cases c : l' ≤ l
      · rw [if_pos (hle.mpr c)]
        refine ⟨l, rfl, e2, fun i hi r hr => ?_⟩
        by_cases e : i = n
        · subst e; rw [hc] at hr; cases hr; exact ⟨l', g1, c⟩
        · exact e3 i (by omega) r hr
      · rw [if_neg (fun z => c (hle.mp z))]
        refine ⟨l', rfl, g2, fun i hi r hr => ?_⟩
        by_cases e : i = n
        · subst e; rw [hc] at hr; cases hr; exact ⟨l', g1, Nat.le_refl _⟩
        · obtain ⟨l2, a1, a2⟩ := e3 i (by omega) r hr; exact ⟨l2, a1, by omega⟩
theorem ctB_mono2 {p q : Nat → Bool} (h : ∀ k, p k = true → q k = true) : ∀ n, ctB p n ≤ ctB q n
  | 0 => Nat.le_refl _
  | n + 1 => by
    have := ctB_mono2 h n
    rw [ctB_s, ctB_s]
    cases hp : p n with
    | true => rw [h n hp]; simp; omega
    | false => cases q n <;> simp <;> omega
theorem ctB_lt2 {p q : Nat → Bool} {k : Nat} (h : ∀ k, p k = true → q k = true) (hp : p k = false) (hq : q k = true) : ∀ n, k < n → ctB p n < ctB q n
  | 0, hk => by omega
  | n + 1, hk => by
    rw [ctB_s, ctB_s]
    by_cases e : k = n
    · subst e; rw [hp, hq]; have := ctB_mono2 h k; simp; omega
    · have := ctB_lt2 h hp hq n (by omega)
      cases hpn : p n with
      | true => rw [h n hpn]; simp; omega
      | false => cases q n <;> simp <;> omega
theorem ctB_all {p : Nat → Bool} : ∀ n, (∀ k, k < n → p k = true) → ctB p n = n
  | 0, _ => rfl
  | n + 1, h => by rw [ctB_s, if_pos (h n (by omega)), ctB_all n (fun k hk => h k (by omega))]
theorem upd_at (f : Nat → Int32) (k : Nat) (v : Int32) : upd f k v k = v := by unfold upd; simp
theorem upd_ne (f : Nat → Int32) {k j : Nat} (v : Int32) (h : j ≠ k) : upd f k v j = f j := by unfold upd; simp [h]
theorem leM_I {C : tp_C} (hC : mOK C) {f : Nat → Int32} {k : Nat} (hk : k < cN C) (h : lvI C f) : lvI C (leM C k f) ∧ gB (leM C k f) = loB C k (gB f) := by
  have hN := hC.n
  have hF := fnd_le C f
  obtain ⟨h1, h2⟩ := leA_v hC h k 6
  unfold leM loB
  by_cases c : f k = -1
  · rw [if_pos c]
    have hr : rmB (cK C k) = false := by
      cases hr : rmB (cK C k) with
      | false => rfl
      | true => have := h.1 k hk hr; rw [c] at this; exact absurd this.symm (nI_nm1 (by omega))
    by_cases b : (leA C f k 6).2 = true
    · rw [if_pos b, if_pos ⟨gB_f.mpr c, by rw [← h1]; exact b⟩]
      obtain ⟨l, e1, e2, e3⟩ := h2 b
      rw [e1, show nI l + nI 1 = nI (l + 1) from (nI_add l 1)]
      have up : ∀ q, gB f q = true → gB (upd f k (nI (l + 1))) q = true := fun q hq => by
        rw [gB_t] at hq ⊢
        by_cases e : q = k
        · subst e; exact absurd c hq
        · rw [upd_ne f _ e]; exact hq
      have hlt : fnd C f < fnd C (upd f k (nI (l + 1))) := by
        unfold fnd
        refine ctB_lt2 (k := k) (fun q hq => ?_) ?_ ?_ (cN C) hk
        · rw [Bool.and_eq_true] at hq ⊢; exact ⟨hq.1, up q hq.2⟩
        · rw [gB_f.mpr c]; simp
        · rw [hr, gB_t.mpr (by rw [upd_at]; exact nI_nm1 (by omega))]; rfl
      refine ⟨⟨fun q hq hrq => ?_, fun q hq hrq => ?_⟩, ?_⟩
      · by_cases e : q = k
        · subst e; rw [hr] at hrq; cases hrq
        · rw [upd_ne f _ e]; exact h.1 q hq hrq
      · by_cases e : q = k
        · subst e
          refine Or.inr ⟨l + 1, upd_at f q _, by omega, by omega, fun i hi r hr2 => ?_⟩
          obtain ⟨l', g1, g2⟩ := e3 i hi r hr2
          refine ⟨l', ?_, by omega⟩
          rw [upd_ne f _ (fun e => by rw [e, c] at g1; exact nI_nm1 (by omega) g1.symm)]; exact g1
        · rw [upd_ne f _ e]
          rcases h.2 q hq hrq with z | ⟨l2, a1, a2, a3, a4⟩
          · exact Or.inl z
          · refine Or.inr ⟨l2, a1, a2, by omega, fun i hi r hr2 => ?_⟩
            obtain ⟨l', g1, g2⟩ := a4 i hi r hr2
            refine ⟨l', ?_, g2⟩
            rw [upd_ne f _ (fun e => by rw [e, c] at g1; exact nI_nm1 (by omega) g1.symm)]; exact g1
      · funext q
        unfold vf_upd
        by_cases e : q = k
        · subst e; rw [if_pos rfl]; exact gB_t.mpr (by rw [upd_at]; exact nI_nm1 (by omega))
        · rw [if_neg e]; unfold gB; rw [upd_ne f _ e]
    · rw [if_neg b, if_neg (fun z => b (by rw [h1]; exact z.2))]
      have e : upd f k (-1) = f := by
        funext q
        by_cases e : q = k
        · subst e; rw [upd_at]; exact c.symm
        · exact upd_ne f _ e
      rw [e]
      exact ⟨h, rfl⟩
  · rw [if_neg c, if_neg (fun z => c (gB_f.mp z.1))]
    exact ⟨h, rfl⟩
theorem leN_I {C : tp_C} (hC : mOK C) : ∀ n, n ≤ cN C → ∀ f, lvI C f → lvI C (it_ (leM C) n f) ∧ gB (it_ (leM C) n f) = it_ (loB C) n (gB f)
  | 0, _, f, h => ⟨h, rfl⟩
  | n + 1, hn, f, h => by
    obtain ⟨a1, a2⟩ := leN_I hC n (by omega) f h
    obtain ⟨b1, b2⟩ := leM_I hC (k := n) (by omega) a1
    exact ⟨b1, by show gB (leM C n (it_ (leM C) n f)) = loB C n (it_ (loB C) n (gB f)); rw [b2, a2]⟩
theorem leU_I {C : tp_C} (hC : mOK C) (f : Nat → Int32) (h : lvI C f) : ∀ u, lvI C (it_ (leT C) u f) ∧ gB (it_ (leT C) u f) = it_ (fun _ g => it_ (loB C) (cN C) g) u (gB f)
  | 0 => ⟨h, rfl⟩
  | u + 1 => by
    obtain ⟨a1, a2⟩ := leU_I hC f h u
    obtain ⟨b1, b2⟩ := leN_I hC (cN C) (Nat.le_refl _) _ a1
    exact ⟨b1, by show gB (it_ (leM C) (cN C) (it_ (leT C) u f)) = it_ (loB C) (cN C) (it_ (fun _ g => it_ (loB C) (cN C) g) u (gB f)); rw [b2, a2]⟩
theorem le0_v (C : tp_C) (f : Nat → Int32) : ∀ n q, q < n → le0 C f n q = if rmB (cK C q) then nI 0 else -1
  | 0, q, h => absurd h (Nat.not_lt_zero q)
  | n + 1, q, h => by
    rw [le0_s]
    by_cases e : q = n
    · subst e; rw [upd_at]
    · rw [upd_ne _ _ e]; exact le0_v C f n q (by omega)
theorem le0_I (C : tp_C) (f : Nat → Int32) : lvI C (le0 C f (cN C)) := ⟨fun k hk hr => by rw [le0_v C f (cN C) k hk, hr]; rfl, fun k hk hr => Or.inl (by rw [le0_v C f (cN C) k hk, hr]; rfl)⟩
theorem loB_up (C : tp_C) : infl (loB C) := fun k g q hq => by
  unfold loB
  split
  · unfold vf_upd; split
    · rfl
    · exact hq
  · exact hq
theorem lo_it_out (C : tp_C) : ∀ n g q, n ≤ q → it_ (loB C) n g q = g q
  | 0, g, q, _ => rfl
  | n + 1, g, q, h => by
    show loB C n (it_ (loB C) n g) q = g q
    unfold loB
    split
    · unfold vf_upd; rw [if_neg (by omega)]; exact lo_it_out C n g q (by omega)
    · exact lo_it_out C n g q (by omega)
/-- all levels are found -/
theorem le_all {C : tp_C} (hC : mOK C) (hy : nocy C) (f : Nat → Int32) : ∀ k, k < cN C → ¬ leF C f k = -1 := by
  obtain ⟨h1, h2⟩ := leU_I hC _ (le0_I C f) (cN C)
  -- op that touches the panel's modules alone
  have fx : ∀ q, it_ (fun (_ : Nat) g => it_ (loB C) (cN C) g) (cN C) (gB (le0 C f (cN C))) q = it_ (loB C) (cN C) (it_ (fun (_ : Nat) g => it_ (loB C) (cN C) g) (cN C) (gB (le0 C f (cN C)))) q := by
    have hop : ∀ n g, n ≤ cN C → it_ (fun k g => if k < cN C then loB C k g else g) n g = it_ (loB C) n g := fun n => by
      induction n with
      | zero => intro g _; rfl
      | succ n ih => intro g hn; show (if n < cN C then loB C n (it_ _ n g) else _) = _; rw [if_pos (by omega), ih g (by omega)]; rfl
    have hop2 : ∀ u g, it_ (fun (_ : Nat) g => it_ (fun k g => if k < cN C then loB C k g else g) (cN C) g) u g = it_ (fun (_ : Nat) g => it_ (loB C) (cN C) g) u g := fun u => by
      induction u with
      | zero => intro g; rfl
      | succ u ih => intro g; show it_ _ (cN C) (it_ _ u g) = it_ (loB C) (cN C) (it_ _ u g); rw [ih g, hop (cN C) _ (Nat.le_refl _)]
    have := infl_end (op := fun k g => if k < cN C then loB C k g else g) (n := cN C) (N := cN C) (fun k g q hq => by
      show (if k < cN C then loB C k g else g) q = true
      split
      · exact loB_up C k g q hq
      · exact hq) (fun k g q hq => by
      show (if k < cN C then loB C k g else g) q = g q
      split
      · unfold loB; split
        · unfold vf_upd; rw [if_neg (by omega)]
        · rfl
      · rfl) (cN C) (gB (le0 C f (cN C))) (unm_N _ _)
    intro q
    have h3 := this q
    rw [hop2, hop (cN C) _ (Nat.le_refl _)] at h3
    exact h3
  rw [← h2] at fx
  have e0 : it_ (leT C) (cN C) (le0 C f (cN C)) = leF C f := rfl
  rw [e0] at fx h1
  generalize leF C f = lv at fx h1
  have st := infl_fix (loB_up C) (fun q => (fx q).symm)
  -- what isn't found has an input that isn't found
  have nx : ∀ k, k < cN C → lv k = -1 → ∃ q, ed C k q ∧ lv q = -1 := fun k hk hl => by
    have e1 : loB C k (gB lv) = gB lv := by
      have a1 := st k (Nat.le_of_lt hk)
      have a2 : loB C k (it_ (loB C) k (gB lv)) = gB lv := st (k + 1) hk
      rw [a1] at a2; exact a2
    have hr : rmB (cK C k) = false := by
      cases hr : rmB (cK C k) with
      | false => rfl
      | true => have := h1.1 k hk hr; rw [hl] at this; exact absurd this.symm (nI_nm1 (by omega))
    apply Classical.byContradiction
    intro hno
    have hin : inB6 C (gB lv) k 6 = true := (inB6_mem C (gB lv) k 6).mpr (fun i hi q hq => gB_t.mpr (fun z => hno ⟨q, ⟨hk, hr, i, hi, hq⟩, z⟩))
    have e2 := congrFun e1 k
    unfold loB at e2
    rw [if_pos ⟨gB_f.mpr hl, hin⟩, gB_f.mpr hl, vf_at] at e2
    cases e2
  -- those that are led to grow fewer along the cords
  let card : Nat → Nat := fun k => ctB (fun q => @decide (Rch C k q) (Classical.propDecidable _)) (cN C)
  have dec : ∀ k q, ed C k q → card q < card k := fun k q he => by
    refine ctB_lt2 (k := q) (fun r hr => ?_) ?_ ?_ (cN C) (ed_lt hC he)
    · exact (@decide_eq_true_iff _ (Classical.propDecidable _)).mpr (Rch_s he ((@decide_eq_true_iff _ (Classical.propDecidable _)).mp hr))
    · exact (@decide_eq_false_iff_not _ (Classical.propDecidable _)).mpr (hy q)
    · exact (@decide_eq_true_iff _ (Classical.propDecidable _)).mpr (Rch_1 he)
  have all : ∀ n k, card k < n → k < cN C → ¬ lv k = -1 := by
    intro n
    induction n with
    | zero => intro k h; omega
    | succ n ih =>
      intro k hn hk hl
      obtain ⟨q, he, hq⟩ := nx k hk hl
      have := dec k q he
      exact ih q (by omega) (ed_lt hC he) hq
  exact fun k hk => all (card k + 1) k (Nat.lt_succ_self _) hk
/-- levels, as numbers -/
theorem le_num {C : tp_C} (hC : mOK C) (hy : nocy C) (f : Nat → Int32) : ∀ k, k < cN C → ∃ l, leF C f k = nI l ∧ l ≤ cN C ∧ (rmB (cK C k) = false → ∀ i, i < 6 → ∀ q, cF C k i = some q → ∃ l', leF C f q = nI l' ∧ l' < l) := by
  intro k hk
  have h1 : lvI C (leF C f) := (leU_I hC _ (le0_I C f) (cN C)).1
  have hF := fnd_le C (leF C f)
  cases hr : rmB (cK C k) with
  | true => exact ⟨0, h1.1 k hk hr, Nat.zero_le _, fun e => by cases e⟩
  | false =>
    rcases h1.2 k hk hr with e | ⟨l, e1, e2, e3, e4⟩
    · exact absurd e (le_all hC hy f k hk)
    · exact ⟨l, e1, by omega, fun _ => e4⟩
theorem rdO_ext {C : tp_C} {o o' : Nat → Int32} {d : md_T} : ∀ n, (∀ k, k < n → o k = o' k) → rdO C o n d = rdO C o' n d
  | 0, _ => rfl
  | n + 1, h => by
    show mRd C (ixN (o n)) (rdO C o n d) = mRd C (ixN (o' n)) (rdO C o' n d)
    rw [rdO_ext n (fun k hk => h k (by omega)), h n (by omega)]
theorem raS_10 {C : tp_C} {l : Nat} (n : Nat) (d : md_T) : dAI (it_ (raS C l) n d) 10 = dAI d 10 := it_ok (n := n) (P := fun x => dAI x 10 = dAI d 10) rfl (fun i a _ ha => raS_keep (P := fun x => dAI x 10 = dAI d 10) (fun m x hx => (mRd_A C m x (by decide)).trans hx) i a ha) n (Nat.le_refl _)
/-- what the order holds -/
theorem orS_rd {C : tp_C} (hN : cN C ≤ 20) {f : Nat → Int32} {d : md_T} (hd : dAI d 10 = f) {l : Nat} {a : Nat × (Nat → Int32)} (h : rdO C a.2 a.1 d = raN C l d) (hp : ∀ k, k < a.1 → ∃ m, m < cN C ∧ a.2 k = nI m) : ∀ n, n ≤ cN C → rdO C (it_ (orS f l) n a).2 (it_ (orS f l) n a).1 d = it_ (raS C l) n (raN C l d) ∧ ∀ k, k < (it_ (orS f l) n a).1 → ∃ m, m < cN C ∧ (it_ (orS f l) n a).2 k = nI m
  | 0, _ => ⟨h, hp⟩
  | n + 1, hn => by
    obtain ⟨h1, h2⟩ := orS_rd hN hd h hp n (by omega)
    have e10 : dAI (it_ (raS C l) n (raN C l d)) 10 = f := (raS_10 n _).trans ((raN_A (by decide)).trans hd)
    rw [orS_s, raS_s, e10]
    by_cases c : f n = nI l
    · rw [if_pos c, if_pos c]
      refine ⟨?_, fun k hk => ?_⟩
      · show mRd C (ixN (vf_upd (it_ (orS f l) n a).2 (it_ (orS f l) n a).1 (nI n) (it_ (orS f l) n a).1)) (rdO C (vf_upd (it_ (orS f l) n a).2 (it_ (orS f l) n a).1 (nI n)) (it_ (orS f l) n a).1 d) = _
        rw [vf_at, ixN_nI (by omega), rdO_ext (o' := (it_ (orS f l) n a).2) _ (fun k hk => vf_ne _ _ (by omega)), h1]
      · have hk : k < (it_ (orS f l) n a).1 + 1 := hk
        show ∃ m, m < cN C ∧ vf_upd (it_ (orS f l) n a).2 (it_ (orS f l) n a).1 (nI n) k = nI m
        by_cases e : k = (it_ (orS f l) n a).1
        · exact ⟨n, by omega, by rw [e, vf_at]⟩
        · obtain ⟨m, g1, g2⟩ := h2 k (by omega)
          exact ⟨m, g1, by rw [vf_ne _ _ e]; exact g2⟩
    · rw [if_neg c, if_neg c]
      exact ⟨h1, h2⟩
theorem orN_rd {C : tp_C} (hN : cN C ≤ 20) {f : Nat → Int32} {d : md_T} (hd : dAI d 10 = f) (o : Nat → Int32) : ∀ l, rdO C (orN f (cN C) l (0, o)).2 (orN f (cN C) l (0, o)).1 d = raN C l d ∧ ∀ k, k < (orN f (cN C) l (0, o)).1 → ∃ m, m < cN C ∧ (orN f (cN C) l (0, o)).2 k = nI m
  | 0 => ⟨rfl, fun k hk => absurd hk (Nat.not_lt_zero k)⟩
  | l + 1 => by
    obtain ⟨h1, h2⟩ := orN_rd hN hd o l
    exact orS_rd hN hd h1 h2 (cN C) (Nat.le_refl _)
theorem raT_none {C : tp_C} {l : Nat} {d : md_T} (h : ∀ m, m < cN C → ¬ dAI d 10 m = nI l) : raT C l d = d := by
  unfold raT
  have : ∀ n, n ≤ cN C → it_ (raS C l) n d = d := fun n => by
    induction n with
    | zero => intro _; rfl
    | succ n ih => intro hn; rw [raS_s, ih (by omega), if_neg (h n (by omega))]
  exact this (cN C) (Nat.le_refl _)
theorem raN_stop {C : tp_C} {d : md_T} {u : Nat} : ∀ n, (∀ l, u ≤ l → l < u + n → ∀ m, m < cN C → ¬ dAI d 10 m = nI l) → raN C (u + n) d = raN C u d
  | 0, _ => rfl
  | n + 1, h => by
    show raT C (u + n) (raN C (u + n) d) = _
    rw [raN_stop n (fun l h1 h2 => h l h1 (by omega)), raT_none (fun m hm => by rw [raN_A (by decide)]; exact h (u + n) (by omega) (by omega) m hm)]
theorem rmx_ge {f : Nat → Int32} : ∀ n m, m < n → f m ≤ rmx f n
  | 0, m, h => absurd h (Nat.not_lt_zero m)
  | n + 1, m, h => by
    rw [rmx_s]
    by_cases e : m = n
    · subst e
      split
      · rename_i c; exact c
      · exact Int32.le_refl _
    · have := rmx_ge n m (by omega)
      split
      · exact this
      · rename_i c; exact Int32.le_trans this (Int32.le_of_lt (Int32.not_le.mp c))
theorem rmx_num {f : Nat → Int32} {N : Nat} (hN : N < 2 ^ 31) : ∀ n, (∀ m, m < n → ∃ l, f m = nI l ∧ l ≤ N) → ∃ l, rmx f n = nI l ∧ l ≤ N
  | 0, _ => ⟨0, rfl, Nat.zero_le _⟩
  | n + 1, h => by
    rw [rmx_s]
    split
    · exact rmx_num hN n (fun m hm => h m (by omega))
    · exact h n (by omega)
/-- without circles the panel reads as the reference does -/
theorem nocy_or {C : tp_C} (hC : mOK C) (hy : nocy C) : orG C := fun f j => by
  have hN := hC.n
  have hl := le_num hC hy f
  generalize hlv : leF C f = lv at hl
  have cnt : (orN lv (cN C) (cN C + 1) (0, jOd j)).1 = cN C := by
    rw [orN_n lv (cN C) _ rfl (cN C + 1) (by omega)]
    refine ctB_all (cN C) (fun k hk => ?_)
    obtain ⟨l, e1, e2, -⟩ := hl k hk
    exact decide_eq_true ⟨l, by omega, e1⟩
  refine ⟨fun k hk => ?_, fun d hd => ?_⟩
  · have hd0 : ∃ d : md_T, dAI d 10 = lv := ⟨sAI nmd 10 lv, by simp [sAI, dAI, va_up]⟩
    obtain ⟨d0, hd0⟩ := hd0
    exact (orN_rd hN hd0 (jOd j) (cN C + 1)).2 k (by rw [cnt]; exact hk)
  · have h1 := (orN_rd hN hd (jOd j) (cN C + 1)).1
    rw [cnt] at h1
    show rdO C (orN lv (cN C) (cN C + 1) (0, jOd j)).2 (cN C) d = raD C d
    rw [h1]
    unfold raD
    obtain ⟨mx, m1, m2⟩ := rmx_num (f := dAI d 10) (N := cN C) (by omega) (cN C) (fun m hm => by obtain ⟨l, e1, e2, -⟩ := hl m hm; exact ⟨l, by rw [hd]; exact e1, e2⟩)
    have em : mxN (dAI d 10) (cN C) = mx := by unfold mxN; rw [m1, ixN_nI (by omega)]
    rw [em]
    have := raN_stop (C := C) (d := d) (u := mx + 1) (cN C - mx) (fun l hl2 hl3 m hm e => by
      have a1 := rmx_ge (f := dAI d 10) (cN C) m hm
      obtain ⟨l', e1, e2, -⟩ := hl m hm
      rw [hd, e1] at e
      have e3 : l' = l := (nI_eq (by omega) (by omega)).mp e
      rw [m1, hd, e1, Int32.le_iff_toInt_le, nI_toInt (by omega), nI_toInt (by omega)] at a1
      omega)
    rw [← this, show mx + 1 + (cN C - mx) = cN C + 1 by omega]
