/-! what the panel's own checks, levels and orders compute -/
theorem bo_1 (b : Bool) : bI b ||| nI 1 = bI true := by cases b <;> rfl
theorem bo_0 (b : Bool) : bI b ||| nI 0 = bI b := by cases b <;> rfl
theorem bo_b (a b : Bool) : bI a ||| bI b = bI (a || b) := by cases a <;> cases b <;> rfl
theorem bn_1 (b : Bool) : bI b &&& nI 1 = bI b := by cases b <;> rfl
theorem bn_0 (b : Bool) : bI b &&& nI 0 = bI false := by cases b <;> rfl
theorem bb_vp (b : Bool) : vp_nar .boolean (bI b) = bI b := by cases b <;> rfl
theorem nI_nm1 {k : Nat} (h : k < 2 ^ 31) : ¬ nI k = -1 := fun e => by
  have h1 := congrArg Int32.toInt e
  rw [nI_toInt h] at h1
  have h2 : (-1 : Int32).toInt = -1 := rfl
  omega
def alB (C : tp_C) (m n : Nat) : Bool := it_ (fun i b => b && (cF C m i).isSome) n true
theorem alB_s (C : tp_C) (m n : Nat) : alB C m (n + 1) = (alB C m n && (cF C m n).isSome) := rfl
theorem ndN_le (k : Nat) : ndN k ≤ 3 := by unfold ndN; split; omega; split; omega; split <;> omega
theorem hi_any {C : tp_C} {m : Nat} (h : cK C m = 0 ∨ cK C m = 2) : anyB C m 6 = hiB C m := by
  unfold hiB
  rcases h with h | h <;> rw [h] <;> rfl
theorem hi_all {C : tp_C} {m : Nat} (h0 : ¬ cK C m = 0) (h2 : ¬ cK C m = 2) (hk : cK C m < 14) : alB C m (ndN (cK C m)) = hiB C m := by
  unfold hiB
  rcases (show cK C m = 1 ∨ cK C m = 3 ∨ cK C m = 4 ∨ cK C m = 5 ∨ cK C m = 6 ∨ cK C m = 7 ∨ cK C m = 8 ∨ cK C m = 9 ∨ cK C m = 10 ∨ cK C m = 11 ∨ cK C m = 12 ∨ cK C m = 13 by omega) with h | h | h | h | h | h | h | h | h | h | h | h <;> rw [h]
  all_goals first | rfl | (show (((true && (cF C m 0).isSome) && (cF C m 1).isSome) && (cF C m 2).isSome) = ((cF C m 0).isSome && ((cF C m 1).isSome && (cF C m 2).isSome)); simp [Bool.and_assoc])
/-- a level: it stops at the first input that has none -/
def xlS (C : tp_C) (f : Nat → Int32) (k : Nat) : Nat → Int32 × Bool → Int32 × Bool := fun i a => if a.2 = true then (match cF C k i with
  | some q => if f q = -1 then (a.1, false) else (mxI a.1 (f q), true)
  | none => (a.1, true)) else a
def xlA (C : tp_C) (f : Nat → Int32) (k n : Nat) : Int32 × Bool := it_ (xlS C f k) n (nI 0, decide (f k = -1))
theorem xlA_s (C : tp_C) (f : Nat → Int32) (k n : Nat) : xlA C f k (n + 1) = xlS C f k n (xlA C f k n) := rfl
theorem xlA_0 (C : tp_C) (f : Nat → Int32) (k : Nat) : xlA C f k 0 = (nI 0, decide (f k = -1)) := rfl
theorem xlA_stop {C : tp_C} {f : Nat → Int32} {k i : Nat} (h : (xlA C f k i).2 = false) : ∀ {n : Nat}, i ≤ n → xlA C f k i = xlA C f k n := by
  intro n
  induction n with
  | zero => intro hn; rw [show i = 0 by omega]
  | succ n ih =>
    intro hn
    by_cases e : i = n + 1
    · rw [e]
    · rw [xlA_s, ← ih (by omega)]
      unfold xlS
      rw [if_neg (by rw [h]; decide)]
theorem mx_le (a b : Int32) : (if b ≤ a then a else b) = mxI a b := by
  unfold mxI
  by_cases h : a < b
  · rw [if_pos h, if_neg (Int32.not_le.mpr h)]
  · rw [if_neg h, if_pos (Int32.not_lt.mp h)]
theorem xl_le {C : tp_C} {f : Nat → Int32} {k : Nat} (h : f k = -1) : ∀ n, (xlA C f k n).2 = (leA C f k n).2 ∧ ((xlA C f k n).2 = true → (xlA C f k n).1 = (leA C f k n).1) := by
  intro n
  induction n with
  | zero => exact ⟨by rw [xlA_0]; simp [leA, it_, h], fun _ => rfl⟩
  | succ n ih =>
    obtain ⟨e1, e2⟩ := ih
    rw [xlA_s, leA_s]
    unfold xlS leS
    by_cases b : (xlA C f k n).2 = true
    · rw [if_pos b]
      have e3 := e2 b
      rw [b] at e1
      cases hc : cF C k n with
      | none => exact ⟨e1, fun _ => e3⟩
      | some q =>
        by_cases hq : f q = -1
        · simp only [hq, if_true, decide_true, Bool.not_true, Bool.and_false]
          exact ⟨trivial, fun x => by cases x⟩
        · simp only [hq, if_false, decide_false, Bool.not_false, Bool.and_true]
          exact ⟨e1, fun _ => by rw [e3, mx_le]⟩
    · rw [if_neg b]
      have b2 : (xlA C f k n).2 = false := by simpa using b
      rw [b2] at e1
      refine ⟨?_, fun x => absurd x b⟩
      rw [b2]
      cases hc : cF C k n with
      | none => exact e1
      | some q => show false = ((leA C f k n).2 && _); rw [← e1]; rfl
theorem upd_self (f : Nat → Int32) (k : Nat) : upd f k (f k) = f := by
  funext b; unfold upd; by_cases h : b = k
  · rw [h]; simp
  · simp [h]
theorem xl_M (C : tp_C) (k : Nat) (f : Nat → Int32) : upd f k (if (xlA C f k 6).2 = true then (xlA C f k 6).1 + nI 1 else f k) = leM C k f := by
  unfold leM
  by_cases h : f k = -1
  · obtain ⟨e1, e2⟩ := xl_le (C := C) h 6
    rw [if_pos h, ← e1]
    by_cases b : (xlA C f k 6).2 = true
    · rw [if_pos b, if_pos b, e2 b]
    · rw [if_neg b, if_neg b, h]
  · rw [if_neg h]
    have e0 : (xlA C f k 0).2 = false := by rw [xlA_0]; simp [h]
    rw [← xlA_stop e0 (Nat.zero_le 6), if_neg (by rw [e0]; decide), upd_self]
/-- the order: level by level -/
def orS (f : Nat → Int32) (l : Nat) : Nat → Nat × (Nat → Int32) → Nat × (Nat → Int32) := fun m a => if f m = nI l then (a.1 + 1, vf_upd a.2 a.1 (nI m)) else a
def orT (f : Nat → Int32) (N : Nat) : Nat → Nat × (Nat → Int32) → Nat × (Nat → Int32) := fun l a => it_ (orS f l) N a
def orN (f : Nat → Int32) (N n : Nat) (a : Nat × (Nat → Int32)) : Nat × (Nat → Int32) := it_ (orT f N) n a
theorem orS_s (f : Nat → Int32) (l m : Nat) (a : Nat × (Nat → Int32)) : it_ (orS f l) (m + 1) a = if f m = nI l then ((it_ (orS f l) m a).1 + 1, vf_upd (it_ (orS f l) m a).2 (it_ (orS f l) m a).1 (nI m)) else it_ (orS f l) m a := rfl
def ctB (p : Nat → Bool) (n : Nat) : Nat := it_ (fun k a => if p k then a + 1 else a) n 0
theorem ctB_s (p : Nat → Bool) (n : Nat) : ctB p (n + 1) = if p n then ctB p n + 1 else ctB p n := rfl
theorem ctB_le (p : Nat → Bool) : ∀ n, ctB p n ≤ n
  | 0 => Nat.le_refl _
  | n + 1 => by rw [ctB_s]; have := ctB_le p n; split <;> omega
theorem ctB_mono (p : Nat → Bool) {m : Nat} : ∀ {n}, m ≤ n → ctB p m ≤ ctB p n := by
  intro n
  induction n with
  | zero => intro h; rw [show m = 0 by omega]; exact Nat.le_refl _
  | succ n ih =>
    intro h
    by_cases e : m = n + 1
    · rw [e]; exact Nat.le_refl _
    · have := ih (by omega)
      rw [ctB_s]; split <;> omega
theorem ctB_add {p q r : Nat → Bool} (h : ∀ k, r k = (p k || q k)) (hd : ∀ k, p k = true → q k = false) : ∀ n, ctB r n = ctB p n + ctB q n
  | 0 => rfl
  | n + 1 => by
    rw [ctB_s, ctB_s, ctB_s, ctB_add h hd n, h n]
    cases hp : p n with
    | true => simp [hd n hp]; omega
    | false => cases hq : q n <;> simp <;> omega
/-- modules of levels below l -/
def lbB (f : Nat → Int32) (l : Nat) : Nat → Bool := fun m => decide (∃ l', l' < l ∧ f m = nI l')
def leqB (f : Nat → Int32) (l : Nat) : Nat → Bool := fun m => decide (f m = nI l)
theorem lb_s {f : Nat → Int32} {l : Nat} (k : Nat) : lbB f (l + 1) k = (lbB f l k || leqB f l k) := by
  unfold lbB leqB
  rw [← Bool.decide_or]
  congr 1
  apply propext
  constructor
  · rintro ⟨l', h1, h2⟩
    by_cases e : l' = l
    · right; rw [← e]; exact h2
    · left; exact ⟨l', by omega, h2⟩
  · rintro (⟨l', h1, h2⟩ | h)
    · exact ⟨l', by omega, h2⟩
    · exact ⟨l, by omega, h⟩
theorem lb_d {f : Nat → Int32} {l : Nat} (hl : l < 2 ^ 31) (k : Nat) (h : lbB f l k = true) : leqB f l k = false := by
  obtain ⟨l', h1, h2⟩ := of_decide_eq_true h
  refine decide_eq_false (fun e => ?_)
  have := (nI_eq (by omega) hl).mp (h2.symm.trans e)
  omega
theorem orS_n (f : Nat → Int32) (l : Nat) (a : Nat × (Nat → Int32)) : ∀ m, (it_ (orS f l) m a).1 = a.1 + ctB (leqB f l) m
  | 0 => rfl
  | m + 1 => by
    rw [orS_s, ctB_s]
    by_cases h : f m = nI l
    · rw [if_pos h, if_pos (show leqB f l m = true from decide_eq_true h), ← Nat.add_assoc, ← orS_n f l a m]
    · rw [if_neg h, if_neg (by unfold leqB; simp [h]), orS_n f l a m]
theorem orN_n (f : Nat → Int32) (N : Nat) (a : Nat × (Nat → Int32)) (ha : a.1 = 0) : ∀ l, l < 2 ^ 31 → (orN f N l a).1 = ctB (lbB f l) N
  | 0, _ => by
    have e : ∀ n, ctB (lbB f 0) n = 0 := fun n => by
      induction n with
      | zero => rfl
      | succ n ih => rw [ctB_s, if_neg, ih]; unfold lbB; simp
    rw [e]; exact ha
  | l + 1, hl => by
    show (it_ (orS f l) N (orN f N l a)).1 = _
    rw [orS_n, orN_n f N a ha l (by omega), ctB_add (fun k => lb_s k) (fun k => lb_d (by omega) k)]
theorem or_lt {f : Nat → Int32} {N l m : Nat} {a : Nat × (Nat → Int32)} (ha : a.1 = 0) (hl : l < 2 ^ 30) (hm : m < N) (h : f m = nI l) : (it_ (orS f l) m (orN f N l a)).1 < N := by
  rw [orS_n, orN_n f N a ha l (by omega)]
  have e1 := ctB_add (fun k => lb_s (f := f) (l := l) k) (fun k => lb_d (f := f) (l := l) (by omega) k) N
  have e2 := ctB_le (lbB f (l + 1)) N
  have e3 : ctB (leqB f l) (m + 1) = ctB (leqB f l) m + 1 := by rw [ctB_s, if_pos (show leqB f l m = true from decide_eq_true h)]
  have e4 := ctB_mono (leqB f l) (show m + 1 ≤ N by omega)
  omega
def sOdA (j : xj_T) (f : Nat → Int32) : xj_T := (jA j, jWf j, jNf j, jWr j, jNr j, jWn j, jNn j, jSr j, f, jRc j, jDn j)
def sRcA (j : xj_T) (f : Nat → Bool) : xj_T := (jA j, jWf j, jNf j, jWr j, jNr j, jWn j, jNn j, jSr j, jOd j, f, jDn j)
theorem sOd_A (j : xj_T) (f : Nat → Int32) (k : Nat) (v : Int32) : sOd (sOdA j f) k v = sOdA j (vf_upd f k v) := rfl
theorem sRc_A (j : xj_T) (f : Nat → Bool) (k : Nat) (v : Bool) : sRc (sRcA j f) k v = sRcA j (vf_upd f k v) := rfl
/-- what is read in an order -/
def rdO (C : tp_C) (o : Nat → Int32) (n : Nat) (d : md_T) : md_T := it_ (fun k d => mRd C (ixN (o k)) d) n d
def orOK (C : tp_C) (lv : Nat → Int32) (j : xj_T) : Prop := (∀ k, k < cN C → ∃ m, m < cN C ∧ jOd j k = nI m) ∧ ∀ d, dAI d 10 = lv → rdO C (jOd j) (cN C) d = raD C d
theorem rdO_ok {C : tp_C} {o : Nat → Int32} {d : md_T} (hC : mOK C) (hV : vOK C) (hA : aOK C) (hO : ∀ k, k < cN C → ∃ m, m < cN C ∧ o k = nI m) (hR : rOK d) : ∀ k, k ≤ cN C → rOK (rdO C o k d) :=
  it_ok hR (fun i a hi ha => by obtain ⟨m, hm, e⟩ := hO i hi; have hN := hC.n; rw [e, ixN_nI (by omega)]; exact mRd_ok hC hV ha (hA m hm))
theorem rdO_keep {C : tp_C} {o : Nat → Int32} {P : md_T → Prop} (h : ∀ m d, P d → P (mRd C m d)) {d : md_T} (hd : P d) (n : Nat) : P (rdO C o n d) := it_ok (n := n) hd (fun i a _ ha => h _ a ha) n (Nat.le_refl _)
/-- circles: those that m leads to -/
def mtI (C : tp_C) (m : Nat) (f : Nat → Bool) (k : Nat) : Nat → Bool → Bool := fun i b => b || (match cF C k i with
  | some q => decide (q = m) || f q
  | none => false)
def mtA (C : tp_C) (m : Nat) (f : Nat → Bool) (k n : Nat) : Bool := it_ (mtI C m f k) n false
theorem mtA_s (C : tp_C) (m : Nat) (f : Nat → Bool) (k n : Nat) : mtA C m f k (n + 1) = mtI C m f k n (mtA C m f k n) := rfl
def mtS (C : tp_C) (m : Nat) : Nat → (Nat → Bool) × Bool → (Nat → Bool) × Bool := fun k a => if rmB (cK C k) = false ∧ a.1 k = false then (vf_upd a.1 k (mtA C m a.1 k 6), a.2 || mtA C m a.1 k 6) else a
def mtP (C : tp_C) (m n : Nat) (f : Nat → Bool) : (Nat → Bool) × Bool := it_ (mtS C m) n (f, false)
theorem mtP_s (C : tp_C) (m n : Nat) (f : Nat → Bool) : mtP C m (n + 1) f = mtS C m n (mtP C m n f) := rfl
def mtW (C : tp_C) (m : Nat) : Nat → (Nat → Bool) → Bool → (Nat → Bool)
  | 0, f, _ => f
  | n + 1, f, b => if b = true then mtW C m n (mtP C m (cN C) f).1 (mtP C m (cN C) f).2 else f
def clB (f : Nat → Bool) (n : Nat) : Nat → Bool := it_ (fun k f => vf_upd f k false) n f
def icF (C : tp_C) (m : Nat) (f : Nat → Bool) : Nat → Bool := mtW C m (cN C + 3) (clB f (cN C)) true
def unm (f : Nat → Bool) (n : Nat) : Nat := ctB (fun k => !f k) n
theorem unm_le {f g : Nat → Bool} (h : ∀ k, f k = true → g k = true) : ∀ n, unm g n ≤ unm f n
  | 0 => Nat.le_refl _
  | n + 1 => by
    have := unm_le h n
    unfold unm at *
    rw [ctB_s, ctB_s]
    cases hf : f n with
    | true => rw [h n hf]; simpa using this
    | false => cases hg : g n <;> simp <;> omega
theorem unm_lt {f g : Nat → Bool} {k : Nat} (h : ∀ k, f k = true → g k = true) (hf : f k = false) (hg : g k = true) : ∀ n, k < n → unm g n < unm f n
  | 0, h0 => absurd h0 (by omega)
  | n + 1, h0 => by
    have a := unm_le h n
    unfold unm at a ⊢
    rw [ctB_s, ctB_s]
    by_cases e : k = n
    · subst e; rw [hf, hg]; simp; omega
    · have b := unm_lt h hf hg n (by omega)
      unfold unm at b
      cases hf2 : f n with
      | true => rw [h n hf2]; simpa using b
      | false => cases hg2 : g n <;> simp <;> omega
theorem mtP_up {C : tp_C} {m : Nat} {f : Nat → Bool} : ∀ n, (∀ k, f k = true → (mtP C m n f).1 k = true) ∧ ((mtP C m n f).2 = true → ∃ k, k < n ∧ f k = false ∧ (mtP C m n f).1 k = true)
  | 0 => ⟨fun _ h => h, fun h => by cases h⟩
  | n + 1 => by
    obtain ⟨h1, h2⟩ := mtP_up (C := C) (m := m) (f := f) n
    rw [mtP_s]
    unfold mtS
    by_cases c : rmB (cK C n) = false ∧ (mtP C m n f).1 n = false
    · rw [if_pos c]
      have up : ∀ k, (mtP C m n f).1 k = true → vf_upd (mtP C m n f).1 n (mtA C m (mtP C m n f).1 n 6) k = true := fun k hk => by
        unfold vf_upd
        by_cases e : k = n
        · subst e; rw [c.2] at hk; cases hk
        · simp [e, hk]
      refine ⟨fun k hk => up k (h1 k hk), fun hb => ?_⟩
      simp only [Bool.or_eq_true] at hb
      rcases hb with hb | hb
      · obtain ⟨k, a1, a2, a3⟩ := h2 hb
        exact ⟨k, by omega, a2, up k a3⟩
      · refine ⟨n, by omega, ?_, ?_⟩
        · cases hf : f n with
          | false => rfl
          | true => have := h1 n hf; rw [c.2] at this; cases this
        · show vf_upd _ n _ n = true
          unfold vf_upd; simp [hb]
    · rw [if_neg c]
      exact ⟨h1, fun hb => by obtain ⟨k, a1, a2⟩ := h2 hb; exact ⟨k, by omega, a2⟩⟩
theorem mt_dec {C : tp_C} {m : Nat} {f : Nat → Bool} {u : Nat} (h : unm f (cN C) + 1 < u + 1) : unm (mtP C m (cN C) f).1 (cN C) + (if (mtP C m (cN C) f).2 then 1 else 0) < u := by
  obtain ⟨h1, h2⟩ := mtP_up (C := C) (m := m) (f := f) (cN C)
  have a := unm_le h1 (cN C)
  cases hb : (mtP C m (cN C) f).2 with
  | false => simp; omega
  | true =>
    obtain ⟨k, b1, b2, b3⟩ := h2 hb
    have := unm_lt h1 b2 b3 (cN C) b1
    simp; omega
/-- cords of the first modules -/
def ctY (C : tp_C) (m n : Nat) : Nat := it_ (fun i a => a + if (cF C m i).isSome then 1 else 0) n 0
def ctX (C : tp_C) (n : Nat) : Nat := it_ (fun m a => a + ctY C m 6) n 0
theorem ctY_s (C : tp_C) (m n : Nat) : ctY C m (n + 1) = ctY C m n + if (cF C m n).isSome then 1 else 0 := rfl
theorem ctX_s (C : tp_C) (n : Nat) : ctX C (n + 1) = ctX C n + ctY C n 6 := rfl
theorem ctY_le (C : tp_C) (m : Nat) : ∀ n, ctY C m n ≤ n
  | 0 => Nat.le_refl _
  | n + 1 => by rw [ctY_s]; have := ctY_le C m n; split <;> omega
theorem ctX_le (C : tp_C) : ∀ n, ctX C n ≤ 6 * n
  | 0 => Nat.le_refl _
  | n + 1 => by rw [ctX_s]; have := ctX_le C n; have := ctY_le C n 6; omega
/-- the panel's check -/
def icL (C : tp_C) (g : Nat → Bool) (n : Nat) : Nat → Bool := it_ (fun m g => if rmB (cK C m) = true then g else icF C m g) n g
theorem icL_s (C : tp_C) (g : Nat → Bool) (n : Nat) : icL C g (n + 1) = if rmB (cK C n) = true then icL C g n else icF C n (icL C g n) := rfl
def xP3 (C : tp_C) (g : Nat → Bool) : Nat → Bool := fun m => !rmB (cK C m) && icF C m (icL C g m) m
def xkN (C : tp_C) (g : Nat → Bool) : Nat := match fi_ (ckP1 C) (cN C) with
  | some m => 1 + m
  | none => match fi_ (ckP2 C) (cN C) with
    | some m => 1 + m
    | none => match fi_ (xP3 C g) (cN C) with
      | some m => 1 + m
      | none => 0
def xkB (C : tp_C) (g : Nat → Bool) : Nat := match fi_ (ckP1 C) (cN C) with
  | some _ => 1
  | none => match fi_ (ckP2 C) (cN C) with
    | some _ => 2
    | none => match fi_ (xP3 C g) (cN C) with
      | some _ => 3
      | none => 0
def xkJ (C : tp_C) (g : Nat → Bool) : Nat → Bool := match fi_ (ckP1 C) (cN C) with
  | some _ => g
  | none => match fi_ (ckP2 C) (cN C) with
    | some _ => g
    | none => match fi_ (xP3 C g) (cN C) with
      | some m => icL C g (m + 1)
      | none => icL C g (cN C)
theorem uI_uI (d : md_T) (k : Nat) (v w : Int32) : uI (uI d k v) k w = uI d k w := by
  show (va_up (va_up (dI d) k v) k w, dD d, dH d, dAI d, dAD d, dAF d) = _
  rw [bx_uu]; rfl
theorem sRcA_A (j : xj_T) (f g : Nat → Bool) : sRcA (sRcA j f) g = sRcA j g := rfl
