/-! circles: both checks ask whether a module leads to itself -/
set_option maxRecDepth 100000
/-- k takes from q, and doesn't remember -/
def ed (C : tp_C) (k q : Nat) : Prop := k < cN C ∧ rmB (cK C k) = false ∧ ∃ i, i < 6 ∧ cF C k i = some q
def Rn (C : tp_C) : Nat → Nat → Nat → Prop
  | 0, a, b => ed C a b
  | n + 1, a, b => ∃ c, ed C a c ∧ Rn C n c b
def Rch (C : tp_C) (a b : Nat) : Prop := ∃ n, Rn C n a b
theorem Rch_1 {C : tp_C} {a b : Nat} (h : ed C a b) : Rch C a b := ⟨0, h⟩
theorem Rch_s {C : tp_C} {a b c : Nat} (h : ed C a c) (g : Rch C c b) : Rch C a b := by obtain ⟨n, g⟩ := g; exact ⟨n + 1, c, h, g⟩
theorem Rch_ind {C : tp_C} {b : Nat} {P : Nat → Prop} (h1 : ∀ a, ed C a b → P a) (h2 : ∀ a c, ed C a c → Rch C c b → P c → P a) : ∀ a, Rch C a b → P a := by
  rintro a ⟨n, h⟩
  revert a
  induction n with
  | zero => exact h1
  | succ n ih => rintro a ⟨c, e, g⟩; exact h2 a c e ⟨n, g⟩ (ih c g)
theorem Rch_t {C : tp_C} {a b c : Nat} (h : Rch C a b) (g : Rch C b c) : Rch C a c := Rch_ind (P := fun a => Rch C a c) (fun _ e => Rch_s e g) (fun _ _ e _ ih => Rch_s e ih) a h
theorem Rch_r {C : tp_C} {a b c : Nat} (h : Rch C a b) (g : ed C b c) : Rch C a c := Rch_t h (Rch_1 g)
theorem ed_lt {C : tp_C} (hC : mOK C) {k q : Nat} (h : ed C k q) : q < cN C := by obtain ⟨-, -, i, -, e⟩ := h; exact hC.f e
theorem Rch_l {C : tp_C} {a b : Nat} (h : Rch C a b) : a < cN C ∧ rmB (cK C a) = false := by
  obtain ⟨n, h⟩ := h
  cases n with
  | zero => exact ⟨h.1, h.2.1⟩
  | succ n => obtain ⟨c, e, _⟩ := h; exact ⟨e.1, e.2.1⟩
/-- passes of steps that only add -/
def infl (op : Nat → (Nat → Bool) → (Nat → Bool)) : Prop := ∀ k f q, f q = true → op k f q = true
theorem infl_it {op : Nat → (Nat → Bool) → (Nat → Bool)} (h : infl op) : ∀ {a b : Nat}, a ≤ b → ∀ f q, it_ op a f q = true → it_ op b f q = true := by
  intro a b
  induction b with
  | zero => intro hab f q hq; rw [show a = 0 by omega] at hq; exact hq
  | succ b ih =>
    intro hab f q hq
    by_cases e : a = b + 1
    · rw [e] at hq; exact hq
    · exact h b _ q (ih (by omega) f q hq)
theorem infl_0 {op : Nat → (Nat → Bool) → (Nat → Bool)} (h : infl op) (n : Nat) (f : Nat → Bool) (q : Nat) (hq : f q = true) : it_ op n f q = true := infl_it h (Nat.zero_le n) f q hq
/-- a pass that changes nothing: no step changes anything -/
theorem infl_fix {op : Nat → (Nat → Bool) → (Nat → Bool)} (h : infl op) {n : Nat} {f : Nat → Bool} (e : ∀ q, it_ op n f q = f q) : ∀ a, a ≤ n → it_ op a f = f := by
  intro a ha
  funext q
  cases hf : f q with
  | true => exact infl_0 h a f q hf
  | false =>
    cases hq : it_ op a f q with
    | false => rfl
    | true => have := infl_it h ha f q hq; rw [e q, hf] at this; cases this
theorem unm_z {f : Nat → Bool} : ∀ n, unm f n = 0 → ∀ q, q < n → f q = true
  | 0, _, q, hq => absurd hq (Nat.not_lt_zero q)
  | n + 1, h, q, hq => by
    unfold unm at h
    rw [ctB_s] at h
    cases hf : f n with
    | false => rw [hf] at h; simp at h
    | true =>
      rw [hf] at h
      by_cases e : q = n
      · rw [e]; exact hf
      · exact unm_z n (by simpa [unm] using h) q (by omega)
/-- so many passes that one changes nothing -/
theorem infl_end {op : Nat → (Nat → Bool) → (Nat → Bool)} {n N : Nat} (h : infl op) (hN : ∀ k f q, N ≤ q → op k f q = f q) : ∀ (u : Nat) (f : Nat → Bool), unm f N ≤ u → ∀ q, it_ (fun _ f => it_ op n f) u f q = it_ op n (it_ (fun _ f => it_ op n f) u f) q := by
  have out : ∀ a f q, N ≤ q → it_ op a f q = f q := fun a => by
    induction a with
    | zero => intro f q _; rfl
    | succ a ih => intro f q hq; exact (hN a _ q hq).trans (ih f q hq)
  -- if the first pass changes nothing, none does
  have stay : ∀ f, (∀ q, it_ op n f q = f q) → ∀ u, it_ (fun _ f => it_ op n f) u f = f := fun f e u => by
    have e1 : it_ op n f = f := funext e
    induction u with
    | zero => rfl
    | succ u ih => show it_ op n (it_ (fun _ f => it_ op n f) u f) = f; rw [ih, e1]
  have first : ∀ u f, it_ (fun (_ : Nat) f => it_ op n f) (u + 1) f = it_ (fun _ f => it_ op n f) u (it_ op n f) := fun u => by
    induction u with
    | zero => intro f; rfl
    | succ u ih => intro f; show it_ op n (it_ (fun _ f => it_ op n f) (u + 1) f) = _; rw [ih f]; rfl
  intro u
  induction u with
  | zero =>
    intro f hu q
    show f q = it_ op n f q
    by_cases hq : q < N
    · have := unm_z N (by omega) q hq
      rw [this, infl_0 h n f q this]
    · exact (out n f q (by omega)).symm
  | succ u ih =>
    intro f hu q
    by_cases e : ∀ q, it_ op n f q = f q
    · rw [stay f e (u + 1)]; exact (e q).symm
    · have ⟨k, hk⟩ := Classical.not_forall.mp e
      have hkN : k < N := Classical.byContradiction fun c => hk (out n f k (by omega))
      have hf : f k = false := by
        cases hf : f k with
        | false => rfl
        | true => exact absurd ((infl_0 h n f k hf).trans hf.symm) hk
      have hg : it_ op n f k = true := by
        cases hg : it_ op n f k with
        | true => rfl
        | false => exact absurd (hg.trans hf.symm) hk
      have := unm_lt (f := f) (g := it_ op n f) (k := k) (fun q hq => infl_0 h n f q hq) hf hg N hkN
      rw [first]
      exact ih (it_ op n f) (by omega) q
theorem unm_N (f : Nat → Bool) (N : Nat) : unm f N ≤ N := ctB_le _ N
/-- the reference's array as flags -/
def fB (f : Nat → Int32) : Nat → Bool := fun q => f q != 0
theorem bI_b (b : Bool) : (bI b != 0) = b := by cases b <;> rfl
def zoI (C : tp_C) (k : Nat) : Nat → (Nat → Bool) → (Nat → Bool) := fun i g => match cF C k i with
  | some q => vf_upd g q true
  | none => g
def zoS (C : tp_C) (m : Nat) : Nat → (Nat → Bool) → (Nat → Bool) := fun k g => if (k = m ∨ g k = true) ∧ rmB (cK C k) = false then it_ (zoI C k) 6 g else g
theorem fB_upd (f : Nat → Int32) (q : Nat) (b : Bool) : fB (upd f q (bI b)) = vf_upd (fB f) q b := by
  funext j; unfold fB upd vf_upd
  split
  · exact bI_b b
  · rfl
theorem fB_ci (C : tp_C) (k : Nat) : ∀ n f, fB (it_ (ciI C k) n f) = it_ (zoI C k) n (fB f)
  | 0, f => rfl
  | n + 1, f => by
    show fB (ciI C k n (it_ (ciI C k) n f)) = zoI C k n (it_ (zoI C k) n (fB f))
    rw [← fB_ci C k n f]
    unfold ciI zoI
    cases cF C k n with
    | none => rfl
    | some q => exact fB_upd _ q true
theorem fB_S (C : tp_C) (m k : Nat) (f : Nat → Int32) : fB (ciS C m k f) = zoS C m k (fB f) := by
  unfold ciS zoS
  have e : ((k = m ∨ (f k != 0) = true) ∧ rmB (cK C k) = false) = ((k = m ∨ fB f k = true) ∧ rmB (cK C k) = false) := rfl
  by_cases c : (k = m ∨ (f k != 0) = true) ∧ rmB (cK C k) = false
  · rw [if_pos c, if_pos (e ▸ c)]; exact fB_ci C k 6 f
  · rw [if_neg c, if_neg (e ▸ c)]
theorem fB_T (C : tp_C) (m : Nat) : ∀ n f, fB (it_ (ciS C m) n f) = it_ (zoS C m) n (fB f)
  | 0, f => rfl
  | n + 1, f => by
    show fB (ciS C m n (it_ (ciS C m) n f)) = zoS C m n (it_ (zoS C m) n (fB f))
    rw [fB_S, fB_T C m n f]
theorem fB_F (C : tp_C) (m : Nat) (f : Nat → Int32) : ∀ u, fB (it_ (ciT C m) u f) = it_ (fun _ g => it_ (zoS C m) (cN C) g) u (fB f)
  | 0 => rfl
  | u + 1 => by
    show fB (it_ (ciS C m) (cN C) (it_ (ciT C m) u f)) = it_ (zoS C m) (cN C) (it_ (fun _ g => it_ (zoS C m) (cN C) g) u (fB f))
    rw [fB_T, fB_F C m f u]
theorem fB_clr (f : Nat → Int32) : ∀ n q, q < n → fB (clr f n) q = false
  | 0, q, h => absurd h (Nat.not_lt_zero q)
  | n + 1, q, h => by
    rw [clr_s, fB_upd]
    unfold vf_upd
    split
    · rfl
    · exact fB_clr f n q (by omega)
theorem zoI_up (C : tp_C) (k : Nat) : infl (zoI C k) := fun i g q hq => by
  unfold zoI
  cases cF C k i with
  | none => exact hq
  | some r => show vf_upd g r true q = true; unfold vf_upd; split; rfl; exact hq
theorem zoS_up (C : tp_C) (m : Nat) : infl (zoS C m) := fun k g q hq => by
  unfold zoS
  split
  · exact infl_0 (zoI_up C k) 6 g q hq
  · exact hq
theorem zoI_mem (C : tp_C) (k : Nat) : ∀ n g q, it_ (zoI C k) n g q = true ↔ (g q = true ∨ ∃ i, i < n ∧ cF C k i = some q)
  | 0, g, q => ⟨fun h => Or.inl h, fun h => h.elim id (fun ⟨i, h, _⟩ => by omega)⟩
  | n + 1, g, q => by
    have ih := zoI_mem C k n g q
    show zoI C k n (it_ (zoI C k) n g) q = true ↔ _
    unfold zoI
    cases hc : cF C k n with
    | none =>
      show it_ (zoI C k) n g q = true ↔ _
      rw [ih]
      constructor
      · rintro (h | ⟨i, h1, h2⟩)
        · exact Or.inl h
        · exact Or.inr ⟨i, by omega, h2⟩
      · rintro (h | ⟨i, h1, h2⟩)
        · exact Or.inl h
        · refine Or.inr ⟨i, ?_, h2⟩
          rcases Nat.lt_or_ge i n with h | h
          · exact h
          · rw [show i = n by omega, hc] at h2; cases h2
    | some r =>
      show vf_upd (it_ (zoI C k) n g) r true q = true ↔ _
      unfold vf_upd
      by_cases e : q = r
      · rw [if_pos e]
        exact ⟨fun _ => Or.inr ⟨n, by omega, by rw [hc, e]⟩, fun _ => rfl⟩
      · rw [if_neg e, ih]
        constructor
        · rintro (h | ⟨i, h1, h2⟩)
          · exact Or.inl h
          · exact Or.inr ⟨i, by omega, h2⟩
        · rintro (h | ⟨i, h1, h2⟩)
          · exact Or.inl h
          · refine Or.inr ⟨i, ?_, h2⟩
            rcases Nat.lt_or_ge i n with h | h
            · exact h
            · rw [show i = n by omega, hc] at h2; injection h2 with h2; exact absurd h2.symm e
theorem zoS_N {C : tp_C} (hC : mOK C) (m : Nat) : ∀ k f q, cN C ≤ q → zoS C m k f q = f q := fun k f q hq => by
  unfold zoS
  split
  · cases h : f q with
    | true => exact (zoI_mem C k 6 f q).mpr (Or.inl h)
    | false =>
      cases h2 : it_ (zoI C k) 6 f q with
      | false => rfl
      | true =>
        rcases (zoI_mem C k 6 f q).mp h2 with h3 | ⟨i, -, h3⟩
        · rw [h] at h3; cases h3
        · have := hC.f h3; omega
  · rfl
/-- the reference: m leads to itself -/
theorem ci_R {C : tp_C} (hC : mOK C) {m : Nat} (hm : m < cN C) (hr : rmB (cK C m) = false) (f : Nat → Int32) : (ciF C m f m != 0) = true ↔ Rch C m m := by
  have e0 : ∀ q, (ciF C m f q != 0) = it_ (fun _ g => it_ (zoS C m) (cN C) g) (cN C + 1) (fB (clr f (cN C))) q := fun q => congrFun (fB_F C m (clr f (cN C)) (cN C + 1)) q
  rw [e0]
  constructor
  · -- whatever is marked is led to
    have key : ∀ u q, q < cN C → it_ (fun _ g => it_ (zoS C m) (cN C) g) u (fB (clr f (cN C))) q = true → Rch C m q := by
      intro u
      induction u with
      | zero => intro q hq h; rw [show it_ (fun (_ : Nat) g => it_ (zoS C m) (cN C) g) 0 (fB (clr f (cN C))) q = false from fB_clr f (cN C) q hq] at h; cases h
      | succ u ih =>
        have inner : ∀ a, a ≤ cN C → ∀ q, q < cN C → it_ (zoS C m) a (it_ (fun _ g => it_ (zoS C m) (cN C) g) u (fB (clr f (cN C)))) q = true → Rch C m q := by
          intro a
          induction a with
          | zero => intro _ q hq h; exact ih q hq h
          | succ a iha =>
            intro ha q hq h
            have h : zoS C m a (it_ (zoS C m) a (it_ (fun _ g => it_ (zoS C m) (cN C) g) u (fB (clr f (cN C))))) q = true := h
            unfold zoS at h
            split at h
            · rename_i c
              rcases (zoI_mem C a 6 _ q).mp h with h1 | ⟨i, hi, h1⟩
              · exact iha (by omega) q hq h1
              · have he : ed C a q := ⟨by omega, c.2, i, hi, h1⟩
                rcases c.1 with rfl | c1
                · exact Rch_1 he
                · exact Rch_r (iha (by omega) a (by omega) c1) he
            · exact iha (by omega) q hq h
        exact fun q hq h => inner (cN C) (Nat.le_refl _) q hq h
    exact key (cN C + 1) m hm
  · intro h
    have fx := infl_end (op := zoS C m) (n := cN C) (N := cN C) (zoS_up C m) (zoS_N hC m) (cN C + 1) (fB (clr f (cN C))) (by have := unm_N (fB (clr f (cN C))) (cN C); omega)
    generalize it_ (fun (_ : Nat) g => it_ (zoS C m) (cN C) g) (cN C + 1) (fB (clr f (cN C))) = g at fx
    have st := infl_fix (zoS_up C m) (fun q => (fx q).symm)
    have cl : ∀ k q, (k = m ∨ g k = true) → ed C k q → g q = true := fun k q hk he => by
      have e1 : zoS C m k g = g := by
        have a1 := st k (Nat.le_of_lt he.1)
        have a2 := st (k + 1) he.1
        have a2 : zoS C m k (it_ (zoS C m) k g) = g := a2
        rw [a1] at a2; exact a2
      rw [← e1]
      unfold zoS
      rw [if_pos ⟨hk, he.2.1⟩]
      obtain ⟨-, -, i, hi, e⟩ := he
      exact (zoI_mem C k 6 g q).mpr (Or.inr ⟨i, hi, e⟩)
    exact Rch_ind (P := fun a => (a = m ∨ g a = true) → g m = true) (fun _ e ha => cl _ _ ha e) (fun _ _ e _ ih ha => ih (Or.inr (cl _ _ ha e))) m h (Or.inl rfl)
/-- the panel: m leads to itself -/
theorem mtA_mem (C : tp_C) (m : Nat) (f : Nat → Bool) (k : Nat) : ∀ n, mtA C m f k n = true ↔ ∃ i, i < n ∧ ∃ q, cF C k i = some q ∧ (q = m ∨ f q = true)
  | 0 => ⟨fun h => by cases h, fun ⟨i, h, _⟩ => by omega⟩
  | n + 1 => by
    rw [mtA_s]
    unfold mtI
    rw [Bool.or_eq_true, mtA_mem C m f k n]
    constructor
    · rintro (⟨i, h1, h2⟩ | h)
      · exact ⟨i, by omega, h2⟩
      · refine ⟨n, by omega, ?_⟩
        cases hc : cF C k n with
        | none => rw [hc] at h; cases h
        | some q =>
          rw [hc] at h
          have h : (decide (q = m) || f q) = true := h
          rw [Bool.or_eq_true] at h
          exact ⟨q, rfl, h.imp of_decide_eq_true id⟩
    · rintro ⟨i, h1, q, h2, h3⟩
      rcases Nat.lt_or_ge i n with h | h
      · exact Or.inl ⟨i, h, q, h2, h3⟩
      · right
        rw [show i = n by omega] at h2
        rw [h2]
        show (decide (q = m) || f q) = true
        rw [Bool.or_eq_true]
        exact h3.imp decide_eq_true id
theorem clB_f (f : Nat → Bool) : ∀ n q, q < n → clB f n q = false
  | 0, q, h => absurd h (Nat.not_lt_zero q)
  | n + 1, q, h => by
    show vf_upd (clB f n) n false q = false
    unfold vf_upd
    split
    · rfl
    · exact clB_f f n q (by omega)
theorem mtP_snd {C : tp_C} {m : Nat} {f : Nat → Bool} : ∀ n, (mtP C m n f).2 = false → (mtP C m n f).1 = f ∧ ∀ k, k < n → rmB (cK C k) = false → f k = false → mtA C m f k 6 = false
  | 0, _ => ⟨rfl, fun k hk => by omega⟩
  | n + 1, h => by
    rw [mtP_s] at h ⊢
    unfold mtS at h ⊢
    by_cases c : rmB (cK C n) = false ∧ (mtP C m n f).1 n = false
    · rw [if_pos c] at h ⊢
      have h : ((mtP C m n f).2 || mtA C m (mtP C m n f).1 n 6) = false := h
      rw [Bool.or_eq_false_iff] at h
      obtain ⟨e1, e2⟩ := mtP_snd n h.1
      rw [e1] at h c ⊢
      refine ⟨?_, fun k hk hr hf => ?_⟩
      · show vf_upd f n (mtA C m f n 6) = f
        rw [h.2]
        funext q; unfold vf_upd; split
        · rename_i e; rw [e]; exact c.2.symm
        · rfl
      · by_cases e : k = n
        · rw [e]; exact h.2
        · exact e2 k (by omega) hr hf
    · rw [if_neg c] at h ⊢
      obtain ⟨e1, e2⟩ := mtP_snd n h
      refine ⟨e1, fun k hk hr hf => ?_⟩
      by_cases e : k = n
      · subst e; rw [e1] at c; exact absurd ⟨hr, hf⟩ c
      · exact e2 k (by omega) hr hf
theorem mtP_R {C : tp_C} (hC : mOK C) {m : Nat} : ∀ n, n ≤ cN C → ∀ f, (∀ k, k < cN C → f k = true → Rch C k m) → ∀ k, k < cN C → (mtP C m n f).1 k = true → Rch C k m
  | 0, _, f, h => h
  | n + 1, hn, f, h => by
    have ih := mtP_R hC n (by omega) f h
    rw [mtP_s]
    unfold mtS
    split
    · rename_i c
      intro k hk hq
      have hq : vf_upd (mtP C m n f).1 n (mtA C m (mtP C m n f).1 n 6) k = true := hq
      unfold vf_upd at hq
      split at hq
      · rename_i e
        subst e
        obtain ⟨i, hi, q, h1, h2⟩ := (mtA_mem C m _ k 6).mp hq
        have he : ed C k q := ⟨hk, c.1, i, hi, h1⟩
        rcases h2 with rfl | h2
        · exact Rch_1 he
        · exact Rch_s he (ih q (ed_lt hC he) h2)
      · exact ih k hk hq
    · exact ih
theorem mtW_R {C : tp_C} (hC : mOK C) {m : Nat} : ∀ u f b, (∀ k, k < cN C → f k = true → Rch C k m) → ∀ k, k < cN C → mtW C m u f b k = true → Rch C k m
  | 0, f, b, h => h
  | u + 1, f, b, h => by
    unfold mtW
    split
    · exact mtW_R hC u _ _ (mtP_R hC (cN C) (Nat.le_refl _) f h)
    · exact h
theorem mtW_end {C : tp_C} {m : Nat} : ∀ u f b, unm f (cN C) + (if b = true then 1 else 0) < u → (b = false → (mtP C m (cN C) f).2 = false) → (mtP C m (cN C) (mtW C m u f b)).2 = false
  | 0, f, b, h, _ => by omega
  | u + 1, f, b, h, hb => by
    unfold mtW
    cases b with
    | false => rw [if_neg (by decide)]; exact hb rfl
    | true =>
      rw [if_pos rfl]
      refine mtW_end u _ _ (mt_dec (by simpa using h)) (fun e => ?_)
      obtain ⟨e1, -⟩ := mtP_snd (cN C) e
      rw [e1]; exact e
theorem ic_R {C : tp_C} (hC : mOK C) {m : Nat} (hm : m < cN C) (f : Nat → Bool) : icF C m f m = true ↔ Rch C m m := by
  unfold icF
  constructor
  · exact mtW_R hC _ _ _ (fun k hk h => by rw [clB_f f (cN C) k hk] at h; cases h) m hm
  · intro h
    have fx := mtW_end (C := C) (m := m) (cN C + 3) (clB f (cN C)) true (by have := unm_N (clB f (cN C)) (cN C); simp; omega) (fun e => by cases e)
    generalize mtW C m (cN C + 3) (clB f (cN C)) true = g at fx
    obtain ⟨-, e2⟩ := mtP_snd (cN C) fx
    have cl : ∀ k q, ed C k q → (q = m ∨ g q = true) → g k = true := fun k q he hq => by
      cases hg : g k with
      | true => rfl
      | false =>
        have := e2 k he.1 he.2.1 hg
        obtain ⟨-, -, i, hi, e⟩ := he
        rw [(mtA_mem C m g k 6).mpr ⟨i, hi, q, e, hq⟩] at this; cases this
    exact Rch_ind (P := fun a => g a = true) (fun _ e => cl _ _ e (Or.inl rfl)) (fun _ _ e _ ih => cl _ _ e (Or.inr ih)) m h
theorem xP3_e {C : tp_C} (hC : mOK C) (g : Nat → Bool) (d : md_T) {m : Nat} (hm : m < cN C) : xP3 C g m = ckP3 C d m := by
  unfold xP3 ckP3 ciB
  cases hr : rmB (cK C m) with
  | true => rfl
  | false =>
    show icF C m (icL C g m) m = (ciF C m (dAI (ciL C d m) 43) m != 0)
    rw [Bool.eq_iff_iff, ic_R hC hm, ci_R hC hm hr]
/-- no module leads to itself -/
def nocy (C : tp_C) : Prop := ∀ m, ¬ Rch C m m
theorem xP3_R {C : tp_C} (hC : mOK C) (g : Nat → Bool) {m : Nat} (hm : m < cN C) (h : xP3 C g m = false) : ¬ Rch C m m := fun hR => by
  unfold xP3 at h
  rw [(Rch_l hR).2, (ic_R hC hm _).mpr hR] at h
  cases h
theorem fi_cong {p q : Nat → Bool} {n : Nat} (h : ∀ k, k < n → p k = q k) : fi_ p n = fi_ q n := by
  cases e : fi_ q n with
  | none =>
    exact fi_none (fun k hk => by rw [h k hk]; exact fi_inv0 e k hk)
  | some i =>
    obtain ⟨h1, h2, h3⟩ := fi_inv e
    exact fi_some h1 (by rw [h i h1]; exact h2) (fun k hk => by rw [h k (by omega)]; exact h3 k hk)
theorem xkN_e {C : tp_C} (hC : mOK C) (g : Nat → Bool) (d : md_T) : xkN C g = ckN C d := by
  unfold xkN ckN
  rw [fi_cong (p := xP3 C g) (q := ckP3 C d) (fun k hk => xP3_e hC g d hk)]
theorem xk_good {C : tp_C} (hC : mOK C) {g : Nat → Bool} (h : xkN C g = 0) : aOK C ∧ nocy C := by
  unfold xkN at h
  split at h
  · omega
  · rename_i h1
    split at h
    · omega
    · rename_i h2
      split at h
      · omega
      · rename_i h3
        refine ⟨fun m hm => ⟨?_, fun hk => ?_⟩, fun m hR => ?_⟩
        · have := fi_inv0 h1 m hm
          unfold ckP1 at this
          simpa using this
        · have := fi_inv0 h2 m hm
          unfold ckP2 at this
          rw [decide_eq_true hk] at this
          simp at this
          omega
        · exact xP3_R hC g (Rch_l hR).1 (fi_inv0 h3 m (Rch_l hR).1) hR
