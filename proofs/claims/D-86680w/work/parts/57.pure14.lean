/-! sweeps, halves -/
def swF (a b : Int64) : Bool := !decide ((9218868437227405312 : Int64) ≤ (a &&& (9223372036854775807 : Int64))) && !decide ((9218868437227405312 : Int64) ≤ (b &&& (9223372036854775807 : Int64)))
def swV (a b : Int64) (j : Nat) : UInt64 := FP.dadd a.toUInt64 (FP.dmul (FP.i2d (nI j)) b.toUInt64)
theorem sw_n1 {b : Int64} {j : Nat} (h : fD b.toUInt64) : vf_n64 (FP.dmul (FP.i2d (nI j)) b.toUInt64) := nD_mul (fin_b (zD_i2d (nI j)).1) (fin_b h)
theorem sw_n2 {a b : Int64} {j : Nat} (ha : fD a.toUInt64) (h : fD b.toUInt64) : vf_n64 (swV a b j) := nD_add' (fin_b ha) (sw_n1 h)
def swA (C : tp_C) (m : Nat) (a b : Int64) (n : Nat) : Bool := it_ (fun j r => r && stB (cK C m) (swV a b j)) n (swF a b)
theorem swA_s (C : tp_C) (m : Nat) (a b : Int64) (n : Nat) : swA C m a b (n + 1) = (swA C m a b n && stB (cK C m) (swV a b n)) := rfl
theorem swA_f {C : tp_C} {m : Nat} {a b : Int64} : ∀ {n : Nat}, swA C m a b n = true → swF a b = true
  | 0, h => h
  | n + 1, h => by rw [swA_s, Bool.and_eq_true] at h; exact swA_f h.1
theorem swA_at {C : tp_C} {m : Nat} {a b : Int64} : ∀ {n : Nat}, swA C m a b n = true → ∀ j, j < n → stB (cK C m) (swV a b j) = true
  | 0, _, j, hj => absurd hj (Nat.not_lt_zero j)
  | n + 1, h, j, hj => by
    rw [swA_s, Bool.and_eq_true] at h
    by_cases e : j = n
    · rw [e]; exact h.2
    · exact swA_at h.1 j (by omega)
theorem swF_f {a b : Int64} (h : swF a b = true) : fD a.toUInt64 ∧ fD b.toUInt64 := by
  unfold swF at h
  simp only [Bool.and_eq_true, Bool.not_eq_true', decide_eq_false_iff_not] at h
  exact ⟨fin_of h.1, fin_of h.2⟩
def swC (C : tp_C) (m : Nat) (v : UInt64) : tp_C := wS C (vf_upd (cS C) m v)
theorem swC_2 (C : tp_C) (m : Nat) (v w : UInt64) : swC (swC C m v) m w = swC C m w := by
  unfold swC
  have e : vf_upd (cS (wS C (vf_upd (cS C) m v))) m w = vf_upd (cS C) m w := by
    funext j; show vf_upd (vf_upd (cS C) m v) m w j = _
    unfold vf_upd; split <;> rfl
  rw [e]; rfl
theorem swC_b (C : tp_C) (m : Nat) (v : UInt64) : swC (swC C m v) m (cS C m) = C := by
  rw [swC_2]
  unfold swC
  have e : vf_upd (cS C) m (cS C m) = cS C := by
    funext j; unfold vf_upd; split
    · rename_i h; rw [h]
    · rfl
  rw [e]; rfl
def cjS (C : tp_C) (m : Nat) (a b : Int64) (j : Nat) : tp_C := if j = 0 then C else swC C m (swV a b (j - 1))
theorem cjS_s (C : tp_C) (m : Nat) (a b : Int64) (j : Nat) : swC (cjS C m a b j) m (swV a b j) = cjS C m a b (j + 1) := by
  unfold cjS
  rw [if_neg (Nat.succ_ne_zero j), Nat.add_sub_cancel]
  split
  · rfl
  · exact swC_2 C m _ _
theorem cjS_e (C : tp_C) (m : Nat) (a b : Int64) (j : Nat) (hj : 0 < j) : swC (cjS C m a b j) m (cS C m) = C := by
  unfold cjS; rw [if_neg (by omega)]; exact swC_b C m _
def swS (C : tp_C) (m q n : Nat) (a b : Int64) : Nat → md_T → md_T := fun j e => uAD (trN (swC C m (swV a b j)) (hvT (cH C)) n e) 42 j (dAD (trN (swC C m (swV a b j)) (hvT (cH C)) n e) 19 q)
def sw0 (C : tp_C) (m : Nat) (d : md_T) : md_T := uD (keD d) 59 (cS C m)
def swN (C : tp_C) (m q n : Nat) (a b : Int64) (j : Nat) (d : md_T) : md_T := it_ (swS C m q n a b) j (sw0 C m d)
def swG (C : tp_C) (m : Int32) (a b : Int64) (c n q : Int32) : Bool := inB c (nI 1) (nI 6) && (inB n (nI 1) (nI 40) && (nbB a && nbB b))
def swO (C : tp_C) (m : Int32) (a b : Int64) (c n q : Int32) : Bool := imB C m && imB C q && swG C m a b c n q && swA C (ixN m) a b (ixN c) && !decide (cM C = 0)
def swI (C : tp_C) (m : Int32) (a b : Int64) (c n q : Int32) : Int32 := if imB C m && imB C q then (if swG C m a b c n q then (if swA C (ixN m) a b (ixN c) then (if cM C = 0 then -103 else c) else -102) else -102) else -101
def swCC (C : tp_C) (m : Int32) (a b : Int64) (c n q : Int32) : tp_C := if swO C m a b c n q then wW C (ixN c) else C
def swD (C : tp_C) (d : md_T) (m : Int32) (a b : Int64) (c n q : Int32) : md_T := if swO C m a b c n q then baD (swN C (ixN m) (ixN q) (ixN n) a b (ixN c) d) else d
/-- halves -/
def ha1 (C : tp_C) (j : Nat) (e : md_T) : md_T := trN C (hvT (cH C)) j e
def ha2 (C : tp_C) (j : Nat) (e : md_T) : md_T := trN C (hvT (cH C + 1)) (2 * j) (ha1 C j e)
def haV (C : tp_C) (q j : Nat) (e : md_T) : UInt64 := FP.dsub (dAD (ha1 C j e) 19 q) (dAD (ha2 C j e) 19 q)
def haA (C : tp_C) (q j : Nat) (e : md_T) : UInt64 := if fx_lt (haV C q j e) FP.dconst0 then FP.dneg (haV C q j e) else haV C q j e
def haS (C : tp_C) (q : Nat) : Nat → UInt64 × md_T → UInt64 × md_T := fun i a => ((if fx_gt (haA C q (i + 1) a.2) a.1 then haA C q (i + 1) a.2 else a.1), ha2 C (i + 1) a.2)
def haN (C : tp_C) (q n : Nat) (d : md_T) : UInt64 × md_T := it_ (haS C q) n (FP.dconst0, keD d)
theorem haN_s (C : tp_C) (q n : Nat) (d : md_T) : haN C q (n + 1) d = haS C q n (haN C q n d) := rfl
def haO (C : tp_C) (q n : Int32) : Bool := imB C q && (inB n (nI 1) (nI 20) && !decide (cM C = 0))
def haL (C : tp_C) (d : md_T) (q n : Int32) : Int64 := if haO C q n then (haN C (ixN q) (ixN n) d).1.toInt64 else 0
def haD (C : tp_C) (d : md_T) (q n : Int32) : md_T := if haO C q n then baD (haN C (ixN q) (ixN n) d).2 else d
-- what is kept aside leaves what runs
theorem uAI_D (d : md_T) (k j : Nat) (v : Int32) : dAD (uAI d k j v) = dAD d := rfl
theorem uAF_D (d : md_T) (k j : Nat) (v : UInt32) : dAD (uAF d k j v) = dAD d := rfl
theorem uAI_F (d : md_T) (k j : Nat) (v : Int32) : dAF (uAI d k j v) = dAF d := rfl
theorem uAD_F (d : md_T) (k j : Nat) (v : UInt64) : dAF (uAD d k j v) = dAF d := rfl
theorem uAF_A (d : md_T) (k j : Nat) (v : UInt32) : dAI (uAF d k j v) = dAI d := rfl
theorem uAD_A (d : md_T) (k j : Nat) (v : UInt64) : dAI (uAD d k j v) = dAI d := rfl
theorem keS_D (i : Nat) (d : md_T) {k : Nat} (h1 : k ≠ 27) (h2 : k ≠ 29) (h3 : k ≠ 35) (h4 : k ≠ 36) : dAD (keS i d) k = dAD d k := by
  unfold keS
  rw [uAD_ne _ 36 _ _ h4, uAD_ne _ 35 _ _ h3, uAI_D, uAI_D, uAF_D, uAD_ne _ 29 _ _ h2, uAF_D, uAD_ne _ 27 _ _ h1]
theorem keS_F (i : Nat) (d : md_T) {k : Nat} (h1 : k ≠ 28) (h2 : k ≠ 30) : dAF (keS i d) k = dAF d k := by
  unfold keS
  rw [uAD_F, uAD_F, uAI_F, uAI_F, uAF_ne _ 30 _ _ h2, uAD_F, uAF_ne _ 28 _ _ h1, uAD_F]
theorem keS_A (i : Nat) (d : md_T) {k : Nat} (h1 : k ≠ 33) (h2 : k ≠ 34) : dAI (keS i d) k = dAI d k := by
  unfold keS
  rw [uAD_A, uAD_A, uAI_ne _ 34 _ _ h2, uAI_ne _ 33 _ _ h1, uAF_A, uAD_A, uAF_A, uAD_A]
theorem krS_D (i : Nat) (d : md_T) {k : Nat} (h1 : k ≠ 31) : dAD (krS i d) k = dAD d k := uu_D _ _ _ _ _ _ _ h1
theorem krS_F (i : Nat) (d : md_T) {k : Nat} (h1 : k ≠ 32) : dAF (krS i d) k = dAF d k := uu_F _ _ _ _ _ _ _ h1
theorem D_it {f : Nat → md_T → md_T} {k : Nat} (h : ∀ i d, dAD (f i d) k = dAD d k) (n : Nat) (d : md_T) : dAD (it_ f n d) k = dAD d k := it_ok (P := fun x => dAD x k = dAD d k) (n := n) rfl (fun i a _ ha => (h i a).trans ha) n (Nat.le_refl n)
theorem F_it {f : Nat → md_T → md_T} {k : Nat} (h : ∀ i d, dAF (f i d) k = dAF d k) (n : Nat) (d : md_T) : dAF (it_ f n d) k = dAF d k := it_ok (P := fun x => dAF x k = dAF d k) (n := n) rfl (fun i a _ ha => (h i a).trans ha) n (Nat.le_refl n)
theorem ke_D (d : md_T) {k : Nat} (h1 : k ≠ 27) (h2 : k ≠ 29) (h3 : k ≠ 35) (h4 : k ≠ 36) (h5 : k ≠ 31) : dAD (keD d) k = dAD d k := (D_it (f := krS) (fun i d => krS_D i d h5) k320 _).trans (D_it (f := keS) (fun i d => keS_D i d h1 h2 h3 h4) 20 _)
theorem ke_F (d : md_T) {k : Nat} (h1 : k ≠ 28) (h2 : k ≠ 30) (h3 : k ≠ 32) : dAF (keD d) k = dAF d k := (F_it (f := krS) (fun i d => krS_F i d h3) k320 _).trans (F_it (f := keS) (fun i d => keS_F i d h1 h2) 20 _)
theorem ke_A (d : md_T) {k : Nat} (h1 : k ≠ 33) (h2 : k ≠ 34) : dAI (keD d) k = dAI d k := (A_it (f := krS) (fun i d => rfl) k320 _).trans (A_it (f := keS) (fun i d => keS_A i d h1 h2) 20 _)
theorem iOK_mv2 {C : tp_C} {f : Nat → Int32} {d d' : md_T} (h : iOK C f d) (e1 : ∀ k, (k = 19 ∨ k = 17 ∨ k = 21 ∨ k = 46 ∨ k = 47 ∨ k = 48 ∨ k = 49 ∨ k = 54 ∨ k = 56) → dAD d' k = dAD d k) (e2 : ∀ k, (k = 20 ∨ k = 18 ∨ k = 22 ∨ k = 50 ∨ k = 51 ∨ k = 52 ∨ k = 53 ∨ k = 55 ∨ k = 57) → dAF d' k = dAF d k) (e3 : dAI d' 10 = dAI d 10) : iOK C f d' := by
  refine ⟨?_, ?_, ?_, ?_, ?_, e3.trans h.l⟩
  · unfold rOK; rw [e1 19 (by simp), e1 17 (by simp), e1 21 (by simp), e2 20 (by simp), e2 18 (by simp), e2 22 (by simp)]; exact h.r
  · unfold gOK; rw [e1 46 (by simp), e1 47 (by simp), e1 48 (by simp), e2 50 (by simp), e2 51 (by simp), e2 52 (by simp)]; exact h.g
  · unfold nOK; rw [e1 54 (by simp), e2 55 (by simp)]; exact h.n
  · unfold fOK; rw [e1 49 (by simp), e2 53 (by simp)]; exact h.f
  · unfold zOK; rw [e1 56 (by simp), e2 57 (by simp)]; exact h.z
theorem iOK_ke {C : tp_C} {f : Nat → Int32} {d : md_T} (h : iOK C f d) : iOK C f (keD d) :=
  iOK_mv2 h (fun k hk => ke_D d (by omega) (by omega) (by omega) (by omega) (by omega)) (fun k hk => ke_F d (by omega) (by omega) (by omega)) (ke_A d (by decide) (by decide))
theorem tr_ok {C : tp_C} {t : UInt64} {d : md_T} (hC : mOK C) (hV : vOK C) (hW : vfOK C) (hA : aOK C) (ht : tOK t) (ht2 : tOK (FP.ddiv t 4611686018427387904)) (hL : lvOK (dAI d 10)) (h : iOK C (dAI d 10) d) (n : Nat) : iOK C (dAI (trN C t n d) 10) (trN C t n d) ∧ lvOK (dAI (trN C t n d) 10) := by
  have h1 := (iOK_tr hC hV hW hA ht ht2 h n).1
  have h2 := le_lv hC hL
  rw [h1.l]
  exact ⟨h1, h2⟩
theorem haN_ok {C : tp_C} {q : Nat} {d : md_T} (hC : mOK C) (hV : vOK C) (hW : vfOK C) (hA : aOK C) (hL : lvOK (dAI d 10)) (h : iOK C (dAI d 10) d) (n : Nat) : (iOK C (dAI (haN C q n d).2 10) (haN C q n d).2 ∧ lvOK (dAI (haN C q n d).2 10)) ∧ vf_n64 (haN C q n d).1 := by
  have hH := hC.hv
  induction n with
  | zero =>
    have e : dAI (keD d) 10 = dAI d 10 := ke_A d (by decide) (by decide)
    show (iOK C (dAI (keD d) 10) (keD d) ∧ lvOK (dAI (keD d) 10)) ∧ vf_n64 FP.dconst0
    rw [e]
    exact ⟨⟨iOK_ke h, hL⟩, bD_n (K := 1) bD_0⟩
  | succ n ih =>
    obtain ⟨⟨i1, l1⟩, v1⟩ := ih
    obtain ⟨i2, l2⟩ := tr_ok (t := hvT (cH C)) hC hV hW hA (hv_ok (by omega)) (hv_ok (k := cH C + 1) (by omega)) l1 i1 (n + 1)
    obtain ⟨i3, l3⟩ := tr_ok (t := hvT (cH C + 1)) hC hV hW hA (hv_ok (by omega)) (hv_ok (k := cH C + 1 + 1) (by omega)) l2 i2 (2 * (n + 1))
    rw [haN_s]
    refine ⟨⟨i3, l3⟩, ?_⟩
    unfold haS
    dsimp only
    split
    · unfold haA; split
      · exact (v64_neg (nD_sub (i2.r.rd q) (i3.r.rd q))).2
      · exact nD_sub (i2.r.rd q) (i3.r.rd q)
    · exact v1
