/-! worlds by role: a cell has a number (its role); the list of a world is the roles' cells in order -/
abbrev wr_F : Type := Nat → Option (Nat × va_E)
def wr_l (N : Nat) (w : wr_F) : va_W := (List.range N).filterMap w
def wr_s (w : wr_F) (r : Nat) (q : Nat × va_E) : wr_F := fun i => if i = r then some q else w i
theorem wr_l_succ (N : Nat) (w : wr_F) : wr_l (N + 1) w = wr_l N w ++ (w N).toList := by
  unfold wr_l
  rw [List.range_succ, List.filterMap_append]
  cases h : w N <;> simp [h]
theorem wr_l_congr {N : Nat} {w w' : wr_F} (h : ∀ i, i < N → w i = w' i) : wr_l N w = wr_l N w' := by
  induction N with
  | zero => rfl
  | succ N ih => rw [wr_l_succ, wr_l_succ, ih (fun i hi => h i (by omega)), h N (by omega)]
theorem wr_pos {w : wr_F} : ∀ {N r : Nat} {q : Nat × va_E}, r < N → w r = some q → ∃ k, (wr_l N w)[k]? = some q ∧ ∀ q', (wr_l N w).set k q' = wr_l N (wr_s w r q')
  | 0, r, q, h, _ => absurd h (Nat.not_lt_zero r)
  | N + 1, r, q, h, hw => by
    by_cases hr : r = N
    · subst hr
      have e1 : ∀ q', wr_l r (wr_s w r q') = wr_l r w := fun q' => wr_l_congr (fun i hi => by unfold wr_s; rw [if_neg (Nat.ne_of_lt hi)])
      refine ⟨(wr_l r w).length, ?_, fun q' => ?_⟩
      · rw [wr_l_succ, hw]; simp
      · rw [wr_l_succ, wr_l_succ, hw, e1]
        rw [List.set_append_right _ _ (Nat.le_refl _)]
        simp [wr_s]
    · have hlt : r < N := by omega
      obtain ⟨k, h1, h2⟩ := wr_pos hlt hw
      have hk : k < (wr_l N w).length := (List.getElem?_eq_some_iff.mp h1).1
      refine ⟨k, ?_, fun q' => ?_⟩
      · rw [wr_l_succ, List.getElem?_append_left hk]; exact h1
      · rw [wr_l_succ, wr_l_succ, List.set_append_left _ _ hk, h2]
        have e2 : wr_s w r q' N = w N := by unfold wr_s; rw [if_neg (fun e => hr e.symm)]
        rw [e2]
theorem wr_mem {w : wr_F} {q : Nat × va_E} : ∀ {N : Nat}, q ∈ wr_l N w ↔ ∃ r, r < N ∧ w r = some q := by
  intro N
  unfold wr_l
  rw [List.mem_filterMap]
  constructor
  · rintro ⟨r, h1, h2⟩
    exact ⟨r, List.mem_range.mp h1, h2⟩
  · rintro ⟨r, h1, h2⟩
    exact ⟨r, List.mem_range.mpr h1, h2⟩
theorem wr_P {D : va_G} {cl : List vw_C} {w : wr_F} {N : Nat} {H : Heap} : va_P D cl (wr_l N w) H ↔ ∀ r q, r < N → w r = some q → va_at D cl q H := by
  constructor
  · intro h r q hr hq
    obtain ⟨k, h1, -⟩ := wr_pos hr hq
    exact h k q h1
  · intro h k q hk
    obtain ⟨r, h1, h2⟩ := wr_mem.mp (List.mem_of_getElem? hk)
    exact h r q h1 h2
/-- the place of each entry is a role -/
theorem wr_role {w : wr_F} : ∀ {N : Nat} {k : Nat} {q : Nat × va_E}, (wr_l N w)[k]? = some q → ∃ r, r < N ∧ w r = some q ∧ k = (wr_l r w).length
  | 0, k, q, h => by simp [wr_l] at h
  | N + 1, k, q, h => by
    rw [wr_l_succ] at h
    by_cases hk : k < (wr_l N w).length
    · rw [List.getElem?_append_left hk] at h
      obtain ⟨r, h1, h2, h3⟩ := wr_role h
      exact ⟨r, by omega, h2, h3⟩
    · rw [List.getElem?_append_right (by omega)] at h
      cases hw : w N with
      | none => rw [hw] at h; simp at h
      | some q' =>
        rw [hw] at h
        have hz : k - (wr_l N w).length < 1 := (List.getElem?_eq_some_iff.mp h).1
        have hk0 : k - (wr_l N w).length = 0 := by omega
        rw [hk0] at h
        simp at h
        subst h
        exact ⟨N, by omega, hw, by omega⟩
theorem wr_len_lt {w : wr_F} {N r : Nat} {q : Nat × va_E} (hr : r < N) (hq : w r = some q) : (wr_l r w).length < (wr_l N w).length := by
  induction N with
  | zero => omega
  | succ N ih =>
    rw [wr_l_succ, List.length_append]
    by_cases h : r = N
    · subst h; rw [hq]; simp
    · have := ih (by omega); omega
theorem wr_D {A : Nat → Prop} {w : wr_F} {N : Nat} : va_D A (wr_l N w) ↔ (∀ i j p q, i < N → j < N → w i = some p → w j = some q → p.1 = q.1 → i = j) ∧ ∀ r q, r < N → w r = some q → A q.1 := by
  constructor
  · intro h
    refine ⟨fun i j p q hi hj hp hq e => ?_, fun r q hr hq => ?_⟩
    · obtain ⟨ki, a1, -⟩ := wr_pos hi hp
      obtain ⟨kj, b1, -⟩ := wr_pos hj hq
      have hpi : (wr_l N w)[(wr_l i w).length]? = some p := by
        clear a1 b1 hj hq e
        induction N with
        | zero => omega
        | succ N ih =>
          rw [wr_l_succ]
          by_cases hN : i = N
          · subst hN; rw [hp]; simp
          · have hlt : i < N := by omega
            rw [List.getElem?_append_left (wr_len_lt hlt hp)]
            exact ih (by
              have h1 := h
              rw [wr_l_succ] at h1
              exact ⟨fun a b x y ha hb => h1.1 a b x y (by rw [List.getElem?_append_left (List.getElem?_eq_some_iff.mp ha).1]; exact ha) (by rw [List.getElem?_append_left (List.getElem?_eq_some_iff.mp hb).1]; exact hb), fun a x ha => h1.2 a x (by rw [List.getElem?_append_left (List.getElem?_eq_some_iff.mp ha).1]; exact ha)⟩) hlt
      have hqj : (wr_l N w)[(wr_l j w).length]? = some q := by
        clear a1 b1 hi hp e hpi
        induction N with
        | zero => omega
        | succ N ih =>
          rw [wr_l_succ]
          by_cases hN : j = N
          · subst hN; rw [hq]; simp
          · have hlt : j < N := by omega
            rw [List.getElem?_append_left (wr_len_lt hlt hq)]
            exact ih (by
              have h1 := h
              rw [wr_l_succ] at h1
              exact ⟨fun a b x y ha hb => h1.1 a b x y (by rw [List.getElem?_append_left (List.getElem?_eq_some_iff.mp ha).1]; exact ha) (by rw [List.getElem?_append_left (List.getElem?_eq_some_iff.mp hb).1]; exact hb), fun a x ha => h1.2 a x (by rw [List.getElem?_append_left (List.getElem?_eq_some_iff.mp ha).1]; exact ha)⟩) hlt
      have hl := h.1 _ _ p q hpi hqj e
      rcases Nat.lt_trichotomy i j with c | c | c
      · have := wr_len_lt c hp; omega
      · exact c
      · have := wr_len_lt c hq; omega
    · obtain ⟨k, h1, -⟩ := wr_pos hr hq
      exact h.2 k q h1
  · rintro ⟨h1, h2⟩
    refine ⟨fun i j p q hi hj e => ?_, fun k q hk => ?_⟩
    · obtain ⟨ri, a1, a2, a3⟩ := wr_role hi
      obtain ⟨rj, b1, b2, b3⟩ := wr_role hj
      have := h1 ri rj p q a1 b1 a2 b2 e
      subst this
      omega
    · obtain ⟨r, a1, a2, -⟩ := wr_role hk
      exact h2 r q a1 a2
/-! the five predicates of two doubles (floats), as Java's operators ask them -/
def fx_gt (x y : UInt64) : Bool := FP.dcmp x y == some .gt
def fx_lt (x y : UInt64) : Bool := FP.dcmp x y == some .lt
def fx_ge (x y : UInt64) : Bool := FP.dcmp x y == some .gt || FP.dcmp x y == some .eq
def fx_le (x y : UInt64) : Bool := FP.dcmp x y == some .lt || FP.dcmp x y == some .eq
def fx_eq (x y : UInt64) : Bool := FP.dcmp x y == some .eq
def fy_gt (x y : UInt32) : Bool := FP.fcmp x y == some .gt
def fy_lt (x y : UInt32) : Bool := FP.fcmp x y == some .lt
def fy_ge (x y : UInt32) : Bool := FP.fcmp x y == some .gt || FP.fcmp x y == some .eq
def fy_le (x y : UInt32) : Bool := FP.fcmp x y == some .lt || FP.fcmp x y == some .eq
def fy_eq (x y : UInt32) : Bool := FP.fcmp x y == some .eq
theorem fz_l_le (o : Option Ordering) : Op.cmpValue o .l ≤ 0 ↔ (o == some .gt) = false := by rcases o with _ | (_ | _ | _) <;> decide
theorem fz_l_gt (o : Option Ordering) : 0 < Op.cmpValue o .l ↔ (o == some .gt) = true := by rcases o with _ | (_ | _ | _) <;> decide
theorem fz_l_lt (o : Option Ordering) : Op.cmpValue o .l < 0 ↔ (o == some .gt || o == some .eq) = false := by rcases o with _ | (_ | _ | _) <;> decide
theorem fz_l_ge (o : Option Ordering) : 0 ≤ Op.cmpValue o .l ↔ (o == some .gt || o == some .eq) = true := by rcases o with _ | (_ | _ | _) <;> decide
theorem fz_l_eq (o : Option Ordering) : Op.cmpValue o .l = 0 ↔ (o == some .eq) = true := by rcases o with _ | (_ | _ | _) <;> decide
theorem fz_g_ge (o : Option Ordering) : 0 ≤ Op.cmpValue o .g ↔ (o == some .lt) = false := by rcases o with _ | (_ | _ | _) <;> decide
theorem fz_g_lt (o : Option Ordering) : Op.cmpValue o .g < 0 ↔ (o == some .lt) = true := by rcases o with _ | (_ | _ | _) <;> decide
theorem fz_g_gt (o : Option Ordering) : 0 < Op.cmpValue o .g ↔ (o == some .lt || o == some .eq) = false := by rcases o with _ | (_ | _ | _) <;> decide
theorem fz_g_le (o : Option Ordering) : Op.cmpValue o .g ≤ 0 ↔ (o == some .lt || o == some .eq) = true := by rcases o with _ | (_ | _ | _) <;> decide
