/-! sweeps: what they keep -/
theorem uD_A (d : md_T) (k : Nat) (v : UInt64) : dAI (uD d k v) = dAI d := rfl
theorem uD_D (d : md_T) (k : Nat) (v : UInt64) : dAD (uD d k v) = dAD d := rfl
theorem uD_F (d : md_T) (k : Nat) (v : UInt64) : dAF (uD d k v) = dAF d := rfl
theorem cjS_p (C : tp_C) (m : Nat) (a b : Int64) (j : Nat) : cjS C m a b (j + 1) = swC C m (swV a b j) := by
  unfold cjS; rw [if_neg (Nat.succ_ne_zero j), Nat.add_sub_cancel]
theorem cjS_n (C : tp_C) (m : Nat) (a b : Int64) (j : Nat) : wS (cjS C m a b j) (vf_upd (cS (cjS C m a b j)) m (swV a b j)) = swC C m (swV a b j) := (cjS_s C m a b j).trans (cjS_p C m a b j)
theorem sw_v {C : tp_C} {m : Nat} {v : UInt64} (h : vOK C) (hv : bD 1095 v) : vOK (swC C m v) := ⟨upd_all (P := bD 1095) h.1 hv, h.2⟩
theorem sw_dl {C : tp_C} {m : Nat} {v : UInt64} (h : dlOK C) (hv : stB (cK C m) v = true) : dlOK (swC C m v) := by
  intro k hk
  have hk2 : cK C k = 11 := hk
  show ∃ n, 1 ≤ n ∧ n ≤ 16 ∧ FP.d2i (vf_upd (cS C) m v k) = nI n
  unfold vf_upd
  split
  · rename_i e; subst e; rw [hk2] at hv; exact st_dl hv
  · exact h k hk2
theorem be_dD (C : tp_C) (d : md_T) : dD (beD C d) = dD d := by
  have e1 : dD (beD C d) = dD (be1 C d) := dD_it (f := beS C) (fun i d => rfl) (cN C) _
  have e2 : dD (be1 C d) = dD (bgN C (cN C) (be0 C d)) := raN_dD
  have e3 : dD (bgN C (cN C) (be0 C d)) = dD (be0 C d) := dD_it (f := bgS C) (fun i d => rfl) (cN C) _
  rw [e1, e2, e3]; rfl
theorem tr_59 (C : tp_C) (t : UInt64) (n : Nat) (d : md_T) : dD (trN C t n d) 59 = dD d 59 := by
  have e1 : dD (trN C t n d) = dD (uD (beD C d) 45 t) := dD_it (f := fun _ => stD C t) (fun i d => st_dD C t d) n _
  rw [e1]
  have e2 : dD (uD (beD C d) 45 t) 59 = dD (beD C d) 59 := by simp [uD, dD, va_up]
  rw [e2, be_dD]
theorem swN_59 (C : tp_C) (m q n : Nat) (a b : Int64) (d : md_T) : ∀ j, dD (swN C m q n a b j d) 59 = cS C m
  | 0 => up_at (dD (keD d)) 59 (cS C m)
  | j + 1 => by
    show dD (trN (swC C m (swV a b j)) (hvT (cH C)) n (swN C m q n a b j d)) 59 = _
    rw [tr_59]; exact swN_59 C m q n a b d j
theorem swN_ok {C : tp_C} {m q n c : Nat} {a b : Int64} {d : md_T} (hC : mOK C) (hV : vOK C) (hW : vfOK C) (hA : aOK C) (hL : lvOK (dAI d 10)) (h : iOK C (dAI d 10) d) (hs : ∀ j, j < c → stB (cK C m) (swV a b j) = true) : ∀ j, j ≤ c → iOK C (dAI (swN C m q n a b j d) 10) (swN C m q n a b j d) ∧ lvOK (dAI (swN C m q n a b j d) 10)
  | 0, _ => by
    have e : dAI (sw0 C m d) 10 = dAI d 10 := (congrFun (uD_A (keD d) 59 (cS C m)) 10).trans (ke_A d (by decide) (by decide))
    show iOK C (dAI (sw0 C m d) 10) (sw0 C m d) ∧ lvOK (dAI (sw0 C m d) 10)
    rw [e]
    exact ⟨iOK_mv (iOK_ke h) (uD_D (keD d) 59 (cS C m)) (uD_F (keD d) 59 (cS C m)) (congrFun (uD_A (keD d) 59 (cS C m)) 10), hL⟩
  | j + 1, hj => by
    have hH := hC.hv
    obtain ⟨i1, l1⟩ := swN_ok hC hV hW hA hL h hs j (by omega)
    obtain ⟨i2, l2⟩ := tr_ok (C := swC C m (swV a b j)) (t := hvT (cH C)) hC (sw_v hV (st_b (hs j (by omega)))) hW hA (hv_ok (by omega)) (hv_ok (k := cH C + 1) (by omega)) l1 i1 n
    have i2 : iOK C (dAI (trN (swC C m (swV a b j)) (hvT (cH C)) n (swN C m q n a b j d)) 10) (trN (swC C m (swV a b j)) (hvT (cH C)) n (swN C m q n a b j d)) := i2
    refine ⟨?_, l2⟩
    refine iOK_mv2 i2 (fun k hk => uAD_ne _ 42 _ _ (by omega)) (fun k hk => rfl) rfl
theorem mG_e {D : va_G} {dA : Nat → ClassId} {ad : Nat → Nat} {C C' : tp_C} {d : md_T} {s : State} {H : Heap} {locs : List Loc} (e : C = C') (G : mG D dA ad C d s H locs) : mG D dA ad C' d s H locs := e ▸ G
