section TP5
variable {p : Program} {l : Launch} {e : Env} {R : Room} {s : State} {m : MethodId} {args : Array Value} {below : List Frame} {meth : Method} {c : Code} {H : Heap} {locs : List Loc} {cells slots : Nat} {Q : State → Prop}
variable {cc : ByteArray} {pc : Nat} {ls : Array Slot} {rest : List Value}
theorem bb_eq (hx : p.tables.exec = Jvm.exec) (hb : c.code = cc) {a : Bool} {off : Int} {tgt : Nat} (hdg : decode cc pc = .ok (.ifCond .eq off, 3)) (ht : (pc : Int) + off = (tgt : Int)) (kt : a = false → W p l e R s m args below meth c H locs cells slots Q (F0 m tgt ls rest)) (kf : a = true → W p l e R s m args below meth c H locs cells slots Q (F0 m (pc + 3) ls rest)) : W p l e R s m args below meth c H locs cells slots Q (F0 m pc ls (.int (bI a) :: rest)) := by
  cases a
  · exact lv_if_eq hx hb hdg ht (fun _ => kt rfl) (fun h => absurd rfl h)
  · exact lv_if_eq hx hb hdg ht (fun h => absurd h (by decide)) (fun _ => kf rfl)
theorem bb_ne (hx : p.tables.exec = Jvm.exec) (hb : c.code = cc) {a : Bool} {off : Int} {tgt : Nat} (hdg : decode cc pc = .ok (.ifCond .ne off, 3)) (ht : (pc : Int) + off = (tgt : Int)) (kt : a = true → W p l e R s m args below meth c H locs cells slots Q (F0 m tgt ls rest)) (kf : a = false → W p l e R s m args below meth c H locs cells slots Q (F0 m (pc + 3) ls rest)) : W p l e R s m args below meth c H locs cells slots Q (F0 m pc ls (.int (bI a) :: rest)) := by
  cases a
  · exact lv_if_ne hx hb hdg ht (fun h => absurd rfl h) (fun _ => kf rfl)
  · exact lv_if_ne hx hb hdg ht (fun _ => kt rfl) (fun h => absurd h (by decide))
theorem nz_eq (hx : p.tables.exec = Jvm.exec) (hb : c.code = cc) {a : Nat} {off : Int} {tgt : Nat} (ha : a < 2 ^ 31) (hdg : decode cc pc = .ok (.ifCond .eq off, 3)) (ht : (pc : Int) + off = (tgt : Int)) (kt : a = 0 → W p l e R s m args below meth c H locs cells slots Q (F0 m tgt ls rest)) (kf : ¬ a = 0 → W p l e R s m args below meth c H locs cells slots Q (F0 m (pc + 3) ls rest)) : W p l e R s m args below meth c H locs cells slots Q (F0 m pc ls (.int (nI a) :: rest)) := by
  exact lv_if_eq hx hb hdg ht (fun h => kt ((nI_eq ha (by decide)).mp h)) (fun h => kf (fun q => h ((nI_eq ha (by decide)).mpr q)))
theorem nz_ne (hx : p.tables.exec = Jvm.exec) (hb : c.code = cc) {a : Nat} {off : Int} {tgt : Nat} (ha : a < 2 ^ 31) (hdg : decode cc pc = .ok (.ifCond .ne off, 3)) (ht : (pc : Int) + off = (tgt : Int)) (kt : ¬ a = 0 → W p l e R s m args below meth c H locs cells slots Q (F0 m tgt ls rest)) (kf : a = 0 → W p l e R s m args below meth c H locs cells slots Q (F0 m (pc + 3) ls rest)) : W p l e R s m args below meth c H locs cells slots Q (F0 m pc ls (.int (nI a) :: rest)) := by
  exact lv_if_ne hx hb hdg ht (fun h => kt (fun q => h ((nI_eq ha (by decide)).mpr q))) (fun h => kf ((nI_eq ha (by decide)).mp h))
theorem nz_gt (hx : p.tables.exec = Jvm.exec) (hb : c.code = cc) {a : Nat} {off : Int} {tgt : Nat} (ha : a < 2 ^ 31) (hdg : decode cc pc = .ok (.ifCond .gt off, 3)) (ht : (pc : Int) + off = (tgt : Int)) (kt : 0 < a → W p l e R s m args below meth c H locs cells slots Q (F0 m tgt ls rest)) (kf : a = 0 → W p l e R s m args below meth c H locs cells slots Q (F0 m (pc + 3) ls rest)) : W p l e R s m args below meth c H locs cells slots Q (F0 m pc ls (.int (nI a) :: rest)) := by
  exact lv_if_gt hx hb hdg ht (fun h => kt ((nI_ltI (a := 0) (by decide) ha).mp h)) (fun h => kf (by have : ¬ 0 < a := fun q => h ((nI_ltI (a := 0) (by decide) ha).mpr q); omega))
theorem nz_le (hx : p.tables.exec = Jvm.exec) (hb : c.code = cc) {a : Nat} {off : Int} {tgt : Nat} (ha : a < 2 ^ 31) (hdg : decode cc pc = .ok (.ifCond .le off, 3)) (ht : (pc : Int) + off = (tgt : Int)) (kt : a = 0 → W p l e R s m args below meth c H locs cells slots Q (F0 m tgt ls rest)) (kf : 0 < a → W p l e R s m args below meth c H locs cells slots Q (F0 m (pc + 3) ls rest)) : W p l e R s m args below meth c H locs cells slots Q (F0 m pc ls (.int (nI a) :: rest)) := by
  exact lv_if_le hx hb hdg ht (fun h => kt (by have := (nI_leI (b := 0) ha (by decide)).mp h; omega)) (fun h => kf (by have : ¬ a ≤ 0 := fun q => h ((nI_leI (b := 0) ha (by decide)).mpr q); omega))
theorem lg_c1 (x y : Int64) : (lg_cmp x y = 0 ↔ x = y) ∧ (lg_cmp x y < 0 ↔ x < y) ∧ (0 < lg_cmp x y ↔ y < x) ∧ (0 ≤ lg_cmp x y ↔ y ≤ x) ∧ (lg_cmp x y ≤ 0 ↔ x ≤ y) := by
  have e : x = y ↔ x.toInt = y.toInt := Int64.toInt_inj.symm
  simp only [Int64.lt_iff_toInt_lt, Int64.le_iff_toInt_le, e]
  by_cases h1 : y < x
  · have e1 : lg_cmp x y = 1 := by simp [lg_cmp, h1]
    rw [e1]
    rw [Int64.lt_iff_toInt_lt] at h1
    refine ⟨⟨fun h => absurd h (by decide), fun h => by omega⟩, ⟨fun h => absurd h (by decide), fun h => by omega⟩, ⟨fun _ => h1, fun _ => by decide⟩, ⟨fun _ => by omega, fun _ => by decide⟩, ⟨fun h => absurd h (by decide), fun h => by omega⟩⟩
  · by_cases h2 : x = y
    · have e1 : lg_cmp x y = 0 := by simp [lg_cmp, h2]
      rw [e1]
      have h3 := e.mp h2
      refine ⟨⟨fun _ => h3, fun _ => rfl⟩, ⟨fun h => absurd h (by decide), fun h => by omega⟩, ⟨fun h => absurd h (by decide), fun h => by omega⟩, ⟨fun _ => by omega, fun _ => by decide⟩, ⟨fun _ => by omega, fun _ => by decide⟩⟩
    · have e1 : lg_cmp x y = -1 := by simp [lg_cmp, h1, h2]
      rw [e1]
      rw [Int64.lt_iff_toInt_lt] at h1
      have h3 : ¬ x.toInt = y.toInt := fun h => h2 (e.mpr h)
      refine ⟨⟨fun h => absurd h (by decide), fun h => by omega⟩, ⟨fun _ => by omega, fun _ => by decide⟩, ⟨fun h => absurd h (by decide), fun h => by omega⟩, ⟨fun h => absurd h (by decide), fun h => by omega⟩, ⟨fun _ => by omega, fun _ => by decide⟩⟩
theorem ll_eq (hx : p.tables.exec = Jvm.exec) (hb : c.code = cc) {x y : Int64} {off : Int} {tgt : Nat} (hd1 : decode cc pc = .ok (.lcmp, 1)) (hd2 : decode cc (pc + 1) = .ok (.ifCond .eq off, 3)) (ht : ((pc + 1 : Nat) : Int) + off = (tgt : Int)) (kt : x = y → W p l e R s m args below meth c H locs cells slots Q (F0 m tgt ls rest)) (kf : ¬ x = y → W p l e R s m args below meth c H locs cells slots Q (F0 m (pc + 4) ls rest)) : W p l e R s m args below meth c H locs cells slots Q (F0 m pc ls (.long y :: .long x :: rest)) := by
  refine W.lcmp hx hb hd1 ?_
  exact lv_if_eq (tgt := tgt) hx hb hd2 ht (fun h => kt ((lg_c1 x y).1.mp h)) (fun h => kf (fun q => h ((lg_c1 x y).1.mpr q)))
theorem ll_ne (hx : p.tables.exec = Jvm.exec) (hb : c.code = cc) {x y : Int64} {off : Int} {tgt : Nat} (hd1 : decode cc pc = .ok (.lcmp, 1)) (hd2 : decode cc (pc + 1) = .ok (.ifCond .ne off, 3)) (ht : ((pc + 1 : Nat) : Int) + off = (tgt : Int)) (kt : ¬ x = y → W p l e R s m args below meth c H locs cells slots Q (F0 m tgt ls rest)) (kf : x = y → W p l e R s m args below meth c H locs cells slots Q (F0 m (pc + 4) ls rest)) : W p l e R s m args below meth c H locs cells slots Q (F0 m pc ls (.long y :: .long x :: rest)) := by
  refine W.lcmp hx hb hd1 ?_
  exact lv_if_ne (tgt := tgt) hx hb hd2 ht (fun h => kt (fun q => h ((lg_c1 x y).1.mpr q))) (fun h => kf ((lg_c1 x y).1.mp h))
theorem ll_lt (hx : p.tables.exec = Jvm.exec) (hb : c.code = cc) {x y : Int64} {off : Int} {tgt : Nat} (hd1 : decode cc pc = .ok (.lcmp, 1)) (hd2 : decode cc (pc + 1) = .ok (.ifCond .lt off, 3)) (ht : ((pc + 1 : Nat) : Int) + off = (tgt : Int)) (kt : x < y → W p l e R s m args below meth c H locs cells slots Q (F0 m tgt ls rest)) (kf : ¬ x < y → W p l e R s m args below meth c H locs cells slots Q (F0 m (pc + 4) ls rest)) : W p l e R s m args below meth c H locs cells slots Q (F0 m pc ls (.long y :: .long x :: rest)) := by
  refine W.lcmp hx hb hd1 ?_
  exact lv_if_lt (tgt := tgt) hx hb hd2 ht (fun h => kt ((lg_c1 x y).2.1.mp h)) (fun h => kf (fun q => h ((lg_c1 x y).2.1.mpr q)))
theorem ll_gt (hx : p.tables.exec = Jvm.exec) (hb : c.code = cc) {x y : Int64} {off : Int} {tgt : Nat} (hd1 : decode cc pc = .ok (.lcmp, 1)) (hd2 : decode cc (pc + 1) = .ok (.ifCond .gt off, 3)) (ht : ((pc + 1 : Nat) : Int) + off = (tgt : Int)) (kt : y < x → W p l e R s m args below meth c H locs cells slots Q (F0 m tgt ls rest)) (kf : ¬ y < x → W p l e R s m args below meth c H locs cells slots Q (F0 m (pc + 4) ls rest)) : W p l e R s m args below meth c H locs cells slots Q (F0 m pc ls (.long y :: .long x :: rest)) := by
  refine W.lcmp hx hb hd1 ?_
  exact lv_if_gt (tgt := tgt) hx hb hd2 ht (fun h => kt ((lg_c1 x y).2.2.1.mp h)) (fun h => kf (fun q => h ((lg_c1 x y).2.2.1.mpr q)))
theorem ll_ge (hx : p.tables.exec = Jvm.exec) (hb : c.code = cc) {x y : Int64} {off : Int} {tgt : Nat} (hd1 : decode cc pc = .ok (.lcmp, 1)) (hd2 : decode cc (pc + 1) = .ok (.ifCond .ge off, 3)) (ht : ((pc + 1 : Nat) : Int) + off = (tgt : Int)) (kt : y ≤ x → W p l e R s m args below meth c H locs cells slots Q (F0 m tgt ls rest)) (kf : ¬ y ≤ x → W p l e R s m args below meth c H locs cells slots Q (F0 m (pc + 4) ls rest)) : W p l e R s m args below meth c H locs cells slots Q (F0 m pc ls (.long y :: .long x :: rest)) := by
  refine W.lcmp hx hb hd1 ?_
  exact lv_if_ge (tgt := tgt) hx hb hd2 ht (fun h => kt ((lg_c1 x y).2.2.2.1.mp h)) (fun h => kf (fun q => h ((lg_c1 x y).2.2.2.1.mpr q)))
theorem ll_le (hx : p.tables.exec = Jvm.exec) (hb : c.code = cc) {x y : Int64} {off : Int} {tgt : Nat} (hd1 : decode cc pc = .ok (.lcmp, 1)) (hd2 : decode cc (pc + 1) = .ok (.ifCond .le off, 3)) (ht : ((pc + 1 : Nat) : Int) + off = (tgt : Int)) (kt : x ≤ y → W p l e R s m args below meth c H locs cells slots Q (F0 m tgt ls rest)) (kf : ¬ x ≤ y → W p l e R s m args below meth c H locs cells slots Q (F0 m (pc + 4) ls rest)) : W p l e R s m args below meth c H locs cells slots Q (F0 m pc ls (.long y :: .long x :: rest)) := by
  refine W.lcmp hx hb hd1 ?_
  exact lv_if_le (tgt := tgt) hx hb hd2 ht (fun h => kt ((lg_c1 x y).2.2.2.2.mp h)) (fun h => kf (fun q => h ((lg_c1 x y).2.2.2.2.mpr q)))
end TP5
