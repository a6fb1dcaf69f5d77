section TP1
variable {p : Program} {l : Launch} {e : Env} {R : Room} {s : State} {m : MethodId} {args : Array Value} {below : List Frame} {meth : Method} {c : Code} {H : Heap} {locs : List Loc} {cells slots : Nat} {Q : State → Prop}
variable {cc : ByteArray} {pc : Nat} {ls : Array Slot} {rest : List Value}
theorem fx_jlle (hx : p.tables.exec = Jvm.exec) (hb : c.code = cc) {x y : UInt64} {off : Int} {tgt : Nat} (hd1 : decode cc pc = .ok (.dcmp .l, 1)) (hd2 : decode cc (pc + 1) = .ok (.ifCond .le off, 3)) (ht : ((pc + 1 : Nat) : Int) + off = (tgt : Int)) (kt : fx_gt x y = false → W p l e R s m args below meth c H locs cells slots Q (F0 m tgt ls rest)) (kf : fx_gt x y = true → W p l e R s m args below meth c H locs cells slots Q (F0 m (pc + 4) ls rest)) : W p l e R s m args below meth c H locs cells slots Q (F0 m pc ls (.double y :: .double x :: rest)) := by
  refine lv_dcmp hx hb hd1 ?_
  refine lv_if_le (tgt := tgt) hx hb hd2 ht (fun h => kt ?_) (fun h => kf ?_)
  · unfold fx_gt; exact (fz_l_le _).mp h
  · unfold fx_gt; have h2 := fun q => h ((fz_l_le _).mpr q); revert h2; cases (FP.dcmp x y == some .gt) <;> cases (FP.dcmp x y == some .eq) <;> cases (FP.dcmp x y == some .lt) <;> simp
theorem fx_jlgt (hx : p.tables.exec = Jvm.exec) (hb : c.code = cc) {x y : UInt64} {off : Int} {tgt : Nat} (hd1 : decode cc pc = .ok (.dcmp .l, 1)) (hd2 : decode cc (pc + 1) = .ok (.ifCond .gt off, 3)) (ht : ((pc + 1 : Nat) : Int) + off = (tgt : Int)) (kt : fx_gt x y = true → W p l e R s m args below meth c H locs cells slots Q (F0 m tgt ls rest)) (kf : fx_gt x y = false → W p l e R s m args below meth c H locs cells slots Q (F0 m (pc + 4) ls rest)) : W p l e R s m args below meth c H locs cells slots Q (F0 m pc ls (.double y :: .double x :: rest)) := by
  refine lv_dcmp hx hb hd1 ?_
  refine lv_if_gt (tgt := tgt) hx hb hd2 ht (fun h => kt ?_) (fun h => kf ?_)
  · unfold fx_gt; exact (fz_l_gt _).mp h
  · unfold fx_gt; have h2 := fun q => h ((fz_l_gt _).mpr q); revert h2; cases (FP.dcmp x y == some .gt) <;> cases (FP.dcmp x y == some .eq) <;> cases (FP.dcmp x y == some .lt) <;> simp
theorem fx_jllt (hx : p.tables.exec = Jvm.exec) (hb : c.code = cc) {x y : UInt64} {off : Int} {tgt : Nat} (hd1 : decode cc pc = .ok (.dcmp .l, 1)) (hd2 : decode cc (pc + 1) = .ok (.ifCond .lt off, 3)) (ht : ((pc + 1 : Nat) : Int) + off = (tgt : Int)) (kt : fx_ge x y = false → W p l e R s m args below meth c H locs cells slots Q (F0 m tgt ls rest)) (kf : fx_ge x y = true → W p l e R s m args below meth c H locs cells slots Q (F0 m (pc + 4) ls rest)) : W p l e R s m args below meth c H locs cells slots Q (F0 m pc ls (.double y :: .double x :: rest)) := by
  refine lv_dcmp hx hb hd1 ?_
  refine lv_if_lt (tgt := tgt) hx hb hd2 ht (fun h => kt ?_) (fun h => kf ?_)
  · unfold fx_ge; exact (fz_l_lt _).mp h
  · unfold fx_ge; have h2 := fun q => h ((fz_l_lt _).mpr q); revert h2; cases (FP.dcmp x y == some .gt) <;> cases (FP.dcmp x y == some .eq) <;> cases (FP.dcmp x y == some .lt) <;> simp
theorem fx_jlge (hx : p.tables.exec = Jvm.exec) (hb : c.code = cc) {x y : UInt64} {off : Int} {tgt : Nat} (hd1 : decode cc pc = .ok (.dcmp .l, 1)) (hd2 : decode cc (pc + 1) = .ok (.ifCond .ge off, 3)) (ht : ((pc + 1 : Nat) : Int) + off = (tgt : Int)) (kt : fx_ge x y = true → W p l e R s m args below meth c H locs cells slots Q (F0 m tgt ls rest)) (kf : fx_ge x y = false → W p l e R s m args below meth c H locs cells slots Q (F0 m (pc + 4) ls rest)) : W p l e R s m args below meth c H locs cells slots Q (F0 m pc ls (.double y :: .double x :: rest)) := by
  refine lv_dcmp hx hb hd1 ?_
  refine lv_if_ge (tgt := tgt) hx hb hd2 ht (fun h => kt ?_) (fun h => kf ?_)
  · unfold fx_ge; exact (fz_l_ge _).mp h
  · unfold fx_ge; have h2 := fun q => h ((fz_l_ge _).mpr q); revert h2; cases (FP.dcmp x y == some .gt) <;> cases (FP.dcmp x y == some .eq) <;> cases (FP.dcmp x y == some .lt) <;> simp
theorem fx_jlne (hx : p.tables.exec = Jvm.exec) (hb : c.code = cc) {x y : UInt64} {off : Int} {tgt : Nat} (hd1 : decode cc pc = .ok (.dcmp .l, 1)) (hd2 : decode cc (pc + 1) = .ok (.ifCond .ne off, 3)) (ht : ((pc + 1 : Nat) : Int) + off = (tgt : Int)) (kt : fx_eq x y = false → W p l e R s m args below meth c H locs cells slots Q (F0 m tgt ls rest)) (kf : fx_eq x y = true → W p l e R s m args below meth c H locs cells slots Q (F0 m (pc + 4) ls rest)) : W p l e R s m args below meth c H locs cells slots Q (F0 m pc ls (.double y :: .double x :: rest)) := by
  refine lv_dcmp hx hb hd1 ?_
  refine lv_if_ne (tgt := tgt) hx hb hd2 ht (fun h => kt ?_) (fun h => kf ?_)
  · unfold fx_eq; rw [← Bool.not_eq_true, ← fz_l_eq]; exact h
  · unfold fx_eq; rw [← fz_l_eq]; exact h
theorem fx_jleq (hx : p.tables.exec = Jvm.exec) (hb : c.code = cc) {x y : UInt64} {off : Int} {tgt : Nat} (hd1 : decode cc pc = .ok (.dcmp .l, 1)) (hd2 : decode cc (pc + 1) = .ok (.ifCond .eq off, 3)) (ht : ((pc + 1 : Nat) : Int) + off = (tgt : Int)) (kt : fx_eq x y = true → W p l e R s m args below meth c H locs cells slots Q (F0 m tgt ls rest)) (kf : fx_eq x y = false → W p l e R s m args below meth c H locs cells slots Q (F0 m (pc + 4) ls rest)) : W p l e R s m args below meth c H locs cells slots Q (F0 m pc ls (.double y :: .double x :: rest)) := by
  refine lv_dcmp hx hb hd1 ?_
  refine lv_if_eq (tgt := tgt) hx hb hd2 ht (fun h => kt ?_) (fun h => kf ?_)
  · unfold fx_eq; exact (fz_l_eq _).mp h
  · unfold fx_eq; have h2 := fun q => h ((fz_l_eq _).mpr q); revert h2; cases (FP.dcmp x y == some .gt) <;> cases (FP.dcmp x y == some .eq) <;> cases (FP.dcmp x y == some .lt) <;> simp
theorem fx_jgge (hx : p.tables.exec = Jvm.exec) (hb : c.code = cc) {x y : UInt64} {off : Int} {tgt : Nat} (hd1 : decode cc pc = .ok (.dcmp .g, 1)) (hd2 : decode cc (pc + 1) = .ok (.ifCond .ge off, 3)) (ht : ((pc + 1 : Nat) : Int) + off = (tgt : Int)) (kt : fx_lt x y = false → W p l e R s m args below meth c H locs cells slots Q (F0 m tgt ls rest)) (kf : fx_lt x y = true → W p l e R s m args below meth c H locs cells slots Q (F0 m (pc + 4) ls rest)) : W p l e R s m args below meth c H locs cells slots Q (F0 m pc ls (.double y :: .double x :: rest)) := by
  refine lv_dcmp hx hb hd1 ?_
  refine lv_if_ge (tgt := tgt) hx hb hd2 ht (fun h => kt ?_) (fun h => kf ?_)
  · unfold fx_lt; exact (fz_g_ge _).mp h
  · unfold fx_lt; have h2 := fun q => h ((fz_g_ge _).mpr q); revert h2; cases (FP.dcmp x y == some .gt) <;> cases (FP.dcmp x y == some .eq) <;> cases (FP.dcmp x y == some .lt) <;> simp
theorem fx_jglt (hx : p.tables.exec = Jvm.exec) (hb : c.code = cc) {x y : UInt64} {off : Int} {tgt : Nat} (hd1 : decode cc pc = .ok (.dcmp .g, 1)) (hd2 : decode cc (pc + 1) = .ok (.ifCond .lt off, 3)) (ht : ((pc + 1 : Nat) : Int) + off = (tgt : Int)) (kt : fx_lt x y = true → W p l e R s m args below meth c H locs cells slots Q (F0 m tgt ls rest)) (kf : fx_lt x y = false → W p l e R s m args below meth c H locs cells slots Q (F0 m (pc + 4) ls rest)) : W p l e R s m args below meth c H locs cells slots Q (F0 m pc ls (.double y :: .double x :: rest)) := by
  refine lv_dcmp hx hb hd1 ?_
  refine lv_if_lt (tgt := tgt) hx hb hd2 ht (fun h => kt ?_) (fun h => kf ?_)
  · unfold fx_lt; exact (fz_g_lt _).mp h
  · unfold fx_lt; have h2 := fun q => h ((fz_g_lt _).mpr q); revert h2; cases (FP.dcmp x y == some .gt) <;> cases (FP.dcmp x y == some .eq) <;> cases (FP.dcmp x y == some .lt) <;> simp
theorem fx_jggt (hx : p.tables.exec = Jvm.exec) (hb : c.code = cc) {x y : UInt64} {off : Int} {tgt : Nat} (hd1 : decode cc pc = .ok (.dcmp .g, 1)) (hd2 : decode cc (pc + 1) = .ok (.ifCond .gt off, 3)) (ht : ((pc + 1 : Nat) : Int) + off = (tgt : Int)) (kt : fx_le x y = false → W p l e R s m args below meth c H locs cells slots Q (F0 m tgt ls rest)) (kf : fx_le x y = true → W p l e R s m args below meth c H locs cells slots Q (F0 m (pc + 4) ls rest)) : W p l e R s m args below meth c H locs cells slots Q (F0 m pc ls (.double y :: .double x :: rest)) := by
  refine lv_dcmp hx hb hd1 ?_
  refine lv_if_gt (tgt := tgt) hx hb hd2 ht (fun h => kt ?_) (fun h => kf ?_)
  · unfold fx_le; exact (fz_g_gt _).mp h
  · unfold fx_le; have h2 := fun q => h ((fz_g_gt _).mpr q); revert h2; cases (FP.dcmp x y == some .gt) <;> cases (FP.dcmp x y == some .eq) <;> cases (FP.dcmp x y == some .lt) <;> simp
theorem fx_jgle (hx : p.tables.exec = Jvm.exec) (hb : c.code = cc) {x y : UInt64} {off : Int} {tgt : Nat} (hd1 : decode cc pc = .ok (.dcmp .g, 1)) (hd2 : decode cc (pc + 1) = .ok (.ifCond .le off, 3)) (ht : ((pc + 1 : Nat) : Int) + off = (tgt : Int)) (kt : fx_le x y = true → W p l e R s m args below meth c H locs cells slots Q (F0 m tgt ls rest)) (kf : fx_le x y = false → W p l e R s m args below meth c H locs cells slots Q (F0 m (pc + 4) ls rest)) : W p l e R s m args below meth c H locs cells slots Q (F0 m pc ls (.double y :: .double x :: rest)) := by
  refine lv_dcmp hx hb hd1 ?_
  refine lv_if_le (tgt := tgt) hx hb hd2 ht (fun h => kt ?_) (fun h => kf ?_)
  · unfold fx_le; exact (fz_g_le _).mp h
  · unfold fx_le; have h2 := fun q => h ((fz_g_le _).mpr q); revert h2; cases (FP.dcmp x y == some .gt) <;> cases (FP.dcmp x y == some .eq) <;> cases (FP.dcmp x y == some .lt) <;> simp
theorem fy_jlle (hx : p.tables.exec = Jvm.exec) (hb : c.code = cc) {x y : UInt32} {off : Int} {tgt : Nat} (hd1 : decode cc pc = .ok (.fcmp .l, 1)) (hd2 : decode cc (pc + 1) = .ok (.ifCond .le off, 3)) (ht : ((pc + 1 : Nat) : Int) + off = (tgt : Int)) (kt : fy_gt x y = false → W p l e R s m args below meth c H locs cells slots Q (F0 m tgt ls rest)) (kf : fy_gt x y = true → W p l e R s m args below meth c H locs cells slots Q (F0 m (pc + 4) ls rest)) : W p l e R s m args below meth c H locs cells slots Q (F0 m pc ls (.float y :: .float x :: rest)) := by
  refine lv_fcmp hx hb hd1 ?_
  refine lv_if_le (tgt := tgt) hx hb hd2 ht (fun h => kt ?_) (fun h => kf ?_)
  · unfold fy_gt; exact (fz_l_le _).mp h
  · unfold fy_gt; have h2 := fun q => h ((fz_l_le _).mpr q); revert h2; cases (FP.fcmp x y == some .gt) <;> cases (FP.fcmp x y == some .eq) <;> cases (FP.fcmp x y == some .lt) <;> simp
theorem fy_jlgt (hx : p.tables.exec = Jvm.exec) (hb : c.code = cc) {x y : UInt32} {off : Int} {tgt : Nat} (hd1 : decode cc pc = .ok (.fcmp .l, 1)) (hd2 : decode cc (pc + 1) = .ok (.ifCond .gt off, 3)) (ht : ((pc + 1 : Nat) : Int) + off = (tgt : Int)) (kt : fy_gt x y = true → W p l e R s m args below meth c H locs cells slots Q (F0 m tgt ls rest)) (kf : fy_gt x y = false → W p l e R s m args below meth c H locs cells slots Q (F0 m (pc + 4) ls rest)) : W p l e R s m args below meth c H locs cells slots Q (F0 m pc ls (.float y :: .float x :: rest)) := by
  refine lv_fcmp hx hb hd1 ?_
  refine lv_if_gt (tgt := tgt) hx hb hd2 ht (fun h => kt ?_) (fun h => kf ?_)
  · unfold fy_gt; exact (fz_l_gt _).mp h
  · unfold fy_gt; have h2 := fun q => h ((fz_l_gt _).mpr q); revert h2; cases (FP.fcmp x y == some .gt) <;> cases (FP.fcmp x y == some .eq) <;> cases (FP.fcmp x y == some .lt) <;> simp
theorem fy_jllt (hx : p.tables.exec = Jvm.exec) (hb : c.code = cc) {x y : UInt32} {off : Int} {tgt : Nat} (hd1 : decode cc pc = .ok (.fcmp .l, 1)) (hd2 : decode cc (pc + 1) = .ok (.ifCond .lt off, 3)) (ht : ((pc + 1 : Nat) : Int) + off = (tgt : Int)) (kt : fy_ge x y = false → W p l e R s m args below meth c H locs cells slots Q (F0 m tgt ls rest)) (kf : fy_ge x y = true → W p l e R s m args below meth c H locs cells slots Q (F0 m (pc + 4) ls rest)) : W p l e R s m args below meth c H locs cells slots Q (F0 m pc ls (.float y :: .float x :: rest)) := by
  refine lv_fcmp hx hb hd1 ?_
  refine lv_if_lt (tgt := tgt) hx hb hd2 ht (fun h => kt ?_) (fun h => kf ?_)
  · unfold fy_ge; exact (fz_l_lt _).mp h
  · unfold fy_ge; have h2 := fun q => h ((fz_l_lt _).mpr q); revert h2; cases (FP.fcmp x y == some .gt) <;> cases (FP.fcmp x y == some .eq) <;> cases (FP.fcmp x y == some .lt) <;> simp
theorem fy_jlge (hx : p.tables.exec = Jvm.exec) (hb : c.code = cc) {x y : UInt32} {off : Int} {tgt : Nat} (hd1 : decode cc pc = .ok (.fcmp .l, 1)) (hd2 : decode cc (pc + 1) = .ok (.ifCond .ge off, 3)) (ht : ((pc + 1 : Nat) : Int) + off = (tgt : Int)) (kt : fy_ge x y = true → W p l e R s m args below meth c H locs cells slots Q (F0 m tgt ls rest)) (kf : fy_ge x y = false → W p l e R s m args below meth c H locs cells slots Q (F0 m (pc + 4) ls rest)) : W p l e R s m args below meth c H locs cells slots Q (F0 m pc ls (.float y :: .float x :: rest)) := by
  refine lv_fcmp hx hb hd1 ?_
  refine lv_if_ge (tgt := tgt) hx hb hd2 ht (fun h => kt ?_) (fun h => kf ?_)
  · unfold fy_ge; exact (fz_l_ge _).mp h
  · unfold fy_ge; have h2 := fun q => h ((fz_l_ge _).mpr q); revert h2; cases (FP.fcmp x y == some .gt) <;> cases (FP.fcmp x y == some .eq) <;> cases (FP.fcmp x y == some .lt) <;> simp
theorem fy_jlne (hx : p.tables.exec = Jvm.exec) (hb : c.code = cc) {x y : UInt32} {off : Int} {tgt : Nat} (hd1 : decode cc pc = .ok (.fcmp .l, 1)) (hd2 : decode cc (pc + 1) = .ok (.ifCond .ne off, 3)) (ht : ((pc + 1 : Nat) : Int) + off = (tgt : Int)) (kt : fy_eq x y = false → W p l e R s m args below meth c H locs cells slots Q (F0 m tgt ls rest)) (kf : fy_eq x y = true → W p l e R s m args below meth c H locs cells slots Q (F0 m (pc + 4) ls rest)) : W p l e R s m args below meth c H locs cells slots Q (F0 m pc ls (.float y :: .float x :: rest)) := by
  refine lv_fcmp hx hb hd1 ?_
  refine lv_if_ne (tgt := tgt) hx hb hd2 ht (fun h => kt ?_) (fun h => kf ?_)
  · unfold fy_eq; rw [← Bool.not_eq_true, ← fz_l_eq]; exact h
  · unfold fy_eq; rw [← fz_l_eq]; exact h
theorem fy_jleq (hx : p.tables.exec = Jvm.exec) (hb : c.code = cc) {x y : UInt32} {off : Int} {tgt : Nat} (hd1 : decode cc pc = .ok (.fcmp .l, 1)) (hd2 : decode cc (pc + 1) = .ok (.ifCond .eq off, 3)) (ht : ((pc + 1 : Nat) : Int) + off = (tgt : Int)) (kt : fy_eq x y = true → W p l e R s m args below meth c H locs cells slots Q (F0 m tgt ls rest)) (kf : fy_eq x y = false → W p l e R s m args below meth c H locs cells slots Q (F0 m (pc + 4) ls rest)) : W p l e R s m args below meth c H locs cells slots Q (F0 m pc ls (.float y :: .float x :: rest)) := by
  refine lv_fcmp hx hb hd1 ?_
  refine lv_if_eq (tgt := tgt) hx hb hd2 ht (fun h => kt ?_) (fun h => kf ?_)
  · unfold fy_eq; exact (fz_l_eq _).mp h
  · unfold fy_eq; have h2 := fun q => h ((fz_l_eq _).mpr q); revert h2; cases (FP.fcmp x y == some .gt) <;> cases (FP.fcmp x y == some .eq) <;> cases (FP.fcmp x y == some .lt) <;> simp
theorem fy_jgge (hx : p.tables.exec = Jvm.exec) (hb : c.code = cc) {x y : UInt32} {off : Int} {tgt : Nat} (hd1 : decode cc pc = .ok (.fcmp .g, 1)) (hd2 : decode cc (pc + 1) = .ok (.ifCond .ge off, 3)) (ht : ((pc + 1 : Nat) : Int) + off = (tgt : Int)) (kt : fy_lt x y = false → W p l e R s m args below meth c H locs cells slots Q (F0 m tgt ls rest)) (kf : fy_lt x y = true → W p l e R s m args below meth c H locs cells slots Q (F0 m (pc + 4) ls rest)) : W p l e R s m args below meth c H locs cells slots Q (F0 m pc ls (.float y :: .float x :: rest)) := by
  refine lv_fcmp hx hb hd1 ?_
  refine lv_if_ge (tgt := tgt) hx hb hd2 ht (fun h => kt ?_) (fun h => kf ?_)
  · unfold fy_lt; exact (fz_g_ge _).mp h
  · unfold fy_lt; have h2 := fun q => h ((fz_g_ge _).mpr q); revert h2; cases (FP.fcmp x y == some .gt) <;> cases (FP.fcmp x y == some .eq) <;> cases (FP.fcmp x y == some .lt) <;> simp
theorem fy_jglt (hx : p.tables.exec = Jvm.exec) (hb : c.code = cc) {x y : UInt32} {off : Int} {tgt : Nat} (hd1 : decode cc pc = .ok (.fcmp .g, 1)) (hd2 : decode cc (pc + 1) = .ok (.ifCond .lt off, 3)) (ht : ((pc + 1 : Nat) : Int) + off = (tgt : Int)) (kt : fy_lt x y = true → W p l e R s m args below meth c H locs cells slots Q (F0 m tgt ls rest)) (kf : fy_lt x y = false → W p l e R s m args below meth c H locs cells slots Q (F0 m (pc + 4) ls rest)) : W p l e R s m args below meth c H locs cells slots Q (F0 m pc ls (.float y :: .float x :: rest)) := by
  refine lv_fcmp hx hb hd1 ?_
  refine lv_if_lt (tgt := tgt) hx hb hd2 ht (fun h => kt ?_) (fun h => kf ?_)
  · unfold fy_lt; exact (fz_g_lt _).mp h
  · unfold fy_lt; have h2 := fun q => h ((fz_g_lt _).mpr q); revert h2; cases (FP.fcmp x y == some .gt) <;> cases (FP.fcmp x y == some .eq) <;> cases (FP.fcmp x y == some .lt) <;> simp
theorem fy_jggt (hx : p.tables.exec = Jvm.exec) (hb : c.code = cc) {x y : UInt32} {off : Int} {tgt : Nat} (hd1 : decode cc pc = .ok (.fcmp .g, 1)) (hd2 : decode cc (pc + 1) = .ok (.ifCond .gt off, 3)) (ht : ((pc + 1 : Nat) : Int) + off = (tgt : Int)) (kt : fy_le x y = false → W p l e R s m args below meth c H locs cells slots Q (F0 m tgt ls rest)) (kf : fy_le x y = true → W p l e R s m args below meth c H locs cells slots Q (F0 m (pc + 4) ls rest)) : W p l e R s m args below meth c H locs cells slots Q (F0 m pc ls (.float y :: .float x :: rest)) := by
  refine lv_fcmp hx hb hd1 ?_
  refine lv_if_gt (tgt := tgt) hx hb hd2 ht (fun h => kt ?_) (fun h => kf ?_)
  · unfold fy_le; exact (fz_g_gt _).mp h
  · unfold fy_le; have h2 := fun q => h ((fz_g_gt _).mpr q); revert h2; cases (FP.fcmp x y == some .gt) <;> cases (FP.fcmp x y == some .eq) <;> cases (FP.fcmp x y == some .lt) <;> simp
theorem fy_jgle (hx : p.tables.exec = Jvm.exec) (hb : c.code = cc) {x y : UInt32} {off : Int} {tgt : Nat} (hd1 : decode cc pc = .ok (.fcmp .g, 1)) (hd2 : decode cc (pc + 1) = .ok (.ifCond .le off, 3)) (ht : ((pc + 1 : Nat) : Int) + off = (tgt : Int)) (kt : fy_le x y = true → W p l e R s m args below meth c H locs cells slots Q (F0 m tgt ls rest)) (kf : fy_le x y = false → W p l e R s m args below meth c H locs cells slots Q (F0 m (pc + 4) ls rest)) : W p l e R s m args below meth c H locs cells slots Q (F0 m pc ls (.float y :: .float x :: rest)) := by
  refine lv_fcmp hx hb hd1 ?_
  refine lv_if_le (tgt := tgt) hx hb hd2 ht (fun h => kt ?_) (fun h => kf ?_)
  · unfold fy_le; exact (fz_g_le _).mp h
  · unfold fy_le; have h2 := fun q => h ((fz_g_le _).mpr q); revert h2; cases (FP.fcmp x y == some .gt) <;> cases (FP.fcmp x y == some .eq) <;> cases (FP.fcmp x y == some .lt) <;> simp
theorem nn_add (hx : p.tables.exec = Jvm.exec) (hb : c.code = cc) {a b : Nat} (hdg : decode cc pc = .ok (.iadd, 1)) (k : W p l e R s m args below meth c H locs cells slots Q (F0 m (pc + 1) ls (.int (nI (a + b)) :: rest))) : W p l e R s m args below meth c H locs cells slots Q (F0 m pc ls (.int (nI b) :: .int (nI a) :: rest)) := by
  refine lv_iadd hx hb hdg ?_
  rw [nI_add]; exact k
theorem nn_mul (hx : p.tables.exec = Jvm.exec) (hb : c.code = cc) {a b : Nat} (hdg : decode cc pc = .ok (.imul, 1)) (k : W p l e R s m args below meth c H locs cells slots Q (F0 m (pc + 1) ls (.int (nI (a * b)) :: rest))) : W p l e R s m args below meth c H locs cells slots Q (F0 m pc ls (.int (nI b) :: .int (nI a) :: rest)) := by
  refine lv_imul hx hb hdg ?_
  rw [pk_mul]; exact k
theorem nn_sub (hx : p.tables.exec = Jvm.exec) (hb : c.code = cc) {a b : Nat} (hle : b ≤ a) (hdg : decode cc pc = .ok (.isub, 1)) (k : W p l e R s m args below meth c H locs cells slots Q (F0 m (pc + 1) ls (.int (nI (a - b)) :: rest))) : W p l e R s m args below meth c H locs cells slots Q (F0 m pc ls (.int (nI b) :: .int (nI a) :: rest)) := by
  refine lv_isub hx hb hdg ?_
  rw [pk_sub hle]; exact k
theorem nn_clt (hx : p.tables.exec = Jvm.exec) (hb : c.code = cc) {a b : Nat} {off : Int} {tgt : Nat} (ha : a < 2 ^ 31) (hb' : b < 2 ^ 31) (hdg : decode cc pc = .ok (.if_icmp .lt off, 3)) (ht : (pc : Int) + off = (tgt : Int)) (kt : a < b → W p l e R s m args below meth c H locs cells slots Q (F0 m tgt ls rest)) (kf : ¬ (a < b) → W p l e R s m args below meth c H locs cells slots Q (F0 m (pc + 3) ls rest)) : W p l e R s m args below meth c H locs cells slots Q (F0 m pc ls (.int (nI b) :: .int (nI a) :: rest)) := by
  exact lv_icmp_lt hx hb hdg ht (fun h => kt ((nI_ltI ha hb').mp h)) (fun h => kf (fun q => h ((nI_ltI ha hb').mpr q)))
theorem nn_cge (hx : p.tables.exec = Jvm.exec) (hb : c.code = cc) {a b : Nat} {off : Int} {tgt : Nat} (ha : a < 2 ^ 31) (hb' : b < 2 ^ 31) (hdg : decode cc pc = .ok (.if_icmp .ge off, 3)) (ht : (pc : Int) + off = (tgt : Int)) (kt : b ≤ a → W p l e R s m args below meth c H locs cells slots Q (F0 m tgt ls rest)) (kf : ¬ (b ≤ a) → W p l e R s m args below meth c H locs cells slots Q (F0 m (pc + 3) ls rest)) : W p l e R s m args below meth c H locs cells slots Q (F0 m pc ls (.int (nI b) :: .int (nI a) :: rest)) := by
  exact lv_icmp_ge hx hb hdg ht (fun h => kt ((nI_leI hb' ha).mp h)) (fun h => kf (fun q => h ((nI_leI hb' ha).mpr q)))
theorem nn_cgt (hx : p.tables.exec = Jvm.exec) (hb : c.code = cc) {a b : Nat} {off : Int} {tgt : Nat} (ha : a < 2 ^ 31) (hb' : b < 2 ^ 31) (hdg : decode cc pc = .ok (.if_icmp .gt off, 3)) (ht : (pc : Int) + off = (tgt : Int)) (kt : b < a → W p l e R s m args below meth c H locs cells slots Q (F0 m tgt ls rest)) (kf : ¬ (b < a) → W p l e R s m args below meth c H locs cells slots Q (F0 m (pc + 3) ls rest)) : W p l e R s m args below meth c H locs cells slots Q (F0 m pc ls (.int (nI b) :: .int (nI a) :: rest)) := by
  exact lv_icmp_gt hx hb hdg ht (fun h => kt ((nI_ltI hb' ha).mp h)) (fun h => kf (fun q => h ((nI_ltI hb' ha).mpr q)))
theorem nn_cle (hx : p.tables.exec = Jvm.exec) (hb : c.code = cc) {a b : Nat} {off : Int} {tgt : Nat} (ha : a < 2 ^ 31) (hb' : b < 2 ^ 31) (hdg : decode cc pc = .ok (.if_icmp .le off, 3)) (ht : (pc : Int) + off = (tgt : Int)) (kt : a ≤ b → W p l e R s m args below meth c H locs cells slots Q (F0 m tgt ls rest)) (kf : ¬ (a ≤ b) → W p l e R s m args below meth c H locs cells slots Q (F0 m (pc + 3) ls rest)) : W p l e R s m args below meth c H locs cells slots Q (F0 m pc ls (.int (nI b) :: .int (nI a) :: rest)) := by
  exact lv_icmp_le hx hb hdg ht (fun h => kt ((nI_leI ha hb').mp h)) (fun h => kf (fun q => h ((nI_leI ha hb').mpr q)))
theorem nn_ceq (hx : p.tables.exec = Jvm.exec) (hb : c.code = cc) {a b : Nat} {off : Int} {tgt : Nat} (ha : a < 2 ^ 31) (hb' : b < 2 ^ 31) (hdg : decode cc pc = .ok (.if_icmp .eq off, 3)) (ht : (pc : Int) + off = (tgt : Int)) (kt : a = b → W p l e R s m args below meth c H locs cells slots Q (F0 m tgt ls rest)) (kf : ¬ (a = b) → W p l e R s m args below meth c H locs cells slots Q (F0 m (pc + 3) ls rest)) : W p l e R s m args below meth c H locs cells slots Q (F0 m pc ls (.int (nI b) :: .int (nI a) :: rest)) := by
  exact lv_icmp_eq hx hb hdg ht (fun h => kt ((nI_eq ha hb').mp h)) (fun h => kf (fun q => h ((nI_eq ha hb').mpr q)))
theorem nn_cne (hx : p.tables.exec = Jvm.exec) (hb : c.code = cc) {a b : Nat} {off : Int} {tgt : Nat} (ha : a < 2 ^ 31) (hb' : b < 2 ^ 31) (hdg : decode cc pc = .ok (.if_icmp .ne off, 3)) (ht : (pc : Int) + off = (tgt : Int)) (kt : ¬ a = b → W p l e R s m args below meth c H locs cells slots Q (F0 m tgt ls rest)) (kf : a = b → W p l e R s m args below meth c H locs cells slots Q (F0 m (pc + 3) ls rest)) : W p l e R s m args below meth c H locs cells slots Q (F0 m pc ls (.int (nI b) :: .int (nI a) :: rest)) := by
  exact lv_icmp_ne hx hb hdg ht (fun h => kt (fun q => h ((nI_eq ha hb').mpr q))) (fun h => kf ((nI_eq ha hb').mp h))
end TP1
section TP2
variable {p : Program} {l : Launch} {e : Env} {R : Room} {s : State} {m : MethodId} {args : Array Value} {below : List Frame} {meth : Method} {c : Code} {H : Heap} {locs : List Loc} {cells slots : Nat} {Q : State → Prop}
variable {cc : ByteArray} {pc : Nat} {ls : Array Slot} {rest st0 : List Value}
/-- any call: what the callee's end says, the heap it leaves -/
theorem wr_call {mc ms : Nat} {Qa : State → Outcome → State → Prop} {free : Addr → Prop} (hr : va_Run p l e R s m args below meth c H locs cells slots mc ms (F0 m pc ls st0) rest Qa free)
    (kk : ∀ (v : Option Value) (st₀ t : State) (L : List Loc), st₀.heap = H → s.vm.Alike t.vm → Qa st₀ (.returned v) t → (∀ q ∈ L, free q.base) → W p l e R s m args below meth c t.heap (locs ++ L) (cells + mc) (slots + ms) Q (F0 m (pc + 3) ls (v.toList ++ rest))) : W p l e R s m args below meth c H locs cells slots Q (F0 m pc ls st0) := by
  intro T hT X
  obtain ⟨v, st₀, t, T', L, h0, X', hL, e1, e2, hq, st⟩ := hr T hT X
  obtain ⟨t2, a1, b1⟩ := kk v st₀ t L h0 (by rw [← e2]; exact X'.warmed.alike) hq hL T' e1 X'
  exact ⟨t2, st t2 a1, b1⟩
/-- a method that reads and writes nothing: its contract -/
def sC (l : Launch) (y : MethodName) (b : ByteArray) (L : Nat) (r : Option FieldType) (h : Nat) (As : List Value) (o : Option Value) : Prop :=
  Met l y (ws_ y b L r) { frames := h, cells := 0, slots := 0, locals := 48 * h } (fun v _ => v = As.toArray) (fun _ st oc t => oc = .returned o ∧ t.heap = st.heap) 0 0 (fun _ => False)
theorem sC_call {y : MethodName} {b : ByteArray} {L nL n index h : Nat} {r : Option FieldType} {own : String} {As : List Value} {o : Option Value} (S : CallFix p m c cc nL s args lw_all own) (hM : sC l y b L r h As o) (q1 : Cond.methodLink own index y ∈ lw_all) (q2 : Cond.static y ∈ lw_all) (q3 : Cond.initialized y.cls ∈ lw_all) (q4 : Cond.code y b L r ∈ lw_all)
    (hd : y.cls ≠ "java/lang/invoke/MethodHandle" ∧ y.cls ≠ "java/lang/invoke/VarHandle" ∧ (parseMethodDescriptor y.desc).map (fun d => d.parameters.length) = some n) (hR : h + 1 ≤ R.frames ∧ 8 + (L + 11) + 48 * h ≤ R.locals) (hn : As.length = n) (hsz : ls.size = nL) (hst : st0 = As.reverse ++ rest) (hW : (rest.map fun v => v.category).sum ≤ 8) (hdg : decode cc pc = .ok (.invokestatic index, 3)) (hf : cells ≤ R.cells ∧ slots ≤ R.slots)
    (kk : W p l e R s m args below meth c H locs cells slots Q (F0 m (pc + 3) ls (o.toList ++ rest))) : W p l e R s m args below meth c H locs cells slots Q (F0 m pc ls st0) := by
  have hr := va_runS (As := As) (rest := rest) (g := F0 m pc ls st0) (locs := locs) (cells := cells) (slots := slots) (H := H) (below := below) (meth := meth) (e := e) S hM (va_cwS (R := R) n S.2.2.2.2 (lw_S q1 q2 q3 q4) rfl rfl rfl hd hR) ⟨fun _ _ _ _ q => q, fun _ _ _ => rfl⟩ rfl hn hsz hst (lv_room hW) hdg hf
  intro T hT X
  obtain ⟨v, st₀, t, T', L', h0, X', hL, e1, e2, ⟨hv, hh⟩, st⟩ := hr T hT X
  cases hv
  obtain ⟨t2, a1, b1⟩ := kk T' (by rw [e1, hh, h0]) (Stand.forget X' (fun q h => (hL q h).elim))
  exact ⟨t2, st t2 a1, b1⟩
end TP2
