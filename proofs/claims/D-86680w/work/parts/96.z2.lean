set_option maxRecDepth 100000
set_option maxHeartbeats 4000000
theorem dX0_start_0 : decode cX0_start 0 = .ok (.aload_n 0, 1) := by decide +kernel
theorem dX0_start_1 : decode cX0_start 1 = .ok (.invokevirtual 205, 3) := by decide +kernel
theorem dX0_start_4 : decode cX0_start 4 = .ok (.aload_n 0, 1) := by decide +kernel
theorem dX0_start_5 : decode cX0_start 5 = .ok (.iconst 0, 1) := by decide +kernel
theorem dX0_start_6 : decode cX0_start 6 = .ok (.putfield 208, 3) := by decide +kernel
theorem dX0_start_9 : decode cX0_start 9 = .ok (.iconst 0, 1) := by decide +kernel
theorem dX0_start_10 : decode cX0_start 10 = .ok (.istore_n 1, 1) := by decide +kernel
theorem dX0_start_11 : decode cX0_start 11 = .ok (.iload_n 1, 1) := by decide +kernel
theorem dX0_start_12 : decode cX0_start 12 = .ok (.aload_n 0, 1) := by decide +kernel
theorem dX0_start_13 : decode cX0_start 13 = .ok (.getfield 91, 3) := by decide +kernel
theorem dX0_start_16 : decode cX0_start 16 = .ok (.if_icmp .ge 18, 3) := by decide +kernel
theorem dX0_start_19 : decode cX0_start 19 = .ok (.aload_n 0, 1) := by decide +kernel
theorem dX0_start_20 : decode cX0_start 20 = .ok (.getfield 55, 3) := by decide +kernel
theorem dX0_start_23 : decode cX0_start 23 = .ok (.iload_n 1, 1) := by decide +kernel
theorem dX0_start_24 : decode cX0_start 24 = .ok (.aaload, 1) := by decide +kernel
theorem dX0_start_25 : decode cX0_start 25 = .ok (.invokevirtual 211, 3) := by decide +kernel
theorem dX0_start_28 : decode cX0_start 28 = .ok (.iinc 1 1, 3) := by decide +kernel
theorem dX0_start_31 : decode cX0_start 31 = .ok (.goto (-20), 3) := by decide +kernel
theorem dX0_start_34 : decode cX0_start 34 = .ok (.aload_n 0, 1) := by decide +kernel
theorem dX0_start_35 : decode cX0_start 35 = .ok (.iconst 0, 1) := by decide +kernel
theorem dX0_start_36 : decode cX0_start 36 = .ok (.invokevirtual 214, 3) := by decide +kernel
theorem dX0_start_39 : decode cX0_start 39 = .ok (.iconst 0, 1) := by decide +kernel
theorem dX0_start_40 : decode cX0_start 40 = .ok (.istore_n 1, 1) := by decide +kernel
theorem dX0_start_41 : decode cX0_start 41 = .ok (.iload_n 1, 1) := by decide +kernel
theorem dX0_start_42 : decode cX0_start 42 = .ok (.aload_n 0, 1) := by decide +kernel
theorem dX0_start_43 : decode cX0_start 43 = .ok (.getfield 91, 3) := by decide +kernel
theorem dX0_start_46 : decode cX0_start 46 = .ok (.if_icmp .ge 18, 3) := by decide +kernel
theorem dX0_start_49 : decode cX0_start 49 = .ok (.aload_n 0, 1) := by decide +kernel
theorem dX0_start_50 : decode cX0_start 50 = .ok (.getfield 55, 3) := by decide +kernel
theorem dX0_start_53 : decode cX0_start 53 = .ok (.iload_n 1, 1) := by decide +kernel
theorem dX0_start_54 : decode cX0_start 54 = .ok (.aaload, 1) := by decide +kernel
theorem dX0_start_55 : decode cX0_start 55 = .ok (.invokevirtual 215, 3) := by decide +kernel
theorem dX0_start_58 : decode cX0_start 58 = .ok (.iinc 1 1, 3) := by decide +kernel
theorem dX0_start_61 : decode cX0_start 61 = .ok (.goto (-20), 3) := by decide +kernel
theorem dX0_start_64 : decode cX0_start 64 = .ok (.return_, 1) := by decide +kernel
theorem hd_X0_findOrder : yX0_findOrder.cls = RX0 ∧ yX0_findOrder.cls ≠ "java/lang/invoke/MethodHandle" ∧ yX0_findOrder.cls ≠ "java/lang/invoke/VarHandle" ∧ (parseMethodDescriptor yX0_findOrder.desc).map (fun d => d.parameters.length) = some 0 := by decide +kernel
theorem hu_Module_begin : "TwinPanel$Module" ≠ "java/lang/invoke/MethodHandle" ∧ "TwinPanel$Module" ≠ "java/lang/invoke/VarHandle" ∧ (parseMethodDescriptor "()V").map (fun d => d.parameters.length) = some 0 := by decide +kernel
section TD_begin
variable {p : Program} {l : Launch} {e : Env} {R : Room} {s : State} {m : MethodId} {args : Array Value} {below : List Frame} {meth : Method} {c : Code} {H : Heap} {locs : List Loc} {cells slots : Nat} {Q : State → Prop}
variable {cc : ByteArray} {pc nL : Nat} {ls : Array Slot} {rest : List Value} {D : va_G} {dA : Nat → ClassId} {A : Nat → Prop} {C : tp_C} {d : md_T} {j : xj_T}
theorem xo_begin (S : CallFix p m c cc nL s args lw_all RX0) (G : xG D dA A C d j s H locs) (hA : ∀ q, s.heap.size ≤ q → A q) {mm : Nat} (hC : mOK C) (hm : mm < cN C) (hV : vOK C) (hDl : dlOK C) (hDn : dnOK j) (hR : 3 ≤ R.frames ∧ 144 ≤ R.locals) (hf : cells + 2 ≤ R.cells ∧ slots + 32 ≤ R.slots) (hsz : ls.size = nL) (hW : (rest.map fun v => v.category).sum ≤ 8) (hdg : decode cc pc = .ok (.invokevirtual 211, 3))
    (kk : ∀ (j' : xj_T) (H1 : Heap) (locs1 : List Loc), bgP C mm j j' → xG D dA A C (bgS C mm d) j' s H1 locs1 → W p l e R s m args below meth c H1 locs1 (cells + 2) (slots + 32) Q (F0 m (pc + 3) ls rest)) : W p l e R s m args below meth c H locs cells slots Q (F0 m pc ls (.ref (jA j (xr mm 0)) :: rest)) := by
  have hN := hC.n; have hts := S.2.2.2.2; have hk14 := hC.k mm
  have hr : ∀ a L, a ≤ 2 → L ≤ 20 → a + 1 ≤ R.frames ∧ 8 + (L + 11) + 48 * a ≤ R.locals := fun a L h1 h2 => ⟨by omega, by omega⟩
  have hf0 : cells ≤ R.cells ∧ slots ≤ R.slots := ⟨by omega, by omega⟩
  rcases (show cK C mm = 0 ∨ cK C mm = 1 ∨ cK C mm = 2 ∨ cK C mm = 3 ∨ cK C mm = 4 ∨ cK C mm = 5 ∨ cK C mm = 6 ∨ cK C mm = 7 ∨ cK C mm = 8 ∨ cK C mm = 9 ∨ cK C mm = 10 ∨ cK C mm = 11 ∨ cK C mm = 12 ∨ cK C mm = 13 by omega) with h_ | h_ | h_ | h_ | h_ | h_ | h_ | h_ | h_ | h_ | h_ | h_ | h_ | h_
  · exact xx_callM (mm := mm) (As := []) (rest := rest) S G hm hN (hC.k _) (xt_X2_begin l D dA C d j mm hC hm) (xx_cw hts q689 q691 (by rw [h_]; exact q712) q690 q58 q716 rfl hu_Module_begin (hr _ _ (by decide) (by decide))) rfl hsz rfl hW hdg hf0 (fun H1 locs1 G1 => W.widen (by omega) (by omega) (kk j H1 locs1 (Or.inl ⟨by omega, rfl⟩) (xG_d (bg_v0 hC hDn (by omega) (by omega) (by omega) (by omega)) G1)))
  · exact xx_callM (mm := mm) (As := []) (rest := rest) S G hm hN (hC.k _) (xt_X2_begin l D dA C d j mm hC hm) (xx_cw hts q689 q691 (by rw [h_]; exact q715) q690 q58 q716 rfl hu_Module_begin (hr _ _ (by decide) (by decide))) rfl hsz rfl hW hdg hf0 (fun H1 locs1 G1 => W.widen (by omega) (by omega) (kk j H1 locs1 (Or.inl ⟨by omega, rfl⟩) (xG_d (bg_v0 hC hDn (by omega) (by omega) (by omega) (by omega)) G1)))
  · exact xx_callM (mm := mm) (As := []) (rest := rest) S G hm hN (hC.k _) (xt_X5_begin_2 l D dA C d j mm hC hm h_ hV) (xx_cwO hts q689 q691 q690 (by rw [h_]; exact q701) q697 q61 q698 q716 hu_Module_begin (hr _ _ (by decide) (by decide))) rfl hsz rfl hW hdg hf0 (fun H1 locs1 G1 => W.widen (by omega) (by omega) (kk j H1 locs1 (Or.inl ⟨by omega, rfl⟩) (xG_d (bg_v1 hC hDn (Or.inl h_)) G1)))
  · exact xx_callM (mm := mm) (As := []) (rest := rest) S G hm hN (hC.k _) (xt_X5_begin_3 l D dA C d j mm hC hm h_ hV) (xx_cwO hts q689 q691 q690 (by rw [h_]; exact q714) q697 q61 q698 q716 hu_Module_begin (hr _ _ (by decide) (by decide))) rfl hsz rfl hW hdg hf0 (fun H1 locs1 G1 => W.widen (by omega) (by omega) (kk j H1 locs1 (Or.inl ⟨by omega, rfl⟩) (xG_d (bg_v1 hC hDn (Or.inr h_)) G1)))
  · exact xx_callM (mm := mm) (As := []) (rest := rest) S G hm hN (hC.k _) (xt_X2_begin l D dA C d j mm hC hm) (xx_cw hts q689 q691 (by rw [h_]; exact q708) q690 q58 q716 rfl hu_Module_begin (hr _ _ (by decide) (by decide))) rfl hsz rfl hW hdg hf0 (fun H1 locs1 G1 => W.widen (by omega) (by omega) (kk j H1 locs1 (Or.inl ⟨by omega, rfl⟩) (xG_d (bg_v0 hC hDn (by omega) (by omega) (by omega) (by omega)) G1)))
  · exact xx_callM (mm := mm) (As := []) (rest := rest) S G hm hN (hC.k _) (xt_X2_begin l D dA C d j mm hC hm) (xx_cw hts q689 q691 (by rw [h_]; exact q709) q690 q58 q716 rfl hu_Module_begin (hr _ _ (by decide) (by decide))) rfl hsz rfl hW hdg hf0 (fun H1 locs1 G1 => W.widen (by omega) (by omega) (kk j H1 locs1 (Or.inl ⟨by omega, rfl⟩) (xG_d (bg_v0 hC hDn (by omega) (by omega) (by omega) (by omega)) G1)))
  · exact xx_callM (mm := mm) (As := []) (rest := rest) S G hm hN (hC.k _) (xt_X2_begin l D dA C d j mm hC hm) (xx_cw hts q689 q691 (by rw [h_]; exact q711) q690 q58 q716 rfl hu_Module_begin (hr _ _ (by decide) (by decide))) rfl hsz rfl hW hdg hf0 (fun H1 locs1 G1 => W.widen (by omega) (by omega) (kk j H1 locs1 (Or.inl ⟨by omega, rfl⟩) (xG_d (bg_v0 hC hDn (by omega) (by omega) (by omega) (by omega)) G1)))
  · exact xx_callM (mm := mm) (As := []) (rest := rest) S G hm hN (hC.k _) (xt_X2_begin l D dA C d j mm hC hm) (xx_cw hts q689 q691 (by rw [h_]; exact q713) q690 q58 q716 rfl hu_Module_begin (hr _ _ (by decide) (by decide))) rfl hsz rfl hW hdg hf0 (fun H1 locs1 G1 => W.widen (by omega) (by omega) (kk j H1 locs1 (Or.inl ⟨by omega, rfl⟩) (xG_d (bg_v0 hC hDn (by omega) (by omega) (by omega) (by omega)) G1)))
  · exact xx_callM (mm := mm) (As := []) (rest := rest) S G hm hN (hC.k _) (xt_X2_begin l D dA C d j mm hC hm) (xx_cw hts q689 q691 (by rw [h_]; exact q692) q690 q58 q716 rfl hu_Module_begin (hr _ _ (by decide) (by decide))) rfl hsz rfl hW hdg hf0 (fun H1 locs1 G1 => W.widen (by omega) (by omega) (kk j H1 locs1 (Or.inl ⟨by omega, rfl⟩) (xG_d (bg_v0 hC hDn (by omega) (by omega) (by omega) (by omega)) G1)))
  · exact xx_callM (mm := mm) (As := []) (rest := rest) S G hm hN (hC.k _) (xt_X2_begin l D dA C d j mm hC hm) (xx_cw hts q689 q691 (by rw [h_]; exact q710) q690 q58 q716 rfl hu_Module_begin (hr _ _ (by decide) (by decide))) rfl hsz rfl hW hdg hf0 (fun H1 locs1 G1 => W.widen (by omega) (by omega) (kk j H1 locs1 (Or.inl ⟨by omega, rfl⟩) (xG_d (bg_v0 hC hDn (by omega) (by omega) (by omega) (by omega)) G1)))
  · exact xx_callM (mm := mm) (As := []) (rest := rest) S G hm hN (hC.k _) (xt_X2_begin l D dA C d j mm hC hm) (xx_cw hts q689 q691 (by rw [h_]; exact q707) q690 q58 q716 rfl hu_Module_begin (hr _ _ (by decide) (by decide))) rfl hsz rfl hW hdg hf0 (fun H1 locs1 G1 => W.widen (by omega) (by omega) (kk j H1 locs1 (Or.inl ⟨by omega, rfl⟩) (xG_d (bg_v0 hC hDn (by omega) (by omega) (by omega) (by omega)) G1)))
  · obtain ⟨n1, n2, n3⟩ := dl_n hDl h_
    exact xx_callMN (mm := mm) (As := []) (rest := rest) S G hA hm hN (hC.k _) (xt_X15_begin l D dA C d j mm hC hm h_ hV n1 n2 n3 hDn) (xx_cwON hts q689 q691 q690 (by rw [h_]; exact q693) q694 q71 q695 q716 hu_Module_begin (hr _ _ (by decide) (by decide))) rfl hsz rfl hW hdg hf (fun o C1 d1 j1 H1 locs1 hp G1 _ _ _ => by obtain ⟨rfl, rfl, rfl, a, b, rfl⟩ := hp; exact kk _ H1 locs1 (Or.inr ⟨h_, a, b, rfl⟩) G1)
  · exact xx_callM (mm := mm) (As := []) (rest := rest) S G hm hN (hC.k _) (xt_X2_begin l D dA C d j mm hC hm) (xx_cw hts q689 q691 (by rw [h_]; exact q702) q690 q58 q716 rfl hu_Module_begin (hr _ _ (by decide) (by decide))) rfl hsz rfl hW hdg hf0 (fun H1 locs1 G1 => W.widen (by omega) (by omega) (kk j H1 locs1 (Or.inl ⟨by omega, rfl⟩) (xG_d (bg_v0 hC hDn (by omega) (by omega) (by omega) (by omega)) G1)))
  · exact xx_callM (mm := mm) (As := []) (rest := rest) S G hm hN (hC.k _) (xt_X17_begin l D dA C d j mm hC hm h_ hV) (xx_cwO hts q689 q691 q690 (by rw [h_]; exact q703) q704 q73 q705 q716 hu_Module_begin (hr _ _ (by decide) (by decide))) rfl hsz rfl hW hdg hf0 (fun H1 locs1 G1 => W.widen (by omega) (by omega) (kk j H1 locs1 (Or.inl ⟨by omega, rfl⟩) (xG_d (bg_v13 hC hDn h_) G1)))
end TD_begin
theorem xt_X0_start (l : Launch) (D : va_G) (dA : Nat → ClassId) (C : tp_C) (d : md_T) (j : xj_T) (hC : mOK C) (hV : vOK C) (hW : vfOK C) (hA_ : aOK C) (hDl : dlOK C) (hI : iOK C (dAI d 10) d) (hDn : dnOK j) (hap : apOK d) (h11 : ∀ m, cK C m = 11 → m < cN C) (hO : orOK C (leF C (dAI d 10)) (sOdA j (orN (leF C (dAI d 10)) (cN C) (cN C + 1) (0, jOd j)).2)) : xN l D dA yX0_start cX0_start 2 none 8 40 640 [.ref (jA j 0)] C d j (fun o C' d' j' => o = none ∧ C' = C ∧ d' = beD C d ∧ bsP C (cN C) (sOdA j (orN (leF C (dAI d 10)) (cN C) (cN C + 1) (0, jOd j)).2) j') := by
  refine xx_startN (own := RX0) (by decide) rfl (Nat.le_of_ble_eq_true rfl) ?_
  intro p0 e0 s0 mid bl0 me0 co0 ls S hr hlk G hl
  have hx := S.1; have hb := S.2.1; have hml := S.2.2.1; have hown := S.2.2.2.1; have hts := S.2.2.2.2; have hN := hC.n
  have hA : ∀ q, s0.heap.size ≤ q → xB (xA dA C d j) s0.heap.size q := fun q h => Or.inr h
  have hl : lv_has ls 2 [(0, .ref (jA j 0))] := hl
  have L1 : ∀ (n_ i : Nat) (jj : xj_T), i ≤ cN C → cN C < i + n_ → bsP C i (sOdA j (orN (leF C (dAI d 10)) (cN C) (cN C + 1) (0, jOd j)).2) jj → ∀ (H : Heap) (locs : List Loc) (ls : Array Slot), xG D dA (xB (xA dA C d j) s0.heap.size) C (bgN C i (be0 C d)) jj s0 H locs → lv_has ls 2 [(1, .int (nI i)), (0, .ref (jA jj 0))] → (∀ (jj : xj_T) (H : Heap) (locs : List Loc) (ls : Array Slot), bsP C (cN C) (sOdA j (orN (leF C (dAI d 10)) (cN C) (cN C + 1) (0, jOd j)).2) jj → xG D dA (xB (xA dA C d j) s0.heap.size) C (bgN C (cN C) (be0 C d)) jj s0 H locs → lv_has ls 2 [(1, .int (nI (cN C))), (0, .ref (jA jj 0))] → W p0 l e0 (rmN 8 40 640) s0 mid ([.ref (jA j 0)] : List Value).toArray bl0 me0 co0 H locs (2 * (cN C)) (32 * (cN C)) (MQ bl0 (xQN D dA C d j s0.heap.size (fun o C' d' j' => o = none ∧ C' = C ∧ d' = beD C d ∧ bsP C (cN C) (sOdA j (orN (leF C (dAI d 10)) (cN C) (cN C + 1) (0, jOd j)).2) j')) ([.ref (jA j 0)] : List Value).toArray s0 40 640 (xB (xA dA C d j) s0.heap.size)) (F0 mid 34 ls [])) → W p0 l e0 (rmN 8 40 640) s0 mid ([.ref (jA j 0)] : List Value).toArray bl0 me0 co0 H locs (2 * i) (32 * i) (MQ bl0 (xQN D dA C d j s0.heap.size (fun o C' d' j' => o = none ∧ C' = C ∧ d' = beD C d ∧ bsP C (cN C) (sOdA j (orN (leF C (dAI d 10)) (cN C) (cN C + 1) (0, jOd j)).2) j')) ([.ref (jA j 0)] : List Value).toArray s0 40 640 (xB (xA dA C d j) s0.heap.size)) (F0 mid 11 ls []) := by
    intro n_
    induction n_ with
    | zero => intro i jj h1_ h2_; exact absurd h2_ (by omega)
    | succ n_ ih =>
      intro i jj h1_ h2_ hbs H locs ls G hl kk
      refine lv_iload_n hx hb dX0_start_11 rfl (lv_at hl 0 rfl) ?_
      refine lv_aload_n hx hb dX0_start_12 rfl (lv_at hl 1 rfl) ?_
      refine xx_getP (j := jj) S G 1 (by decide) q90 rfl (v := .int (nI (cN C))) rfl dX0_start_13 ?_
      refine nn_cge (tgt := 34) hx hb (by omega) (by omega) dX0_start_16 (by decide) (fun c_16 => ?_) (fun c_16 => ?_)
      · have hiN : i = cN C := by omega
        subst hiN
        exact kk jj H locs ls hbs G (lv_sub hl [0, 1] rfl)
      · refine lv_aload_n hx hb dX0_start_19 rfl (lv_at hl 1 rfl) ?_
        refine xx_getP (j := jj) S G 0 (by decide) q89 rfl (v := .ref (jA jj 1)) rfl dX0_start_20 ?_
        refine lv_iload_n hx hb dX0_start_23 rfl (lv_at hl 0 rfl) ?_
        refine xx_aald (j := jj) S G (r := 1) (by decide) (xW_p (by decide) rfl) (i := i) (by omega) (by decide) (o := some (jA jj (xr i 0))) (if_pos (by omega)) dX0_start_24 ?_
        refine W.eq (g2 := F0 mid 25 ls [.ref (jA jj (xr i 0))]) rfl ?_
        refine xo_begin (j := jj) (mm := i) (rest := []) S G hA hC (by omega) hV hDl hbs.2.2.2.2.2.2.2.2.2.2.2 ⟨Nat.le_of_ble_eq_true rfl, Nat.le_of_ble_eq_true rfl⟩ ⟨(show 2 * i + 2 ≤ 40 by omega), (show 32 * i + 32 ≤ 640 by omega)⟩ hl.1 (Nat.le_of_ble_eq_true rfl) dX0_start_25 (fun jn H locs hbp G => ?_)
        have hA1 := bgP_A hbp
        rw [← hA1] at hl
        refine lv_iinc (v := nI (i + 1)) (lv' := [(1, .int (nI (i + 1))), (0, .ref (jA jn 0))]) hx hb dX0_start_28 hl (k := 0) rfl (nI_1 _) (by decide) rfl (fun ls hl => ?_)
        refine lv_goto (tgt := 11) hx hb dX0_start_31 (by decide) ?_
        exact ih (i + 1) jn (by omega) (by omega) (bsP_s hDl hbs hbp) H locs ls G (lv_sub hl [0, 1] rfl) kk
  have L2 : ∀ (jj : xj_T) (i3 : iOK C (leF C (dAI d 10)) (be1 C d)) (ha3 : apOK (be1 C d)) (n_ i : Nat), i ≤ cN C → cN C < i + n_ → ∀ (H : Heap) (locs : List Loc) (ls : Array Slot), xG D dA (xB (xA dA C d j) s0.heap.size) C (dfN i (be1 C d)) jj s0 H locs → lv_has ls 2 [(1, .int (nI i)), (0, .ref (jA jj 0))] → (∀ (H : Heap) (locs : List Loc) (ls : Array Slot), xG D dA (xB (xA dA C d j) s0.heap.size) C (dfN (cN C) (be1 C d)) jj s0 H locs → lv_has ls 2 [(1, .int (nI (cN C))), (0, .ref (jA jj 0))] → W p0 l e0 (rmN 8 40 640) s0 mid ([.ref (jA j 0)] : List Value).toArray bl0 me0 co0 H locs (2 * (cN C)) (32 * (cN C)) (MQ bl0 (xQN D dA C d j s0.heap.size (fun o C' d' j' => o = none ∧ C' = C ∧ d' = beD C d ∧ bsP C (cN C) (sOdA j (orN (leF C (dAI d 10)) (cN C) (cN C + 1) (0, jOd j)).2) j')) ([.ref (jA j 0)] : List Value).toArray s0 40 640 (xB (xA dA C d j) s0.heap.size)) (F0 mid 64 ls [])) → W p0 l e0 (rmN 8 40 640) s0 mid ([.ref (jA j 0)] : List Value).toArray bl0 me0 co0 H locs (2 * (cN C)) (32 * (cN C)) (MQ bl0 (xQN D dA C d j s0.heap.size (fun o C' d' j' => o = none ∧ C' = C ∧ d' = beD C d ∧ bsP C (cN C) (sOdA j (orN (leF C (dAI d 10)) (cN C) (cN C + 1) (0, jOd j)).2) j')) ([.ref (jA j 0)] : List Value).toArray s0 40 640 (xB (xA dA C d j) s0.heap.size)) (F0 mid 41 ls []) := by
    intro jj i3 ha3 n_
    induction n_ with
    | zero => intro i h1_ h2_; exact absurd h2_ (by omega)
    | succ n_ ih =>
      intro i h1_ h2_ H locs ls G hl kk
      refine lv_iload_n hx hb dX0_start_41 rfl (lv_at hl 0 rfl) ?_
      refine lv_aload_n hx hb dX0_start_42 rfl (lv_at hl 1 rfl) ?_
      refine xx_getP (j := jj) S G 1 (by decide) q90 rfl (v := .int (nI (cN C))) rfl dX0_start_43 ?_
      refine nn_cge (tgt := 64) hx hb (by omega) (by omega) dX0_start_46 (by decide) (fun c_46 => ?_) (fun c_46 => ?_)
      · have hiN : i = cN C := by omega
        subst hiN
        exact kk H locs ls G (lv_sub hl [0, 1] rfl)
      · refine lv_aload_n hx hb dX0_start_49 rfl (lv_at hl 1 rfl) ?_
        refine xx_getP (j := jj) S G 0 (by decide) q89 rfl (v := .ref (jA jj 1)) rfl dX0_start_50 ?_
        refine lv_iload_n hx hb dX0_start_53 rfl (lv_at hl 0 rfl) ?_
        refine xx_aald (j := jj) S G (r := 1) (by decide) (xW_p (by decide) rfl) (i := i) (by omega) (by decide) (o := some (jA jj (xr i 0))) (if_pos (by omega)) dX0_start_54 ?_
        refine W.eq (g2 := F0 mid 55 ls [.ref (jA jj (xr i 0))]) rfl ?_
        refine xx_callM (j := jj) (mm := i) (As := []) (rest := []) S G (by omega) hN (hC.k _) (xt_X2_compare l D dA C (dfN i (be1 C d)) jj i hC (by omega) (iOK_dfN i3 i).r (apOK_dfN i3 ha3 i)) (xx_cw hts q981 q983 (se_compare (hC.k _)) q982 q58 q998 rfl hu_Module_compare ⟨Nat.le_of_ble_eq_true rfl, Nat.le_of_ble_eq_true rfl⟩) rfl hl.1 rfl (Nat.le_of_ble_eq_true rfl) dX0_start_55 ⟨(show 2 * (cN C) ≤ 40 by omega), (show 32 * (cN C) ≤ 640 by omega)⟩ (fun H locs G => ?_)
        refine W.eq (g2 := F0 mid 58 ls []) rfl ?_
        refine lv_iinc (v := nI (i + 1)) (lv' := [(1, .int (nI (i + 1))), (0, .ref (jA jj 0))]) hx hb dX0_start_58 hl (k := 0) rfl (nI_1 _) (by decide) rfl (fun ls hl => ?_)
        refine lv_goto (tgt := 41) hx hb dX0_start_61 (by decide) ?_
        exact ih (i + 1) (by omega) (by omega) H locs ls (xG_d (xL_e rfl (by rfl) rfl) G) (lv_sub hl [0, 1] rfl) kk
  refine lv_aload_n hx hb dX0_start_0 rfl (lv_at hl 0 rfl) ?_
  refine xx_callP (As := []) (rest := []) S G (xt_X0_findOrder l D dA C d j hC) q685 q687 qs6 q688 hd_X0_findOrder ⟨Nat.le_of_ble_eq_true rfl, Nat.le_of_ble_eq_true rfl⟩ rfl hl.1 rfl (Nat.le_of_ble_eq_true rfl) dX0_start_1 ⟨(show 0 ≤ 40 by omega), (show 0 ≤ 640 by omega)⟩ (fun H locs G => ?_)
  refine W.eq (g2 := F0 mid 4 ls []) rfl ?_
  refine lv_aload_n hx hb dX0_start_4 rfl (lv_at hl 0 rfl) ?_
  refine lv_iconst (v := nI 0) hx hb dX0_start_5 (by decide) ?_
  refine xx_putP (j := (sOdA j (orN (leF C (dAI d 10)) (cN C) (cN C + 1) (0, jOd j)).2)) S G 5 (by decide) q94 rfl rfl rfl rfl xs_P5 dX0_start_6 (fun H locs G => ?_)
  refine lv_iconst (v := nI 0) hx hb dX0_start_9 (by decide) ?_
  refine lv_istore_n (lv' := [(1, .int (nI 0)), (0, .ref (jA j 0))]) hx hb dX0_start_10 rfl hl (by decide) rfl (fun ls hl => ?_)
  have G : xG D dA (xB (xA dA C d j) s0.heap.size) C (bgN C 0 (be0 C d)) (sOdA j (orN (leF C (dAI d 10)) (cN C) (cN C + 1) (0, jOd j)).2) s0 H locs := xG_d (xL_v (d' := be0 C d) rfl) G
  refine L1 (cN C + 1) 0 (sOdA j (orN (leF C (dAI d 10)) (cN C) (cN C + 1) (0, jOd j)).2) (by omega) (by omega) (bsP_0 hDn) _ _ ls G (lv_sub hl [0, 1] rfl) (fun jj H locs ls hbs G hl => ?_)
  have i2 := iOK_bgN hV hW (iOK_be0 hI) (cN C)
  have i3 := iOK_be1 hC hV hW hA_ hI
  have ha3 : apOK (be1 C d) := apOK_mv (raN_D (by decide)) (apOK_bgN (C := C) (d := be0 C d) (fun k => hap k) (cN C))
  have hO3 : orOK C (dAI (bgN C (cN C) (be0 C d)) 10) jj := by rw [i2.l]; unfold orOK; rw [hbs.2.2.2.2.2.2.2.1]; exact hO
  refine lv_aload_n hx hb dX0_start_34 rfl (lv_at hl 1 rfl) ?_
  refine lv_iconst (v := nI 0) hx hb dX0_start_35 (by decide) ?_
  refine xx_callP (j := jj) (As := [.int (nI 0)]) (rest := []) S G (xt_X0_read l D dA C (bgN C (cN C) (be0 C d)) jj (nI 0) hC hV i2.r hA_ (by rw [bgN_dI]; rfl) (jOK_bs h11 hbs) hO3) q717 q719 qs7 q720 hd_X0_read ⟨Nat.le_of_ble_eq_true rfl, Nat.le_of_ble_eq_true rfl⟩ rfl hl.1 rfl (Nat.le_of_ble_eq_true rfl) dX0_start_36 ⟨(show 2 * (cN C) ≤ 40 by omega), (show 32 * (cN C) ≤ 640 by omega)⟩ (fun H locs G => ?_)
  refine W.eq (g2 := F0 mid 39 ls []) rfl ?_
  have G : xG D dA (xB (xA dA C d j) s0.heap.size) C (be1 C d) jj s0 H locs := G
  refine lv_iconst (v := nI 0) hx hb dX0_start_39 (by decide) ?_
  refine lv_istore_n (lv' := [(1, .int (nI 0)), (0, .ref (jA jj 0))]) hx hb dX0_start_40 rfl hl (by decide) rfl (fun ls hl => ?_)
  refine L2 jj i3 ha3 (cN C + 1) 0 (by omega) (by omega) _ _ ls (xG_d (xL_e rfl (by rfl) rfl) G) (lv_sub hl [0, 1] rfl) (fun H locs ls G hl => ?_)
  have G := xG_d (xL_v (vw_26 (e26_be C (be1 C d) (cN C))).symm) G
  exact xx_vretN S hr hlk G (by omega) (by omega) ⟨rfl, rfl, rfl, hbs⟩ dX0_start_64
