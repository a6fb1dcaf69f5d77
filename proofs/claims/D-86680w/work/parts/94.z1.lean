set_option maxRecDepth 100000
set_option maxHeartbeats 4000000
theorem dX15_begin_0 : decode cX15_begin 0 = .ok (.aload_n 0, 1) := by decide +kernel
theorem dX15_begin_1 : decode cX15_begin 1 = .ok (.invokespecial 7, 3) := by decide +kernel
theorem dX15_begin_4 : decode cX15_begin 4 = .ok (.aload_n 0, 1) := by decide +kernel
theorem dX15_begin_5 : decode cX15_begin 5 = .ok (.getfield 11, 3) := by decide +kernel
theorem dX15_begin_8 : decode cX15_begin 8 = .ok (.d2i, 1) := by decide +kernel
theorem dX15_begin_9 : decode cX15_begin 9 = .ok (.istore_n 1, 1) := by decide +kernel
theorem dX15_begin_10 : decode cX15_begin 10 = .ok (.aload_n 0, 1) := by decide +kernel
theorem dX15_begin_11 : decode cX15_begin 11 = .ok (.iload_n 1, 1) := by decide +kernel
theorem dX15_begin_12 : decode cX15_begin 12 = .ok (.newarray .double, 2) := by decide +kernel
theorem dX15_begin_14 : decode cX15_begin 14 = .ok (.putfield 17, 3) := by decide +kernel
theorem dX15_begin_17 : decode cX15_begin 17 = .ok (.aload_n 0, 1) := by decide +kernel
theorem dX15_begin_18 : decode cX15_begin 18 = .ok (.iload_n 1, 1) := by decide +kernel
theorem dX15_begin_19 : decode cX15_begin 19 = .ok (.newarray .float, 2) := by decide +kernel
theorem dX15_begin_21 : decode cX15_begin 21 = .ok (.putfield 21, 3) := by decide +kernel
theorem dX15_begin_24 : decode cX15_begin 24 = .ok (.iconst 0, 1) := by decide +kernel
theorem dX15_begin_25 : decode cX15_begin 25 = .ok (.istore_n 2, 1) := by decide +kernel
theorem dX15_begin_26 : decode cX15_begin 26 = .ok (.iload_n 2, 1) := by decide +kernel
theorem dX15_begin_27 : decode cX15_begin 27 = .ok (.iload_n 1, 1) := by decide +kernel
theorem dX15_begin_28 : decode cX15_begin 28 = .ok (.if_icmp .ge 30, 3) := by decide +kernel
theorem dX15_begin_31 : decode cX15_begin 31 = .ok (.aload_n 0, 1) := by decide +kernel
theorem dX15_begin_32 : decode cX15_begin 32 = .ok (.getfield 17, 3) := by decide +kernel
theorem dX15_begin_35 : decode cX15_begin 35 = .ok (.iload_n 2, 1) := by decide +kernel
theorem dX15_begin_36 : decode cX15_begin 36 = .ok (.aload_n 0, 1) := by decide +kernel
theorem dX15_begin_37 : decode cX15_begin 37 = .ok (.getfield 25, 3) := by decide +kernel
theorem dX15_begin_40 : decode cX15_begin 40 = .ok (.dastore, 1) := by decide +kernel
theorem dX15_begin_41 : decode cX15_begin 41 = .ok (.aload_n 0, 1) := by decide +kernel
theorem dX15_begin_42 : decode cX15_begin 42 = .ok (.getfield 21, 3) := by decide +kernel
theorem dX15_begin_45 : decode cX15_begin 45 = .ok (.iload_n 2, 1) := by decide +kernel
theorem dX15_begin_46 : decode cX15_begin 46 = .ok (.aload_n 0, 1) := by decide +kernel
theorem dX15_begin_47 : decode cX15_begin 47 = .ok (.getfield 25, 3) := by decide +kernel
theorem dX15_begin_50 : decode cX15_begin 50 = .ok (.d2f, 1) := by decide +kernel
theorem dX15_begin_51 : decode cX15_begin 51 = .ok (.fastore, 1) := by decide +kernel
theorem dX15_begin_52 : decode cX15_begin 52 = .ok (.iinc 2 1, 3) := by decide +kernel
theorem dX15_begin_55 : decode cX15_begin 55 = .ok (.goto (-29), 3) := by decide +kernel
theorem dX15_begin_58 : decode cX15_begin 58 = .ok (.return_, 1) := by decide +kernel
theorem wmv_9 {w : wr_F} {r : Nat} (h : 9 ≠ r) : wmv w r 9 = none := by unfold wmv; rw [if_neg h, if_pos rfl]
theorem wmv_ne {w : wr_F} {r q : Nat} (h : q ≠ r) (h9 : q ≠ 9) : wmv w r q = w q := by unfold wmv; rw [if_neg h, if_neg h9]
theorem wr_s_self {w : wr_F} {r : Nat} {x : Nat × va_E} : wr_s w r x r = some x := if_pos rfl
theorem xr_9 (m i : Nat) : xr m i ≠ 9 := by unfold xr; omega
theorem xW_11 {dA : Nat → ClassId} {C : tp_C} {d : md_T} {j : xj_T} {m : Nat} (hm : m < cN C) (hk : cK C m = 11) : xW dA C d j (xr m 0) = some (jA j (xr m 0), .inr (11 + 2, xFs C d j m)) := by
  rw [xW_m (i := 0) (x := .inr (cK C m + 2, xFs C d j m)) (by decide) hm rfl, hk]
theorem vf_uu {α : Type} (f : Nat → α) (k : Nat) (v w : α) : vf_upd (vf_upd f k v) k w = vf_upd f k w := by
  funext q; unfold vf_upd; by_cases h : q = k
  · rw [if_pos h, if_pos h]
  · rw [if_neg h, if_neg h, if_neg h]
theorem bgJ_1 (C : tp_C) (m n q4 q5 : Nat) (j : xj_T) : bgJ C m n q4 q5 (sNf (sWf j m (cB C m)) m (FP.d2f (cB C m))) = bgJ C m n q4 q5 j := by
  show (_, vf_upd (vf_upd (jWf j) m (cB C m)) m (cB C m), vf_upd (vf_upd (jNf j) m (FP.d2f (cB C m))) m (FP.d2f (cB C m)), _) = _
  rw [vf_uu, vf_uu]; rfl
theorem xt_X15_begin (l : Launch) (D : va_G) (dA : Nat → ClassId) (C : tp_C) (d : md_T) (j : xj_T) (m : Nat) {n : Nat} (hC : mOK C) (hm : m < cN C) (hk : cK C m = 11) (hV : vOK C) (hn : FP.d2i (cS C m) = nI n) (hn1 : 1 ≤ n) (hn16 : n ≤ 16) (hDn : dnOK j) : xN l D dA yX15_begin cX15_begin 3 none 2 2 32 [.ref (jA j (xr m 0))] C d j (fun o C' d' j' => o = none ∧ C' = C ∧ d' = bgS C m d ∧ ∃ a b, j' = bgJ C m n a b j) := by
  refine xx_startN (own := RX15) (by decide) rfl (Nat.le_of_ble_eq_true rfl) ?_
  intro p0 e0 s0 mid bl0 me0 co0 ls S hr hlk G hl
  have hx := S.1; have hb := S.2.1; have hml := S.2.2.1; have hown := S.2.2.2.1; have hts := S.2.2.2.2; have hN := hC.n
  have hA : ∀ q, s0.heap.size ≤ q → xB (xA dA C d j) s0.heap.size q := fun q h => Or.inr h
  have hl : lv_has ls 3 [(0, .ref (jA j (xr m 0)))] := hl
  have L1 : ∀ (jb : xj_T) (hdb : jDn jb m = some n) (hDb : dnOK jb) (hPq : ∃ a b, jb = bgJ C m n a b j) (n_ i : Nat), i ≤ n → n < i + n_ → ∀ (H : Heap) (locs : List Loc) (ls : Array Slot), xG D dA (xB (xA dA C d j) s0.heap.size) C (rbI (zrD (bg2 m d) m) m i (cB C m)) jb s0 H locs → lv_has ls 3 [(2, .int (nI i)), (1, .int (nI n)), (0, .ref (jA jb (xr m 0)))] → (∀ (H : Heap) (locs : List Loc) (ls : Array Slot), xG D dA (xB (xA dA C d j) s0.heap.size) C (rbI (zrD (bg2 m d) m) m n (cB C m)) jb s0 H locs → lv_has ls 3 [(2, .int (nI n)), (1, .int (nI n)), (0, .ref (jA jb (xr m 0)))] → W p0 l e0 (rmN 2 2 32) s0 mid ([.ref (jA j (xr m 0))] : List Value).toArray bl0 me0 co0 H locs (0 + 1 + 1) (0 + n + n) (MQ bl0 (xQN D dA C d j s0.heap.size (fun o C' d' j' => o = none ∧ C' = C ∧ d' = bgS C m d ∧ ∃ a b, j' = bgJ C m n a b j)) ([.ref (jA j (xr m 0))] : List Value).toArray s0 2 32 (xB (xA dA C d j) s0.heap.size)) (F0 mid 58 ls [])) → W p0 l e0 (rmN 2 2 32) s0 mid ([.ref (jA j (xr m 0))] : List Value).toArray bl0 me0 co0 H locs (0 + 1 + 1) (0 + n + n) (MQ bl0 (xQN D dA C d j s0.heap.size (fun o C' d' j' => o = none ∧ C' = C ∧ d' = bgS C m d ∧ ∃ a b, j' = bgJ C m n a b j)) ([.ref (jA j (xr m 0))] : List Value).toArray s0 2 32 (xB (xA dA C d j) s0.heap.size)) (F0 mid 26 ls []) := by
    intro jb hdb hDb hPq n_
    induction n_ with
    | zero => intro i h1_ h2_; exact absurd h2_ (by omega)
    | succ n_ ih =>
      intro i h1_ h2_ H locs ls G hl kk
      refine lv_iload_n hx hb dX15_begin_26 rfl (lv_at hl 0 rfl) ?_
      refine lv_iload_n hx hb dX15_begin_27 rfl (lv_at hl 1 rfl) ?_
      refine nn_cge (tgt := 58) hx hb (by omega) (by omega) dX15_begin_28 (by decide) (fun c_28 => ?_) (fun c_28 => ?_)
      · have hiN : i = n := by omega
        subst hiN
        exact kk H locs ls G (lv_sub hl [0, 1, 2] rfl)
      · refine lv_aload_n hx hb dX15_begin_31 rfl (lv_at hl 2 rfl) ?_
        refine xx_getM S G (mm := m) (ref := "TwinPanel$Delay") (by omega) hN (hC.k _) 13 (by rw [hk]; decide) (by rw [hk]; exact hts _ q504) (by rw [hk]; exact fun x h => h) (v := .ref (jA jb (xr m 4))) (xV_11_13 hk hdb) dX15_begin_32 ?_
        refine lv_iload_n hx hb dX15_begin_35 rfl (lv_at hl 0 rfl) ?_
        refine lv_aload_n hx hb dX15_begin_36 rfl (lv_at hl 2 rfl) ?_
        refine xx_getM S G (mm := m) (ref := "TwinPanel$Delay") (by omega) hN (hC.k _) 2 (by rw [hk]; decide) (by rw [hk]; exact hts _ q214) (by rw [hk]; exact fun x h => u_same (hts _ q215) x h) (v := .double (cB C m)) rfl dX15_begin_37 ?_
        refine xx_dast S G (r := xr m 4) (xr_lt (by decide) (Nat.lt_of_lt_of_le (by omega) hN)) (xW_m (by decide) (by omega) (xME_11_4 hk hdb)) 2 rfl (i := i) (by omega) (by omega) (xs_dw hk hdb hDb hm (vf_in _ _ _ (by omega)) (vf_z _ _ _ (by omega)) (vf_out _ _ (by omega))) dX15_begin_40 (fun H locs G => ?_)
        refine lv_aload_n hx hb dX15_begin_41 rfl (lv_at hl 2 rfl) ?_
        refine xx_getM S G (mm := m) (ref := "TwinPanel$Delay") (by omega) hN (hC.k _) 14 (by rw [hk]; decide) (by rw [hk]; exact hts _ q505) (by rw [hk]; exact fun x h => h) (v := .ref (jA jb (xr m 5))) (xV_11_14 hk hdb) dX15_begin_42 ?_
        refine lv_iload_n hx hb dX15_begin_45 rfl (lv_at hl 0 rfl) ?_
        refine lv_aload_n hx hb dX15_begin_46 rfl (lv_at hl 2 rfl) ?_
        refine xx_getM S G (mm := m) (ref := "TwinPanel$Delay") (by omega) hN (hC.k _) 2 (by rw [hk]; decide) (by rw [hk]; exact hts _ q214) (by rw [hk]; exact fun x h => u_same (hts _ q215) x h) (v := .double (cB C m)) rfl dX15_begin_47 ?_
        refine lv_d2f hx hb dX15_begin_50 (nF_d2f (bD_n (hV.b m))) ?_
        refine xx_fast S G (r := xr m 5) (xr_lt (by decide) (Nat.lt_of_lt_of_le (by omega) hN)) (xW_m (by decide) (by omega) (xME_11_5 hk hdb)) 3 rfl (i := i) (by omega) (by omega) (xs_dn hk hdb hDb hm (vf_in _ _ _ (by omega)) (vf_z _ _ _ (by omega)) (vf_out _ _ (by omega))) dX15_begin_51 (fun H locs G => ?_)
        refine lv_iinc (v := nI (i + 1)) (lv' := [(2, .int (nI (i + 1))), (1, .int (nI n)), (0, .ref (jA jb (xr m 0)))]) hx hb dX15_begin_52 hl (k := 0) rfl (nI_1 _) (by decide) rfl (fun ls hl => ?_)
        refine lv_goto (tgt := 26) hx hb dX15_begin_55 (by decide) ?_
        exact ih (i + 1) (by omega) (by omega) H locs ls (xG_d (xL_e rfl (by exact rbI_s (zrD (bg2 m d) m) m i (cB C m)) rfl) G) (lv_sub hl [0, 1, 2] rfl) kk
  refine lv_aload_n hx hb dX15_begin_0 rfl (lv_at hl 0 rfl) ?_
  refine xx_callSU (mm := m) (As := []) (rest := []) S G (by omega) hN (hC.k _) (xt_X5_begin_11 l D dA C d j m hC (by omega) hk hV) q696 q1749 q529 q697 q61 q698 hsu_X5_begin ⟨Nat.le_of_ble_eq_true rfl, Nat.le_of_ble_eq_true rfl⟩ rfl hl.1 rfl (Nat.le_of_ble_eq_true rfl) dX15_begin_1 ⟨(show 0 ≤ 2 by omega), (show 0 ≤ 32 by omega)⟩ (fun H locs G => ?_)
  refine W.eq (g2 := F0 mid 4 ls []) rfl ?_
  refine lv_aload_n hx hb dX15_begin_4 rfl (lv_at hl 0 rfl) ?_
  refine xx_getM S G (mm := m) (ref := "TwinPanel$Delay") (by omega) hN (hC.k _) 1 (by rw [hk]; decide) (by rw [hk]; exact hts _ q205) (by rw [hk]; exact fun x h => u_same (hts _ q206) x h) (v := .double (cS C m)) rfl dX15_begin_5 ?_
  refine lv_d2i hx hb dX15_begin_8 ?_
  refine w_st (st' := [.int (nI n)]) (by rw [hn]) ?_
  refine lv_istore_n (lv' := [(1, .int (nI n)), (0, .ref (jA j (xr m 0)))]) hx hb dX15_begin_9 rfl hl (by decide) rfl (fun ls hl => ?_)
  refine lv_aload_n hx hb dX15_begin_10 rfl (lv_at hl 1 rfl) ?_
  refine lv_iload_n hx hb dX15_begin_11 rfl (lv_at hl 0 rfl) ?_
  have G : xG D dA (xB (xA dA C d j) s0.heap.size) C (bg2 m d) (sNf (sWf j m (cB C m)) m (FP.d2f (cB C m))) s0 H locs := G
  refine ww_newD S (xG_w G) hA (r := 9) (by decide) rfl (n := n) (by omega) (show 0 + 1 ≤ 2 by omega) (show 0 + n ≤ 32 by omega) dX15_begin_12 (fun q4 H G => ?_)
  refine ww_put S G (r := xr m 0) (k := 11) (fs := xFs C (bg2 m d) (sNf (sWf j m (cB C m)) m (FP.d2f (cB C m))) m) (xr_lt (by decide) (Nat.lt_of_lt_of_le hm hN)) (by rw [wr_s_ne (xr_9 _ _)]; exact xW_11 hm hk) (by decide) (by rw [xFs_len, hk]) 13 (by decide) q504 (fun x h => h) rfl rfl rfl dX15_begin_14 (fun H locs G => ?_)
  have G := wmv_G (r := xr m 4) (xr_lt (by decide) (Nat.lt_of_lt_of_le hm hN)) (xr_9 _ _) G
  refine lv_aload_n hx hb dX15_begin_17 rfl (lv_at hl 1 rfl) ?_
  refine lv_iload_n hx hb dX15_begin_18 rfl (lv_at hl 0 rfl) ?_
  refine ww_newF S G hA (r := 9) (by decide) (wmv_9 (fun e => xr_9 m 4 e.symm)) (n := n) (by omega) (show 0 + 1 + 1 ≤ 2 by omega) (show 0 + n + n ≤ 32 by omega) dX15_begin_19 (fun q5 H G => ?_)
  refine ww_put S G (r := xr m 0) (k := 11) (fs := (xFs C (bg2 m d) (sNf (sWf j m (cB C m)) m (FP.d2f (cB C m))) m).set 13 (.ref q4)) (xr_lt (by decide) (Nat.lt_of_lt_of_le hm hN)) (by rw [wr_s_ne (xr_9 _ _), wmv_ne (xr_ne (by decide)) (xr_9 _ _), wr_s_self]) (by decide) (by rw [List.length_set, xFs_len, hk]) 14 (by decide) q505 (fun x h => h) rfl rfl rfl dX15_begin_21 (fun H locs G => ?_)
  have G := wmv_G (r := xr m 5) (xr_lt (by decide) (Nat.lt_of_lt_of_le hm hN)) (xr_9 _ _) G
  have G : xG D dA (xB (xA dA C d j) s0.heap.size) C (zrD (bg2 m d) m) (bgJ C m n q4 q5 (sNf (sWf j m (cB C m)) m (FP.d2f (cB C m)))) s0 H locs := wG_x (xs_bg hk hm hN hDn hn16 (vf_at _ _ _) (vf_at _ _ _)) G
  rw [bgJ_1] at G
  have hdb : jDn (bgJ C m n q4 q5 j) m = some n := vf_at _ _ _
  have hDb : dnOK (bgJ C m n q4 q5 j) := dnOK_bg hDn hn16
  have hA0 : jA (bgJ C m n q4 q5 j) (xr m 0) = jA j (xr m 0) := by show vf_upd (vf_upd (jA j) (xr m 4) q4) (xr m 5) q5 (xr m 0) = _; rw [vf_ne _ _ (xr_ne (by decide)), vf_ne _ _ (xr_ne (by decide))]
  have hPq : ∃ a b, bgJ C m n q4 q5 j = bgJ C m n a b j := ⟨q4, q5, rfl⟩
  generalize hg : bgJ C m n q4 q5 j = jb at G hdb hDb hA0 hPq
  rw [← hA0] at hl
  refine lv_iconst (v := nI 0) hx hb dX15_begin_24 (by decide) ?_
  refine lv_istore_n (lv' := [(2, .int (nI 0)), (1, .int (nI n)), (0, .ref (jA jb (xr m 0)))]) hx hb dX15_begin_25 rfl hl (by decide) rfl (fun ls hl => ?_)
  refine L1 jb hdb hDb hPq (n + 1) 0 (by omega) (by omega) _ _ ls (xG_d (xL_e rfl (by exact (rbI_0 _ _ _).symm) rfl) G) (lv_sub hl [0, 1, 2] rfl) (fun H locs ls G hl => ?_)
  have G := xG_d (bg_v11 hC hDb hk hn16 hdb) G
  obtain ⟨a_, b_, hab⟩ := hPq
  exact xx_vretN S hr hlk G (by omega) (by omega) ⟨rfl, rfl, rfl, a_, b_, hab⟩ dX15_begin_58
