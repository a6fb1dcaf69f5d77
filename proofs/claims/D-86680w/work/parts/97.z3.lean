set_option maxRecDepth 100000
set_option maxHeartbeats 4000000
theorem dX0_mode_0 : decode cX0_mode 0 = .ok (.iload_n 1, 1) := by decide +kernel
theorem dX0_mode_1 : decode cX0_mode 1 = .ok (.iconst 0, 1) := by decide +kernel
theorem dX0_mode_2 : decode cX0_mode 2 = .ok (.iconst 1, 1) := by decide +kernel
theorem dX0_mode_3 : decode cX0_mode 3 = .ok (.invokestatic 94, 3) := by decide +kernel
theorem dX0_mode_6 : decode cX0_mode 6 = .ok (.ifCond .ne 6, 3) := by decide +kernel
theorem dX0_mode_9 : decode cX0_mode 9 = .ok (.bipush (-102), 2) := by decide +kernel
theorem dX0_mode_11 : decode cX0_mode 11 = .ok (.ireturn, 1) := by decide +kernel
theorem dX0_mode_12 : decode cX0_mode 12 = .ok (.iload_n 1, 1) := by decide +kernel
theorem dX0_mode_13 : decode cX0_mode 13 = .ok (.iconst 1, 1) := by decide +kernel
theorem dX0_mode_14 : decode cX0_mode 14 = .ok (.if_icmp .ne 33, 3) := by decide +kernel
theorem dX0_mode_17 : decode cX0_mode 17 = .ok (.aload_n 0, 1) := by decide +kernel
theorem dX0_mode_18 : decode cX0_mode 18 = .ok (.getfield 185, 3) := by decide +kernel
theorem dX0_mode_21 : decode cX0_mode 21 = .ok (.istore_n 2, 1) := by decide +kernel
theorem dX0_mode_22 : decode cX0_mode 22 = .ok (.aload_n 0, 1) := by decide +kernel
theorem dX0_mode_23 : decode cX0_mode 23 = .ok (.invokevirtual 195, 3) := by decide +kernel
theorem dX0_mode_26 : decode cX0_mode 26 = .ok (.ifCond .ne 7, 3) := by decide +kernel
theorem dX0_mode_29 : decode cX0_mode 29 = .ok (.iconst 1, 1) := by decide +kernel
theorem dX0_mode_30 : decode cX0_mode 30 = .ok (.goto 4, 3) := by decide +kernel
theorem dX0_mode_33 : decode cX0_mode 33 = .ok (.iconst 0, 1) := by decide +kernel
theorem dX0_mode_34 : decode cX0_mode 34 = .ok (.istore_n 3, 1) := by decide +kernel
theorem dX0_mode_35 : decode cX0_mode 35 = .ok (.aload_n 0, 1) := by decide +kernel
theorem dX0_mode_36 : decode cX0_mode 36 = .ok (.iload_n 2, 1) := by decide +kernel
theorem dX0_mode_37 : decode cX0_mode 37 = .ok (.putfield 185, 3) := by decide +kernel
theorem dX0_mode_40 : decode cX0_mode 40 = .ok (.iload_n 3, 1) := by decide +kernel
theorem dX0_mode_41 : decode cX0_mode 41 = .ok (.ifCond .ne 6, 3) := by decide +kernel
theorem dX0_mode_44 : decode cX0_mode 44 = .ok (.bipush (-103), 2) := by decide +kernel
theorem dX0_mode_46 : decode cX0_mode 46 = .ok (.ireturn, 1) := by decide +kernel
theorem dX0_mode_47 : decode cX0_mode 47 = .ok (.aload_n 0, 1) := by decide +kernel
theorem dX0_mode_48 : decode cX0_mode 48 = .ok (.getfield 88, 3) := by decide +kernel
theorem dX0_mode_51 : decode cX0_mode 51 = .ok (.istore_n 2, 1) := by decide +kernel
theorem dX0_mode_52 : decode cX0_mode 52 = .ok (.aload_n 0, 1) := by decide +kernel
theorem dX0_mode_53 : decode cX0_mode 53 = .ok (.iload_n 1, 1) := by decide +kernel
theorem dX0_mode_54 : decode cX0_mode 54 = .ok (.putfield 88, 3) := by decide +kernel
theorem dX0_mode_57 : decode cX0_mode 57 = .ok (.iload_n 1, 1) := by decide +kernel
theorem dX0_mode_58 : decode cX0_mode 58 = .ok (.iconst 1, 1) := by decide +kernel
theorem dX0_mode_59 : decode cX0_mode 59 = .ok (.if_icmp .ne 84, 3) := by decide +kernel
theorem dX0_mode_62 : decode cX0_mode 62 = .ok (.iconst 0, 1) := by decide +kernel
theorem dX0_mode_63 : decode cX0_mode 63 = .ok (.istore_n 3, 1) := by decide +kernel
theorem dX0_mode_64 : decode cX0_mode 64 = .ok (.iload_n 3, 1) := by decide +kernel
theorem dX0_mode_65 : decode cX0_mode 65 = .ok (.aload_n 0, 1) := by decide +kernel
theorem dX0_mode_66 : decode cX0_mode 66 = .ok (.getfield 249, 3) := by decide +kernel
theorem dX0_mode_69 : decode cX0_mode 69 = .ok (.if_icmp .ge 16, 3) := by decide +kernel
theorem dX0_mode_72 : decode cX0_mode 72 = .ok (.aload_n 0, 1) := by decide +kernel
theorem dX0_mode_73 : decode cX0_mode 73 = .ok (.getfield 71, 3) := by decide +kernel
theorem dX0_mode_76 : decode cX0_mode 76 = .ok (.iload_n 3, 1) := by decide +kernel
theorem dX0_mode_77 : decode cX0_mode 77 = .ok (.iconst 0, 1) := by decide +kernel
theorem dX0_mode_78 : decode cX0_mode 78 = .ok (.iastore, 1) := by decide +kernel
theorem dX0_mode_79 : decode cX0_mode 79 = .ok (.iinc 3 1, 3) := by decide +kernel
theorem dX0_mode_82 : decode cX0_mode 82 = .ok (.goto (-18), 3) := by decide +kernel
theorem dX0_mode_85 : decode cX0_mode 85 = .ok (.aload_n 0, 1) := by decide +kernel
theorem dX0_mode_86 : decode cX0_mode 86 = .ok (.invokevirtual 255, 3) := by decide +kernel
theorem dX0_mode_89 : decode cX0_mode 89 = .ok (.iconst 0, 1) := by decide +kernel
theorem dX0_mode_90 : decode cX0_mode 90 = .ok (.istore_n 3, 1) := by decide +kernel
theorem dX0_mode_91 : decode cX0_mode 91 = .ok (.iload_n 3, 1) := by decide +kernel
theorem dX0_mode_92 : decode cX0_mode 92 = .ok (.aload_n 0, 1) := by decide +kernel
theorem dX0_mode_93 : decode cX0_mode 93 = .ok (.getfield 91, 3) := by decide +kernel
theorem dX0_mode_96 : decode cX0_mode 96 = .ok (.if_icmp .ge 43, 3) := by decide +kernel
theorem dX0_mode_99 : decode cX0_mode 99 = .ok (.aload_n 0, 1) := by decide +kernel
theorem dX0_mode_100 : decode cX0_mode 100 = .ok (.getfield 55, 3) := by decide +kernel
theorem dX0_mode_103 : decode cX0_mode 103 = .ok (.iload_n 3, 1) := by decide +kernel
theorem dX0_mode_104 : decode cX0_mode 104 = .ok (.aaload, 1) := by decide +kernel
theorem dX0_mode_105 : decode cX0_mode 105 = .ok (.getfield 151, 3) := by decide +kernel
theorem dX0_mode_108 : decode cX0_mode 108 = .ok (.iconst 2, 1) := by decide +kernel
theorem dX0_mode_109 : decode cX0_mode 109 = .ok (.if_icmp .ne 24, 3) := by decide +kernel
theorem dX0_mode_112 : decode cX0_mode 112 = .ok (.aload_n 0, 1) := by decide +kernel
theorem dX0_mode_113 : decode cX0_mode 113 = .ok (.getfield 55, 3) := by decide +kernel
theorem dX0_mode_116 : decode cX0_mode 116 = .ok (.iload_n 3, 1) := by decide +kernel
theorem dX0_mode_117 : decode cX0_mode 117 = .ok (.aaload, 1) := by decide +kernel
theorem dX0_mode_118 : decode cX0_mode 118 = .ok (.checkcast 10, 3) := by decide +kernel
theorem dX0_mode_121 : decode cX0_mode 121 = .ok (.aload_n 0, 1) := by decide +kernel
theorem dX0_mode_122 : decode cX0_mode 122 = .ok (.getfield 55, 3) := by decide +kernel
theorem dX0_mode_125 : decode cX0_mode 125 = .ok (.iload_n 3, 1) := by decide +kernel
theorem dX0_mode_126 : decode cX0_mode 126 = .ok (.aaload, 1) := by decide +kernel
theorem dX0_mode_127 : decode cX0_mode 127 = .ok (.invokevirtual 257, 3) := by decide +kernel
theorem dX0_mode_130 : decode cX0_mode 130 = .ok (.putfield 261, 3) := by decide +kernel
theorem dX0_mode_133 : decode cX0_mode 133 = .ok (.iinc 3 1, 3) := by decide +kernel
theorem dX0_mode_136 : decode cX0_mode 136 = .ok (.goto (-45), 3) := by decide +kernel
theorem dX0_mode_139 : decode cX0_mode 139 = .ok (.aload_n 0, 1) := by decide +kernel
theorem dX0_mode_140 : decode cX0_mode 140 = .ok (.invokevirtual 264, 3) := by decide +kernel
theorem dX0_mode_143 : decode cX0_mode 143 = .ok (.iload_n 2, 1) := by decide +kernel
theorem dX0_mode_144 : decode cX0_mode 144 = .ok (.ireturn, 1) := by decide +kernel
theorem hd_X0_start : yX0_start.cls = RX0 ∧ yX0_start.cls ≠ "java/lang/invoke/MethodHandle" ∧ yX0_start.cls ≠ "java/lang/invoke/VarHandle" ∧ (parseMethodDescriptor yX0_start.desc).map (fun d => d.parameters.length) = some 0 := by decide +kernel
theorem va_up_id {α : Type} (f : Nat → α) (k : Nat) : va_up f k (f k) = f := up_same f k
theorem uI_id (d : md_T) (k : Nat) : uI d k (dI d k) = d := by
  show (va_up (dI d) k (dI d k), dD d, dH d, dAI d, dAD d, dAF d) = _
  rw [up_same]; rfl
theorem xkN_le (C : tp_C) (g : Nat → Bool) : xkN C g ≤ cN C := by
  unfold xkN; split
  · rename_i m h; have := (fi_inv h).1; omega
  · split
    · rename_i m h; have := (fi_inv h).1; omega
    · split
      · rename_i m h; have := (fi_inv h).1; omega
      · omega
/-- the rates at the start, as the panel notes them -/
def srJ (C : tp_C) (e : md_T) (j : xj_T) (n : Nat) : xj_T := (jA j, jWf j, jNf j, jWr j, jNr j, jWn j, jNn j, pm (jSr j) n (fun m => if cK C m = 2 then suD C (dAD e 19) m else jSr j m), jOd j, jRc j, jDn j)
theorem srJ_0 (C : tp_C) (e : md_T) (j : xj_T) : j = srJ C e j 0 := by unfold srJ; rw [pm_0]; rfl
theorem srJ_2 (C : tp_C) (e : md_T) (j : xj_T) (n : Nat) (h : cK C n = 2) : sSr (srJ C e j n) n (suD C (dAD e 19) n) = srJ C e j (n + 1) := by
  show (jA j, jWf j, jNf j, jWr j, jNr j, jWn j, jNn j, vf_upd (pm (jSr j) n _) n (suD C (dAD e 19) n), jOd j, jRc j, jDn j) = _
  rw [pm_s (by rw [if_pos h])]; rfl
theorem srJ_n (C : tp_C) (e : md_T) (j : xj_T) (n : Nat) (h : ¬ cK C n = 2) : srJ C e j n = srJ C e j (n + 1) := by
  show (jA j, jWf j, jNf j, jWr j, jNr j, jWn j, jNn j, pm (jSr j) n _, jOd j, jRc j, jDn j) = _
  rw [pm_k (f := jSr j) (by rw [if_neg h])]; rfl
def xmI (C : tp_C) (j : xj_T) (m : Int32) : Int32 := if inB m (nI 0) (nI 1) then (if m = nI 1 ∧ ¬ xkN C (jRc j) = 0 then -103 else nI (cM C)) else -102
/-- what the panel is behind a mode -/
def xmP (C : tp_C) (d : md_T) (j : xj_T) (m : Int32) (C' : tp_C) (d' : md_T) (j' : xj_T) : Prop :=
  (¬ inB m (nI 0) (nI 1) = true ∧ C' = C ∧ d' = d ∧ j' = j) ∨ (m = nI 0 ∧ C' = wM C 0 ∧ d' = d ∧ j' = j) ∨ (m = nI 1 ∧ ¬ xkN C (jRc j) = 0 ∧ C' = C ∧ d' = d ∧ j' = sRcA j (xkJ C (jRc j))) ∨
  (m = nI 1 ∧ xkN C (jRc j) = 0 ∧ C' = wM C 1 ∧ d' = tsD (wM C 1) (beD (wM C 1) (c0I d (cZ C))) ∧ ∃ j1, bsP C (cN C) (sOdA (sRcA j (xkJ C (jRc j))) (orN (leF C (dAI d 10)) (cN C) (cN C + 1) (0, jOd j)).2) j1 ∧ j' = srJ C (beD (wM C 1) (c0I d (cZ C))) j1 (cN C))
theorem c0_10 (d : md_T) (n : Nat) : dAI (c0I d n) 10 = dAI d 10 := by unfold c0I; simp [sAI, dAI, va_up]
theorem leF_w (C : tp_C) (v : Nat) (f : Nat → Int32) : leF (wM C v) f = leF C f := rfl
theorem or_st {C : tp_C} {d : md_T} {j : xj_T} {g : Nat → Bool} {n : Nat} (h : orOK C (leF C (dAI d 10)) (sOdA j (orN (leF C (dAI d 10)) (cN C) (cN C + 1) (0, jOd j)).2)) : orOK (wM C 1) (leF (wM C 1) (dAI (c0I d n) 10)) (sOdA (sRcA j g) (orN (leF (wM C 1) (dAI (c0I d n) 10)) (cN (wM C 1)) (cN (wM C 1) + 1) (0, jOd (sRcA j g))).2) := by
  rw [c0_10, leF_w]
  generalize leF C (dAI d 10) = f at h ⊢
  exact h
theorem bs_st {C : tp_C} {d : md_T} {j j1 : xj_T} {g : Nat → Bool} {n : Nat} (h : bsP (wM C 1) (cN (wM C 1)) (sOdA (sRcA j g) (orN (leF (wM C 1) (dAI (c0I d n) 10)) (cN (wM C 1)) (cN (wM C 1) + 1) (0, jOd (sRcA j g))).2) j1) : bsP C (cN C) (sOdA (sRcA j g) (orN (leF C (dAI d 10)) (cN C) (cN C + 1) (0, jOd j)).2) j1 := by
  rw [c0_10, leF_w] at h
  generalize leF C (dAI d 10) = f at h ⊢
  exact h
theorem iOK_c0 {C : tp_C} {f : Nat → Int32} {d : md_T} (h : iOK C f d) (n : Nat) : iOK C f (c0I d n) := iOK_mv h rfl rfl rfl
theorem xt_X0_mode (l : Launch) (D : va_G) (dA : Nat → ClassId) (C : tp_C) (d : md_T) (j : xj_T) (m : Int32) (hC : mOK C) (hV : vOK C) (hW : vfOK C) (hDl : dlOK C) (hI : iOK C (dAI d 10) d) (hDn : dnOK j) (hap : apOK d) (h11 : ∀ m, cK C m = 11 → m < cN C) (hSm : smOK d) (hgood : xkN C (jRc j) = 0 → aOK C ∧ orOK C (leF C (dAI d 10)) (sOdA j (orN (leF C (dAI d 10)) (cN C) (cN C + 1) (0, jOd j)).2)) : xN l D dA yX0_mode cX0_mode 4 (some .int) 9 40 640 [.ref (jA j 0), .int m] C d j (fun o C' d' j' => o = some (.int (xmI C j m)) ∧ xmP C d j m C' d' j') := by
  refine xx_startN (own := RX0) (by decide) rfl (Nat.le_of_ble_eq_true rfl) ?_
  intro p0 e0 s0 mid bl0 me0 co0 ls S hr hlk G hl
  have hx := S.1; have hb := S.2.1; have hml := S.2.2.1; have hown := S.2.2.2.1; have hts := S.2.2.2.2; have hN := hC.n
  have hA : ∀ q, s0.heap.size ≤ q → xB (xA dA C d j) s0.heap.size q := fun q h => Or.inr h
  have hl : lv_has ls 4 [(0, .ref (jA j 0)), (1, .int m)] := hl
  have hMo := hC.mo
  have hZ := hC.z
  have L0 : ∀ (n_ i : Nat), i ≤ cZ C → cZ C < i + n_ → ∀ (H : Heap) (locs : List Loc) (ls : Array Slot), xG D dA (xB (xA dA C d j) s0.heap.size) (wM C 1) (c0I d i) (sRcA j (xkJ C (jRc j))) s0 H locs → lv_has ls 4 [(3, .int (nI i)), (2, .int (nI (cM C))), (0, .ref (jA j 0))] → (∀ (H : Heap) (locs : List Loc) (ls : Array Slot), xG D dA (xB (xA dA C d j) s0.heap.size) (wM C 1) (c0I d (cZ C)) (sRcA j (xkJ C (jRc j))) s0 H locs → lv_has ls 4 [(3, .int (nI (cZ C))), (2, .int (nI (cM C))), (0, .ref (jA j 0))] → W p0 l e0 (rmN 9 40 640) s0 mid ([.ref (jA j 0), .int m] : List Value).toArray bl0 me0 co0 H locs 0 0 (MQ bl0 (xQN D dA C d j s0.heap.size (fun o C' d' j' => o = some (.int (xmI C j m)) ∧ xmP C d j m C' d' j')) ([.ref (jA j 0), .int m] : List Value).toArray s0 40 640 (xB (xA dA C d j) s0.heap.size)) (F0 mid 85 ls [])) → W p0 l e0 (rmN 9 40 640) s0 mid ([.ref (jA j 0), .int m] : List Value).toArray bl0 me0 co0 H locs 0 0 (MQ bl0 (xQN D dA C d j s0.heap.size (fun o C' d' j' => o = some (.int (xmI C j m)) ∧ xmP C d j m C' d' j')) ([.ref (jA j 0), .int m] : List Value).toArray s0 40 640 (xB (xA dA C d j) s0.heap.size)) (F0 mid 64 ls []) := by
    intro n_
    induction n_ with
    | zero => intro i h1_ h2_; exact absurd h2_ (by omega)
    | succ n_ ih =>
      intro i h1_ h2_ H locs ls G hl kk
      refine lv_iload_n hx hb dX0_mode_64 rfl (lv_at hl 0 rfl) ?_
      refine lv_aload_n hx hb dX0_mode_65 rfl (lv_at hl 2 rfl) ?_
      refine xx_getP (j := (sRcA j (xkJ C (jRc j)))) S G 9 (by decide) q98 rfl (v := .int (nI (cZ C))) rfl dX0_mode_66 ?_
      refine nn_cge (tgt := 85) hx hb (by omega) (by omega) dX0_mode_69 (by decide) (fun c_69 => ?_) (fun c_69 => ?_)
      · have hiN : i = cZ C := by omega
        subst hiN
        exact kk H locs ls G (lv_sub hl [0, 1, 2] rfl)
      · refine lv_aload_n hx hb dX0_mode_72 rfl (lv_at hl 2 rfl) ?_
        refine xx_getP (j := (sRcA j (xkJ C (jRc j)))) S G 11 (by decide) q100 rfl (v := .ref (jA j 4)) rfl dX0_mode_73 ?_
        refine lv_iload_n hx hb dX0_mode_76 rfl (lv_at hl 0 rfl) ?_
        refine lv_iconst (v := nI 0) hx hb dX0_mode_77 (by decide) ?_
        refine xx_iast (j := (sRcA j (xkJ C (jRc j)))) S G (r := 4) (by decide) (xW_p (by decide) rfl) 0 rfl (i := i) (by omega) (by decide) xs_R4 dX0_mode_78 (fun H locs G => ?_)
        refine lv_iinc (v := nI (i + 1)) (lv' := [(3, .int (nI (i + 1))), (2, .int (nI (cM C))), (0, .ref (jA j 0))]) hx hb dX0_mode_79 hl (k := 0) rfl (nI_1 _) (by decide) rfl (fun ls hl => ?_)
        refine lv_goto (tgt := 64) hx hb dX0_mode_82 (by decide) ?_
        exact ih (i + 1) (by omega) (by omega) H locs ls (xG_d (xL_e rfl (by exact c0I_s d i) rfl) G) (lv_sub hl [0, 1, 2] rfl) kk
  have L1 : ∀ (j1 : xj_T) (hRe : rOK (beD (wM C 1) (c0I d (cZ C)))) (n_ i : Nat), i ≤ cN C → cN C < i + n_ → ∀ (H : Heap) (locs : List Loc) (ls : Array Slot), xG D dA (xB (xA dA C d j) s0.heap.size) (wM C 1) (beD (wM C 1) (c0I d (cZ C))) (srJ C (beD (wM C 1) (c0I d (cZ C))) j1 i) s0 H locs → lv_has ls 4 [(3, .int (nI i)), (2, .int (nI (cM C))), (0, .ref (jA j1 0))] → (∀ (H : Heap) (locs : List Loc) (ls : Array Slot), xG D dA (xB (xA dA C d j) s0.heap.size) (wM C 1) (beD (wM C 1) (c0I d (cZ C))) (srJ C (beD (wM C 1) (c0I d (cZ C))) j1 (cN C)) s0 H locs → lv_has ls 4 [(3, .int (nI (cN C))), (2, .int (nI (cM C))), (0, .ref (jA j1 0))] → W p0 l e0 (rmN 9 40 640) s0 mid ([.ref (jA j 0), .int m] : List Value).toArray bl0 me0 co0 H locs (0 + 40) (0 + 640) (MQ bl0 (xQN D dA C d j s0.heap.size (fun o C' d' j' => o = some (.int (xmI C j m)) ∧ xmP C d j m C' d' j')) ([.ref (jA j 0), .int m] : List Value).toArray s0 40 640 (xB (xA dA C d j) s0.heap.size)) (F0 mid 139 ls [])) → W p0 l e0 (rmN 9 40 640) s0 mid ([.ref (jA j 0), .int m] : List Value).toArray bl0 me0 co0 H locs (0 + 40) (0 + 640) (MQ bl0 (xQN D dA C d j s0.heap.size (fun o C' d' j' => o = some (.int (xmI C j m)) ∧ xmP C d j m C' d' j')) ([.ref (jA j 0), .int m] : List Value).toArray s0 40 640 (xB (xA dA C d j) s0.heap.size)) (F0 mid 91 ls []) := by
    intro j1 hRe n_
    induction n_ with
    | zero => intro i h1_ h2_; exact absurd h2_ (by omega)
    | succ n_ ih =>
      intro i h1_ h2_ H locs ls G hl kk
      have hk14 := hC.k i
      have hC1 : mOK (wM C 1) := mOK_wM hC (by decide)
      refine lv_iload_n hx hb dX0_mode_91 rfl (lv_at hl 0 rfl) ?_
      refine lv_aload_n hx hb dX0_mode_92 rfl (lv_at hl 2 rfl) ?_
      refine xx_getP (j := (srJ C (beD (wM C 1) (c0I d (cZ C))) j1 i)) S G 1 (by decide) q90 rfl (v := .int (nI (cN C))) rfl dX0_mode_93 ?_
      refine nn_cge (tgt := 139) hx hb (by omega) (by omega) dX0_mode_96 (by decide) (fun c_96 => ?_) (fun c_96 => ?_)
      · have hiN : i = cN C := by omega
        subst hiN
        exact kk H locs ls G (lv_sub hl [0, 1, 2] rfl)
      · refine lv_aload_n hx hb dX0_mode_99 rfl (lv_at hl 2 rfl) ?_
        refine xx_getP (j := (srJ C (beD (wM C 1) (c0I d (cZ C))) j1 i)) S G 0 (by decide) q89 rfl (v := .ref (jA j1 1)) rfl dX0_mode_100 ?_
        refine lv_iload_n hx hb dX0_mode_103 rfl (lv_at hl 0 rfl) ?_
        refine xx_aald (j := (srJ C (beD (wM C 1) (c0I d (cZ C))) j1 i)) S G (r := 1) (by decide) (xW_p (by decide) rfl) (i := i) (by omega) (by decide) (o := some (jA j1 (xr i 0))) (if_pos (show i < cN C by omega)) dX0_mode_104 ?_
        refine W.eq (g2 := F0 mid 105 ls [.ref (jA j1 (xr i 0))]) rfl ?_
        refine xx_get11 (j := (srJ C (beD (wM C 1) (c0I d (cZ C))) j1 i)) S G (mm := i) (show i < cN C by omega) hN (hC.k _) 0 (by decide) q203 rfl (v := .int (nI (cK C i))) rfl dX0_mode_105 ?_
        refine lv_iconst (v := nI 2) hx hb dX0_mode_108 (by decide) ?_
        refine nn_cne (tgt := 133) hx hb (by omega) (by omega) dX0_mode_109 (by decide) (fun c_109 => ?_) (fun c_109 => ?_)
        · refine lv_iinc (v := nI (i + 1)) (lv' := [(3, .int (nI (i + 1))), (2, .int (nI (cM C))), (0, .ref (jA j1 0))]) hx hb dX0_mode_133 hl (k := 0) rfl (nI_1 _) (by decide) rfl (fun ls hl => ?_)
          refine lv_goto (tgt := 91) hx hb dX0_mode_136 (by decide) ?_
          exact ih (i + 1) (by omega) (by omega) H locs ls (xG_d (by exact xL_e rfl rfl (srJ_n C (beD (wM C 1) (c0I d (cZ C))) j1 i c_109)) G) (lv_sub hl [0, 1, 2] rfl) kk
        · have c109 : cK (wM C 1) i = 2 := c_109
          refine lv_aload_n hx hb dX0_mode_112 rfl (lv_at hl 2 rfl) ?_
          refine xx_getP (j := (srJ C (beD (wM C 1) (c0I d (cZ C))) j1 i)) S G 0 (by decide) q89 rfl (v := .ref (jA j1 1)) rfl dX0_mode_113 ?_
          refine lv_iload_n hx hb dX0_mode_116 rfl (lv_at hl 0 rfl) ?_
          refine xx_aald (j := (srJ C (beD (wM C 1) (c0I d (cZ C))) j1 i)) S G (r := 1) (by decide) (xW_p (by decide) rfl) (i := i) (by omega) (by decide) (o := some (jA j1 (xr i 0))) (if_pos (show i < cN C by omega)) dX0_mode_117 ?_
          refine W.eq (g2 := F0 mid 118 ls [.ref (jA j1 (xr i 0))]) rfl ?_
          refine xx_cast (j := (srJ C (beD (wM C 1) (c0I d (cZ C))) j1 i)) S G (mm := i) (show i < cN C by omega) hN (hC.k _) (by rw [c109]; exact q275) dX0_mode_118 ?_
          refine lv_aload_n hx hb dX0_mode_121 rfl (lv_at hl 2 rfl) ?_
          refine xx_getP (j := (srJ C (beD (wM C 1) (c0I d (cZ C))) j1 i)) S G 0 (by decide) q89 rfl (v := .ref (jA j1 1)) rfl dX0_mode_122 ?_
          refine lv_iload_n hx hb dX0_mode_125 rfl (lv_at hl 0 rfl) ?_
          refine xx_aald (j := (srJ C (beD (wM C 1) (c0I d (cZ C))) j1 i)) S G (r := 1) (by decide) (xW_p (by decide) rfl) (i := i) (by omega) (by decide) (o := some (jA j1 (xr i 0))) (if_pos (show i < cN C by omega)) dX0_mode_126 ?_
          refine W.eq (g2 := F0 mid 127 ls [.ref (jA j1 (xr i 0)), .ref (jA j1 (xr i 0))]) rfl ?_
          refine xx_callM (j := (srJ C (beD (wM C 1) (c0I d (cZ C))) j1 i)) (mm := i) (As := []) (rest := [.ref (jA j1 (xr i 0))]) S G (show i < cN C by omega) hN (hC.k _) (xt_X2_wideSum l D dA (wM C 1) (beD (wM C 1) (c0I d (cZ C))) (srJ C (beD (wM C 1) (c0I d (cZ C))) j1 i) i (mOK_wM hC (by decide)) (show i < cN C by omega) hRe.rd) (xx_cw hts q1005 q1795 (se_wideSum (hC.k _)) q845 q58 q846 rfl hu_Module_wideSum ⟨Nat.le_of_ble_eq_true rfl, Nat.le_of_ble_eq_true rfl⟩) rfl hl.1 rfl (Nat.le_of_ble_eq_true rfl) dX0_mode_127 ⟨(show 0 + 40 ≤ 40 by omega), (show 0 + 640 ≤ 640 by omega)⟩ (fun H locs G => ?_)
          refine W.eq (g2 := F0 mid 130 ls [.double (suD (wM C 1) (dAD (beD (wM C 1) (c0I d (cZ C))) 19) i), .ref (jA j1 (xr i 0))]) rfl ?_
          refine xx_putM (j := (srJ C (beD (wM C 1) (c0I d (cZ C))) j1 i)) S G (mm := i) (ref := "TwinPanel$Gather") (show i < cN C by omega) hN (hC.k _) 17 (by rw [c109]; decide) (by rw [c109]; exact hts _ q288) (by rw [c109]; exact fun x h => h) (by rw [c109]; rfl) (by rw [c109]; rfl) (by rw [c109]; rfl) (xs_Sr2 c109 (show i < cN C by omega)) dX0_mode_130 (fun H locs G => ?_)
          refine lv_iinc (v := nI (i + 1)) (lv' := [(3, .int (nI (i + 1))), (2, .int (nI (cM C))), (0, .ref (jA j1 0))]) hx hb dX0_mode_133 hl (k := 0) rfl (nI_1 _) (by decide) rfl (fun ls hl => ?_)
          refine lv_goto (tgt := 91) hx hb dX0_mode_136 (by decide) ?_
          exact ih (i + 1) (by omega) (by omega) H locs ls (xG_d (by exact xL_e rfl rfl (srJ_2 C (beD (wM C 1) (c0I d (cZ C))) j1 i c_109)) G) (lv_sub hl [0, 1, 2] rfl) kk
  refine lv_iload_n hx hb dX0_mode_0 rfl (lv_at hl 1 rfl) ?_
  refine lv_iconst (v := nI 0) hx hb dX0_mode_1 (by decide) ?_
  refine lv_iconst (v := nI 1) hx hb dX0_mode_2 (by decide) ?_
  refine sC_call (As := [.int m, .int (nI 0), .int (nI 1)]) (rest := []) S (st_X0_isIn l m (nI 0) (nI 1)) q149 q150 q52 q151 hd_X0_isIn ⟨Nat.le_of_ble_eq_true rfl, Nat.le_of_ble_eq_true rfl⟩ rfl hl.1 rfl (Nat.le_of_ble_eq_true rfl) dX0_mode_3 ⟨(show 0 ≤ 40 by omega), (show 0 ≤ 640 by omega)⟩ ?_
  refine W.eq (g2 := F0 mid 6 ls [.int (bI (inB m (nI 0) (nI 1)))]) rfl ?_
  refine bb_ne (tgt := 12) hx hb dX0_mode_6 (by decide) (fun c_6 => ?_) (fun c_6 => ?_)
  · obtain ⟨v, -, hv1, rfl⟩ := in_nat c_6 (by decide) (by decide)
    have ij_v : ixN (nI v) = v := ixN_nI (by omega)
    refine lv_iload_n hx hb dX0_mode_12 rfl (lv_at hl 1 rfl) ?_
    refine lv_iconst (v := nI 1) hx hb dX0_mode_13 (by decide) ?_
    refine nn_cne (tgt := 47) hx hb (by omega) (by omega) dX0_mode_14 (by decide) (fun c_14 => ?_) (fun c_14 => ?_)
    · obtain rfl : v = 0 := by omega
      refine lv_aload_n hx hb dX0_mode_47 rfl (lv_at hl 0 rfl) ?_
      refine xx_getP S G 2 (by decide) q91 rfl (v := .int (nI (cM C))) rfl dX0_mode_48 ?_
      refine lv_istore_n (lv' := [(2, .int (nI (cM C))), (0, .ref (jA j 0)), (1, .int (nI 0))]) hx hb dX0_mode_51 rfl hl (by decide) rfl (fun ls hl => ?_)
      refine lv_aload_n hx hb dX0_mode_52 rfl (lv_at hl 1 rfl) ?_
      refine lv_iload_n hx hb dX0_mode_53 rfl (lv_at hl 2 rfl) ?_
      refine xx_putP S G 2 (by decide) q91 rfl rfl rfl rfl xs_P2 dX0_mode_54 (fun H locs G => ?_)
      refine lv_iload_n hx hb dX0_mode_57 rfl (lv_at hl 2 rfl) ?_
      refine lv_iconst (v := nI 1) hx hb dX0_mode_58 (by decide) ?_
      refine lv_icmp_ne (tgt := 143) hx hb dX0_mode_59 (by decide) (fun _ => ?_) (fun c_ => absurd c_ (by decide))
      refine lv_iload_n hx hb dX0_mode_143 rfl (lv_at hl 0 rfl) ?_
      exact xx_iretN S hr hlk G (by omega) (by omega) ⟨by simp [xmI, c_6, show ¬ nI 0 = nI 1 from by decide], Or.inr (Or.inl ⟨rfl, rfl, rfl, rfl⟩)⟩ dX0_mode_144
    · subst c_14
      have hx1 := xkN_le C (jRc j)
      refine lv_aload_n hx hb dX0_mode_17 rfl (lv_at hl 0 rfl) ?_
      refine xx_getP S G 7 (by decide) q96 rfl (v := .int (dI d 16)) rfl dX0_mode_18 ?_
      refine lv_istore_n (lv' := [(2, .int (dI d 16)), (0, .ref (jA j 0)), (1, .int (nI 1))]) hx hb dX0_mode_21 rfl hl (by decide) rfl (fun ls hl => ?_)
      refine lv_aload_n hx hb dX0_mode_22 rfl (lv_at hl 1 rfl) ?_
      refine xx_callP (As := []) (rest := []) S G (xt_X0_checked l D dA C d j hC) q620 q622 qs1 q623 hd_X0_checked ⟨Nat.le_of_ble_eq_true rfl, Nat.le_of_ble_eq_true rfl⟩ rfl hl.1 rfl (Nat.le_of_ble_eq_true rfl) dX0_mode_23 ⟨(show 0 ≤ 40 by omega), (show 0 ≤ 640 by omega)⟩ (fun H locs G => ?_)
      refine W.eq (g2 := F0 mid 26 ls [.int (nI (xkN C (jRc j)))]) rfl ?_
      refine nz_ne (tgt := 33) hx hb (by omega) dX0_mode_26 (by decide) (fun c_26 => ?_) (fun c_26 => ?_)
      · have hx0 : ¬ xkN C (jRc j) = 0 := c_26
        refine lv_iconst (v := nI 0) hx hb dX0_mode_33 (by decide) ?_
        refine lv_istore_n (lv' := [(3, .int (nI 0)), (2, .int (dI d 16)), (0, .ref (jA j 0)), (1, .int (nI 1))]) hx hb dX0_mode_34 rfl hl (by decide) rfl (fun ls hl => ?_)
        refine lv_aload_n hx hb dX0_mode_35 rfl (lv_at hl 2 rfl) ?_
        refine lv_iload_n hx hb dX0_mode_36 rfl (lv_at hl 1 rfl) ?_
        refine xx_putP (j := (sRcA j (xkJ C (jRc j)))) S G 7 (by decide) q96 rfl rfl rfl rfl xs_P7 dX0_mode_37 (fun H locs G => ?_)
        have G : xG D dA (xB (xA dA C d j) s0.heap.size) C d (sRcA j (xkJ C (jRc j))) s0 H locs := xG_d (xL_e rfl (by rw [uI_uI, uI_id]) rfl) G
        refine lv_iload_n hx hb dX0_mode_40 rfl (lv_at hl 0 rfl) ?_
        refine lv_if_ne (tgt := 47) hx hb dX0_mode_41 (by decide) (fun c_ => absurd c_ (by decide)) (fun _ => ?_)
        refine lv_bipush (v := (-103)) hx hb dX0_mode_44 (by decide) ?_
        exact xx_iretN S hr hlk G (by omega) (by omega) ⟨by simp [xmI, c_6, hx0], Or.inr (Or.inr (Or.inl ⟨rfl, hx0, rfl, rfl, rfl⟩))⟩ dX0_mode_46
      · have hx0 : xkN C (jRc j) = 0 := by omega
        refine lv_iconst (v := nI 1) hx hb dX0_mode_29 (by decide) ?_
        refine lv_goto (tgt := 34) hx hb dX0_mode_30 (by decide) ?_
        refine lv_istore_n (lv' := [(3, .int (nI 1)), (2, .int (dI d 16)), (0, .ref (jA j 0)), (1, .int (nI 1))]) hx hb dX0_mode_34 rfl hl (by decide) rfl (fun ls hl => ?_)
        refine lv_aload_n hx hb dX0_mode_35 rfl (lv_at hl 2 rfl) ?_
        refine lv_iload_n hx hb dX0_mode_36 rfl (lv_at hl 1 rfl) ?_
        refine xx_putP (j := (sRcA j (xkJ C (jRc j)))) S G 7 (by decide) q96 rfl rfl rfl rfl xs_P7 dX0_mode_37 (fun H locs G => ?_)
        have G : xG D dA (xB (xA dA C d j) s0.heap.size) C d (sRcA j (xkJ C (jRc j))) s0 H locs := xG_d (xL_e rfl (by rw [uI_uI, uI_id]) rfl) G
        refine lv_iload_n hx hb dX0_mode_40 rfl (lv_at hl 0 rfl) ?_
        refine lv_if_ne (tgt := 47) hx hb dX0_mode_41 (by decide) (fun _ => ?_) (fun c_ => absurd c_ (by decide))
        refine lv_aload_n hx hb dX0_mode_47 rfl (lv_at hl 2 rfl) ?_
        refine xx_getP (j := (sRcA j (xkJ C (jRc j)))) S G 2 (by decide) q91 rfl (v := .int (nI (cM C))) rfl dX0_mode_48 ?_
        refine lv_istore_n (lv' := [(2, .int (nI (cM C))), (3, .int (nI 1)), (0, .ref (jA j 0)), (1, .int (nI 1))]) hx hb dX0_mode_51 rfl hl (by decide) rfl (fun ls hl => ?_)
        refine lv_aload_n hx hb dX0_mode_52 rfl (lv_at hl 2 rfl) ?_
        refine lv_iload_n hx hb dX0_mode_53 rfl (lv_at hl 3 rfl) ?_
        refine xx_putP (j := (sRcA j (xkJ C (jRc j)))) S G 2 (by decide) q91 rfl rfl rfl rfl xs_P2 dX0_mode_54 (fun H locs G => ?_)
        refine lv_iload_n hx hb dX0_mode_57 rfl (lv_at hl 3 rfl) ?_
        refine lv_iconst (v := nI 1) hx hb dX0_mode_58 (by decide) ?_
        refine lv_icmp_ne (tgt := 143) hx hb dX0_mode_59 (by decide) (fun c_ => absurd c_ (by decide)) (fun _ => ?_)
        refine lv_iconst (v := nI 0) hx hb dX0_mode_62 (by decide) ?_
        refine lv_istore_n (lv' := [(3, .int (nI 0)), (2, .int (nI (cM C))), (0, .ref (jA j 0)), (1, .int (nI 1))]) hx hb dX0_mode_63 rfl hl (by decide) rfl (fun ls hl => ?_)
        refine L0 (cZ C + 1) 0 (by omega) (by omega) _ _ ls (xG_d (xL_e rfl (by exact (c0I_0 d).symm) rfl) G) (lv_sub hl [0, 1, 2] rfl) (fun H locs ls G hl => ?_)
        refine lv_aload_n hx hb dX0_mode_85 rfl (lv_at hl 2 rfl) ?_
        obtain ⟨hAA, hOO⟩ := hgood hx0
        refine xx_callPN (j := (sRcA j (xkJ C (jRc j)))) (As := []) (rest := []) S G hA (xt_X0_start l D dA (wM C 1) (c0I d (cZ C)) (sRcA j (xkJ C (jRc j))) (mOK_wM hC (by decide)) (vOK_w C 1 hV) hW (aOK_w C 1 hAA) hDl (show iOK (wM C 1) (dAI (c0I d (cZ C)) 10) (c0I d (cZ C)) from by rw [c0_10]; exact iOK_c0 hI (cZ C)) hDn (fun k => hap k) h11 (or_st hOO)) q681 q683 qs5 q684 hd_X0_start ⟨Nat.le_of_ble_eq_true rfl, Nat.le_of_ble_eq_true rfl⟩ rfl hl.1 rfl (Nat.le_of_ble_eq_true rfl) dX0_mode_86 ⟨(show 0 + 40 ≤ 40 by omega), (show 0 + 640 ≤ 640 by omega)⟩ (fun o_ C_ d_ j1 H locs hp G _ _ _ => ?_)
        obtain ⟨rfl, rfl, rfl, hbs⟩ := hp
        have hbs := bs_st hbs
        have hA1 : jA j1 0 = jA j 0 := hbs.1 0 (by decide)
        rw [← hA1] at hl
        have iE : iOK (wM C 1) (leF (wM C 1) (dAI (c0I d (cZ C)) 10)) (beD (wM C 1) (c0I d (cZ C))) := iOK_be (f := dAI d 10) (mOK_wM hC (by decide)) (vOK_w C 1 hV) hW (aOK_w C 1 hAA) (iOK_c0 hI (cZ C))
        have a39 : dAI (beD (wM C 1) (c0I d (cZ C))) 39 = dAI (c0I d (cZ C)) 39 := be_A _ _ (by decide) (by decide) (by decide)
        refine W.eq (g2 := F0 mid 89 ls []) rfl ?_
        refine lv_iconst (v := nI 0) hx hb dX0_mode_89 (by decide) ?_
        refine lv_istore_n (lv' := [(3, .int (nI 0)), (2, .int (nI (cM C))), (0, .ref (jA j1 0))]) hx hb dX0_mode_90 rfl hl (by decide) rfl (fun ls hl => ?_)
        refine L1 j1 iE.r (cN C + 1) 0 (by omega) (by omega) _ _ ls (xG_d (by exact xL_e rfl rfl (srJ_0 C (beD (wM C 1) (c0I d (cZ C))) j1)) G) (lv_sub hl [0, 1, 2] rfl) (fun H locs ls G hl => ?_)
        refine lv_aload_n hx hb dX0_mode_139 rfl (lv_at hl 2 rfl) ?_
        refine xx_callP (j := (srJ C (beD (wM C 1) (c0I d (cZ C))) j1 (cN C))) (As := []) (rest := []) S G (xt_X0_sample l D dA (wM C 1) (beD (wM C 1) (c0I d (cZ C))) (srJ C (beD (wM C 1) (c0I d (cZ C))) j1 (cN C)) (mOK_wM hC (by decide)) (sm_mv (c0_sm hSm (cZ C)) a39) (fun s hs => by show ixN (dAI (beD (wM C 1) (c0I d (cZ C))) 39 s) < 120; rw [a39]; have := c0_cnt (d := d) (n := cZ C) hs; unfold cntN at this; rw [this]; decide)) q1006 q1008 qs8 q1009 hd_X0_sample ⟨Nat.le_of_ble_eq_true rfl, Nat.le_of_ble_eq_true rfl⟩ rfl hl.1 rfl (Nat.le_of_ble_eq_true rfl) dX0_mode_140 ⟨(show 0 + 40 ≤ 40 by omega), (show 0 + 640 ≤ 640 by omega)⟩ (fun H locs G => ?_)
        refine W.eq (g2 := F0 mid 143 ls []) rfl ?_
        refine lv_iload_n hx hb dX0_mode_143 rfl (lv_at hl 1 rfl) ?_
        exact xx_iretN S hr hlk G (by omega) (by omega) ⟨by simp [xmI, c_6, hx0], Or.inr (Or.inr (Or.inr ⟨rfl, hx0, rfl, rfl, j1, hbs, rfl⟩))⟩ dX0_mode_144
  · refine lv_bipush (v := (-102)) hx hb dX0_mode_9 (by decide) ?_
    exact xx_iretN S hr hlk G (by omega) (by omega) ⟨by simp [xmI, c_6], Or.inl ⟨by simp [c_6], rfl, rfl, rfl⟩⟩ dX0_mode_11
