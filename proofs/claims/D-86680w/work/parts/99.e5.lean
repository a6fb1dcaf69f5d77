set_option maxRecDepth 100000
set_option maxHeartbeats 4000000
theorem dX0_halved_0 : decode cX0_halved 0 = .ok (.aload_n 0, 1) := by decide +kernel
theorem dX0_halved_1 : decode cX0_halved 1 = .ok (.iload_n 1, 1) := by decide +kernel
theorem dX0_halved_2 : decode cX0_halved 2 = .ok (.invokevirtual 138, 3) := by decide +kernel
theorem dX0_halved_5 : decode cX0_halved 5 = .ok (.ifCond .eq 20, 3) := by decide +kernel
theorem dX0_halved_8 : decode cX0_halved 8 = .ok (.iload_n 2, 1) := by decide +kernel
theorem dX0_halved_9 : decode cX0_halved 9 = .ok (.iconst 1, 1) := by decide +kernel
theorem dX0_halved_10 : decode cX0_halved 10 = .ok (.bipush 20, 2) := by decide +kernel
theorem dX0_halved_12 : decode cX0_halved 12 = .ok (.invokestatic 94, 3) := by decide +kernel
theorem dX0_halved_15 : decode cX0_halved 15 = .ok (.ifCond .eq 10, 3) := by decide +kernel
theorem dX0_halved_18 : decode cX0_halved 18 = .ok (.aload_n 0, 1) := by decide +kernel
theorem dX0_halved_19 : decode cX0_halved 19 = .ok (.getfield 88, 3) := by decide +kernel
theorem dX0_halved_22 : decode cX0_halved 22 = .ok (.ifCond .ne 5, 3) := by decide +kernel
theorem dX0_halved_25 : decode cX0_halved 25 = .ok (.lconst 0, 1) := by decide +kernel
theorem dX0_halved_26 : decode cX0_halved 26 = .ok (.lreturn, 1) := by decide +kernel
theorem dX0_halved_27 : decode cX0_halved 27 = .ok (.aload_n 0, 1) := by decide +kernel
theorem dX0_halved_28 : decode cX0_halved 28 = .ok (.invokevirtual 323, 3) := by decide +kernel
theorem dX0_halved_31 : decode cX0_halved 31 = .ok (.astore_n 3, 1) := by decide +kernel
theorem dX0_halved_32 : decode cX0_halved 32 = .ok (.aload_n 0, 1) := by decide +kernel
theorem dX0_halved_33 : decode cX0_halved 33 = .ok (.invokevirtual 323, 3) := by decide +kernel
theorem dX0_halved_36 : decode cX0_halved 36 = .ok (.astore 4, 2) := by decide +kernel
theorem dX0_halved_38 : decode cX0_halved 38 = .ok (.aload_n 3, 1) := by decide +kernel
theorem dX0_halved_39 : decode cX0_halved 39 = .ok (.invokevirtual 255, 3) := by decide +kernel
theorem dX0_halved_42 : decode cX0_halved 42 = .ok (.aload 4, 2) := by decide +kernel
theorem dX0_halved_44 : decode cX0_halved 44 = .ok (.invokevirtual 255, 3) := by decide +kernel
theorem dX0_halved_47 : decode cX0_halved 47 = .ok (.aload_n 0, 1) := by decide +kernel
theorem dX0_halved_48 : decode cX0_halved 48 = .ok (.getfield 59, 3) := by decide +kernel
theorem dX0_halved_51 : decode cX0_halved 51 = .ok (.invokestatic 270, 3) := by decide +kernel
theorem dX0_halved_54 : decode cX0_halved 54 = .ok (.dstore 5, 2) := by decide +kernel
theorem dX0_halved_56 : decode cX0_halved 56 = .ok (.dconst 0, 1) := by decide +kernel
theorem dX0_halved_57 : decode cX0_halved 57 = .ok (.dstore 7, 2) := by decide +kernel
theorem dX0_halved_59 : decode cX0_halved 59 = .ok (.iconst 0, 1) := by decide +kernel
theorem dX0_halved_60 : decode cX0_halved 60 = .ok (.istore 9, 2) := by decide +kernel
theorem dX0_halved_62 : decode cX0_halved 62 = .ok (.iload 9, 2) := by decide +kernel
theorem dX0_halved_64 : decode cX0_halved 64 = .ok (.iload_n 2, 1) := by decide +kernel
theorem dX0_halved_65 : decode cX0_halved 65 = .ok (.if_icmp .ge 67, 3) := by decide +kernel
theorem dX0_halved_68 : decode cX0_halved 68 = .ok (.aload_n 3, 1) := by decide +kernel
theorem dX0_halved_69 : decode cX0_halved 69 = .ok (.dload 5, 2) := by decide +kernel
theorem dX0_halved_71 : decode cX0_halved 71 = .ok (.invokevirtual 278, 3) := by decide +kernel
theorem dX0_halved_74 : decode cX0_halved 74 = .ok (.aload 4, 2) := by decide +kernel
theorem dX0_halved_76 : decode cX0_halved 76 = .ok (.dload 5, 2) := by decide +kernel
theorem dX0_halved_78 : decode cX0_halved 78 = .ok (.ldc2_w 237, 3) := by decide +kernel
theorem dX0_halved_81 : decode cX0_halved 81 = .ok (.ddiv, 1) := by decide +kernel
theorem dX0_halved_82 : decode cX0_halved 82 = .ok (.invokevirtual 278, 3) := by decide +kernel
theorem dX0_halved_85 : decode cX0_halved 85 = .ok (.aload 4, 2) := by decide +kernel
theorem dX0_halved_87 : decode cX0_halved 87 = .ok (.dload 5, 2) := by decide +kernel
theorem dX0_halved_89 : decode cX0_halved 89 = .ok (.ldc2_w 237, 3) := by decide +kernel
theorem dX0_halved_92 : decode cX0_halved 92 = .ok (.ddiv, 1) := by decide +kernel
theorem dX0_halved_93 : decode cX0_halved 93 = .ok (.invokevirtual 278, 3) := by decide +kernel
theorem dX0_halved_96 : decode cX0_halved 96 = .ok (.dload 7, 2) := by decide +kernel
theorem dX0_halved_98 : decode cX0_halved 98 = .ok (.aload_n 3, 1) := by decide +kernel
theorem dX0_halved_99 : decode cX0_halved 99 = .ok (.getfield 55, 3) := by decide +kernel
theorem dX0_halved_102 : decode cX0_halved 102 = .ok (.iload_n 1, 1) := by decide +kernel
theorem dX0_halved_103 : decode cX0_halved 103 = .ok (.aaload, 1) := by decide +kernel
theorem dX0_halved_104 : decode cX0_halved 104 = .ok (.getfield 252, 3) := by decide +kernel
theorem dX0_halved_107 : decode cX0_halved 107 = .ok (.aload 4, 2) := by decide +kernel
theorem dX0_halved_109 : decode cX0_halved 109 = .ok (.getfield 55, 3) := by decide +kernel
theorem dX0_halved_112 : decode cX0_halved 112 = .ok (.iload_n 1, 1) := by decide +kernel
theorem dX0_halved_113 : decode cX0_halved 113 = .ok (.aaload, 1) := by decide +kernel
theorem dX0_halved_114 : decode cX0_halved 114 = .ok (.getfield 252, 3) := by decide +kernel
theorem dX0_halved_117 : decode cX0_halved 117 = .ok (.dsub, 1) := by decide +kernel
theorem dX0_halved_118 : decode cX0_halved 118 = .ok (.invokestatic 318, 3) := by decide +kernel
theorem dX0_halved_121 : decode cX0_halved 121 = .ok (.invokestatic 330, 3) := by decide +kernel
theorem dX0_halved_124 : decode cX0_halved 124 = .ok (.dstore 7, 2) := by decide +kernel
theorem dX0_halved_126 : decode cX0_halved 126 = .ok (.iinc 9 1, 3) := by decide +kernel
theorem dX0_halved_129 : decode cX0_halved 129 = .ok (.goto (-67), 3) := by decide +kernel
theorem dX0_halved_132 : decode cX0_halved 132 = .ok (.dload 7, 2) := by decide +kernel
theorem dX0_halved_134 : decode cX0_halved 134 = .ok (.invokestatic 288, 3) := by decide +kernel
theorem dX0_halved_137 : decode cX0_halved 137 = .ok (.lreturn, 1) := by decide +kernel
theorem hd_X0_twin : yX0_twin.cls = RX0 ∧ yX0_twin.cls ≠ "java/lang/invoke/MethodHandle" ∧ yX0_twin.cls ≠ "java/lang/invoke/VarHandle" ∧ (parseMethodDescriptor yX0_twin.desc).map (fun d => d.parameters.length) = some 0 := by decide +kernel
theorem tw_mOK {C : tp_C} (h : mOK C) : mOK (twC C) := ⟨h.1, h.2.1, h.2.2.1, h.2.2.2.1, fun m => Nat.zero_le _, Nat.zero_le _, h.2.2.2.2.2.2.1, h.2.2.2.2.2.2.2.1, Nat.zero_le _, fun s hs => absurd hs (Nat.not_lt_zero _), Nat.zero_le _⟩
theorem xt_X0_halved (l : Launch) (D : va_G) (dA : Nat → ClassId) (C : tp_C) (d : md_T) (j : xj_T) (q : Int32) (n : Int32) (hC : mOK C) (hV : vOK C) (hW : vfOK C) (hA_ : (¬ cM C = 0 → aOK C)) (hDl : dlOK C) (h11 : ∀ m, cK C m = 11 → m < cN C) (hfC : fdC C) (hfE : fdE C) (hOG_ : (¬ cM C = 0 → orG (twC C))) : xN l D dA yX0_halved cX0_halved 10 (some .long) 10 338 5030 [.ref (jA j 0), .int q, .int n] C d j (fun o C' d' j' => o = some (.long (xhL C q n)) ∧ C' = C ∧ d' = d ∧ j' = j) := by
  refine xx_startN (own := RX0) (by decide) rfl (Nat.le_of_ble_eq_true rfl) ?_
  intro p0 e0 s0 mid bl0 me0 co0 ls S hr hlk G hl
  have hx := S.1; have hb := S.2.1; have hml := S.2.2.1; have hown := S.2.2.2.1; have hts := S.2.2.2.2; have hN := hC.n
  have hA : ∀ q, s0.heap.size ≤ q → xB (xA dA C d j) s0.heap.size q := fun q h => Or.inr h
  have hl : lv_has ls 10 [(0, .ref (jA j 0)), (1, .int q), (2, .int n)] := hl
  have hC0 := tw_mOK hC
  have hV0 : vOK (twC C) := hV
  have hW0 : vfOK (twC C) := hW
  have hDl0 : dlOK (twC C) := hDl
  have h110 : ∀ m, cK (twC C) m = 11 → m < cN (twC C) := h11
  have hH := hC.hv
  have hMo := hC.mo
  have ht1 : tOK (hvT (cH C)) := hv_ok (by omega)
  have ht2 : tOK (hf_ (hvT (cH C))) := hv_ok (k := cH C + 1) (by omega)
  have ht3 : tOK (hf_ (hf_ (hvT (cH C)))) := hv_ok (k := cH C + 1 + 1) (by omega)
  have hh2 : FP.fdiv (FP.d2f (hf_ (hvT (cH C)))) FP.fconst2 = FP.d2f (hf_ (hf_ (hvT (cH C)))) := hv_h (k := cH C + 1) (by omega)
  have L1 : ∀ (q1 n1 : Nat) (hq1 : q1 < cN C) (hn1 : n1 ≤ 20) (hres : (xhN C q1 n1).toInt64 = xhL C q n) (hA0 : aOK (twC C)) (f : Nat → Int32) (n_ i : Nat) (jp jq : xj_T), i ≤ n1 → n1 < i + n_ → apV (xhN C q1 i) → twI (twC C) f (xtN (twC C) (hvT (cH C)) i) jp → twI (twC C) f (xtN (twC C) (hf_ (hvT (cH C))) (2 * i)) jq → (∀ q, xA dA C d j q → ¬ xA dA (twC C) (xtN (twC C) (hvT (cH C)) i) jp q) → (∀ q, xA dA C d j q → ¬ xA dA (twC C) (xtN (twC C) (hf_ (hvT (cH C))) (2 * i)) jq q) → (∀ q, xA dA (twC C) (xtN (twC C) (hf_ (hvT (cH C))) (2 * i)) jq q → ¬ xA dA (twC C) (xtN (twC C) (hvT (cH C)) i) jp q) → ∀ (H : Heap) (locs : List Loc) (ls : Array Slot), xG D dA (xB (xA dA C d j) s0.heap.size) C d j s0 H locs → xG D dA (xB (xA dA C d j) s0.heap.size) (twC C) (xtN (twC C) (hvT (cH C)) i) jp s0 H locs → xG D dA (xB (xA dA C d j) s0.heap.size) (twC C) (xtN (twC C) (hf_ (hvT (cH C))) (2 * i)) jq s0 H locs → lv_has ls 10 [(9, .int (nI i)), (7, .double (xhN C q1 i)), (5, .double (hvT (cH C))), (4, .ref (jA jq 0)), (3, .ref (jA jp 0)), (2, .int (nI n1)), (1, .int (nI q1)), (0, .ref (jA j 0))] → W p0 l e0 (rmN 10 338 5030) s0 mid ([.ref (jA j 0), .int q, .int n] : List Value).toArray bl0 me0 co0 H locs 338 5030 (MQ bl0 (xQN D dA C d j s0.heap.size (fun o C' d' j' => o = some (.long (xhL C q n)) ∧ C' = C ∧ d' = d ∧ j' = j)) ([.ref (jA j 0), .int q, .int n] : List Value).toArray s0 338 5030 (xB (xA dA C d j) s0.heap.size)) (F0 mid 62 ls []) := by
    intro q1 n1 hq1 hn1 hres hA0 f n_
    induction n_ with
    | zero => intro i jp jq h1_ h2_; exact absurd h2_ (by omega)
    | succ n_ ih =>
      intro i jp jq h1_ h2_ hap tp tq d1 d2 d3 H locs ls G Gp Gq hl
      refine lv_iload hx hb dX0_halved_62 (lv_at hl 0 rfl) ?_
      refine lv_iload_n hx hb dX0_halved_64 rfl (lv_at hl 5 rfl) ?_
      refine nn_cge (tgt := 132) hx hb (by omega) (by omega) dX0_halved_65 (by decide) (fun c_65 => ?_) (fun c_65 => ?_)
      · refine lv_dload hx hb dX0_halved_132 (lv_at hl 1 rfl) ?_
        refine sC_call (As := [.double (xhN C q1 i)]) (rest := []) S (st_J0_doubleToLongBits l (xhN C q1 i) (bD_n hap.1)) q1155 q1156 q55 q1157 hd_J0_doubleToLongBits ⟨Nat.le_of_ble_eq_true rfl, Nat.le_of_ble_eq_true rfl⟩ rfl hl.1 rfl (Nat.le_of_ble_eq_true rfl) dX0_halved_134 ⟨(show 338 ≤ 338 by omega), (show 5030 ≤ 5030 by omega)⟩ ?_
        refine W.eq (g2 := F0 mid 137 ls [.long (((xhN C q1 i)).toInt64)]) rfl ?_
        exact xx_lretN S hr hlk G (by omega) (by omega) ⟨by rw [show i = n1 by omega, hres], rfl, rfl, rfl⟩ dX0_halved_137
      · refine lv_aload_n hx hb dX0_halved_68 rfl (lv_at hl 4 rfl) ?_
        refine lv_dload hx hb dX0_halved_69 (lv_at hl 2 rfl) ?_
        have Gp := xG_44 Gp
        refine xx_callPF (As := [.double (hvT (cH C))]) (rest := []) S Gp (xt_tstep l D dA hC0 hV0 hA0 hDl0 h110 ht1 ht2 (hv_h (by omega)) tp) q1026 q1028 qs10 q1029 hd_X0_step ⟨Nat.le_of_ble_eq_true rfl, Nat.le_of_ble_eq_true rfl⟩ rfl hl.1 rfl (Nat.le_of_ble_eq_true rfl) dX0_halved_71 ⟨(show 338 ≤ 338 by omega), (show 5030 ≤ 5030 by omega)⟩ (fun H locs Gp O_ => ?_)
        have O_ := oth_44 O_
        obtain ⟨G, d1⟩ := O_ _ (xG_w G) d1
        have G : xG D dA (xB (xA dA C d j) s0.heap.size) C d j s0 H locs := G
        obtain ⟨Gq, d3⟩ := O_ _ (xG_w Gq) d3
        have Gq : xG D dA (xB (xA dA C d j) s0.heap.size) (twC C) (xtN (twC C) (hf_ (hvT (cH C))) (2 * i)) jq s0 H locs := Gq
        obtain ⟨tp, y_⟩ := twI_s hC0 hV0 hA0 hDl0 h110 ht1 ht2 tp
        generalize hg_ : xsJ (twC C) (hvT (cH C)) (xtN (twC C) (hvT (cH C)) i) jp = jp1 at Gp tp y_ d1 d2 d3
        rw [← y_] at hl
        have Gp : xG D dA (xB (xA dA C d j) s0.heap.size) (twC C) (xtN (twC C) (hvT (cH C)) (i + 1)) jp1 s0 H locs := Gp
        have tp : twI (twC C) f (xtN (twC C) (hvT (cH C)) (i + 1)) jp1 := tp
        have d1 : (∀ q, xA dA C d j q → ¬ xA dA (twC C) (xtN (twC C) (hvT (cH C)) (i + 1)) jp1 q) := d1
        have d3 : (∀ q, xA dA (twC C) (xtN (twC C) (hf_ (hvT (cH C))) (2 * i)) jq q → ¬ xA dA (twC C) (xtN (twC C) (hvT (cH C)) (i + 1)) jp1 q) := d3
        refine W.eq (g2 := F0 mid 74 ls []) rfl ?_
        refine lv_aload hx hb dX0_halved_74 (lv_at hl 3 rfl) ?_
        refine lv_dload hx hb dX0_halved_76 (lv_at hl 2 rfl) ?_
        refine lv_ldc2d hx hb hown (hts _ q1021) dX0_halved_78 ?_
        refine lv_ddiv hx hb dX0_halved_81 (hv_n (k := cH C + 1) (by omega)) ?_
        have Gq := xG_44 Gq
        refine xx_callPF (As := [.double (hf_ (hvT (cH C)))]) (rest := []) S Gq (xt_tstep l D dA hC0 hV0 hA0 hDl0 h110 ht2 ht3 hh2 tq) q1026 q1028 qs10 q1029 hd_X0_step ⟨Nat.le_of_ble_eq_true rfl, Nat.le_of_ble_eq_true rfl⟩ rfl hl.1 rfl (Nat.le_of_ble_eq_true rfl) dX0_halved_82 ⟨(show 338 ≤ 338 by omega), (show 5030 ≤ 5030 by omega)⟩ (fun H locs Gq O_ => ?_)
        have O_ := oth_44 O_
        obtain ⟨G, d2⟩ := O_ _ (xG_w G) d2
        have G : xG D dA (xB (xA dA C d j) s0.heap.size) C d j s0 H locs := G
        obtain ⟨Gp, d3_⟩ := O_ _ (xG_w Gp) (fun q a b => d3 q b a)
        have Gp : xG D dA (xB (xA dA C d j) s0.heap.size) (twC C) (xtN (twC C) (hvT (cH C)) (i + 1)) jp1 s0 H locs := Gp
        have d3 := fun q a b => d3_ q b a
        obtain ⟨tq, y_⟩ := twI_s hC0 hV0 hA0 hDl0 h110 ht2 ht3 tq
        generalize hg_ : xsJ (twC C) (hf_ (hvT (cH C))) (xtN (twC C) (hf_ (hvT (cH C))) (2 * i)) jq = jq1 at Gq tq y_ d1 d2 d3
        rw [← y_] at hl
        have Gq : xG D dA (xB (xA dA C d j) s0.heap.size) (twC C) (xtN (twC C) (hf_ (hvT (cH C))) (2 * i + 1)) jq1 s0 H locs := Gq
        have tq : twI (twC C) f (xtN (twC C) (hf_ (hvT (cH C))) (2 * i + 1)) jq1 := tq
        have d2 : (∀ q, xA dA C d j q → ¬ xA dA (twC C) (xtN (twC C) (hf_ (hvT (cH C))) (2 * i + 1)) jq1 q) := d2
        have d3 : (∀ q, xA dA (twC C) (xtN (twC C) (hf_ (hvT (cH C))) (2 * i + 1)) jq1 q → ¬ xA dA (twC C) (xtN (twC C) (hvT (cH C)) (i + 1)) jp1 q) := d3
        refine W.eq (g2 := F0 mid 85 ls []) rfl ?_
        refine lv_aload hx hb dX0_halved_85 (lv_at hl 3 rfl) ?_
        refine lv_dload hx hb dX0_halved_87 (lv_at hl 2 rfl) ?_
        refine lv_ldc2d hx hb hown (hts _ q1021) dX0_halved_89 ?_
        refine lv_ddiv hx hb dX0_halved_92 (hv_n (k := cH C + 1) (by omega)) ?_
        have Gq := xG_44 Gq
        refine xx_callPF (As := [.double (hf_ (hvT (cH C)))]) (rest := []) S Gq (xt_tstep l D dA hC0 hV0 hA0 hDl0 h110 ht2 ht3 hh2 tq) q1026 q1028 qs10 q1029 hd_X0_step ⟨Nat.le_of_ble_eq_true rfl, Nat.le_of_ble_eq_true rfl⟩ rfl hl.1 rfl (Nat.le_of_ble_eq_true rfl) dX0_halved_93 ⟨(show 338 ≤ 338 by omega), (show 5030 ≤ 5030 by omega)⟩ (fun H locs Gq O_ => ?_)
        have O_ := oth_44 O_
        obtain ⟨G, d2⟩ := O_ _ (xG_w G) d2
        have G : xG D dA (xB (xA dA C d j) s0.heap.size) C d j s0 H locs := G
        obtain ⟨Gp, d3_⟩ := O_ _ (xG_w Gp) (fun q a b => d3 q b a)
        have Gp : xG D dA (xB (xA dA C d j) s0.heap.size) (twC C) (xtN (twC C) (hvT (cH C)) (i + 1)) jp1 s0 H locs := Gp
        have d3 := fun q a b => d3_ q b a
        obtain ⟨tq, y_⟩ := twI_s hC0 hV0 hA0 hDl0 h110 ht2 ht3 tq
        generalize hg_ : xsJ (twC C) (hf_ (hvT (cH C))) (xtN (twC C) (hf_ (hvT (cH C))) (2 * i + 1)) jq1 = jq2 at Gq tq y_ d1 d2 d3
        rw [← y_] at hl
        have Gq : xG D dA (xB (xA dA C d j) s0.heap.size) (twC C) (xtN (twC C) (hf_ (hvT (cH C))) (2 * (i + 1))) jq2 s0 H locs := Gq
        have tq : twI (twC C) f (xtN (twC C) (hf_ (hvT (cH C))) (2 * (i + 1))) jq2 := tq
        have d2 : (∀ q, xA dA C d j q → ¬ xA dA (twC C) (xtN (twC C) (hf_ (hvT (cH C))) (2 * (i + 1))) jq2 q) := d2
        have d3 : (∀ q, xA dA (twC C) (xtN (twC C) (hf_ (hvT (cH C))) (2 * (i + 1))) jq2 q → ¬ xA dA (twC C) (xtN (twC C) (hvT (cH C)) (i + 1)) jp1 q) := d3
        refine W.eq (g2 := F0 mid 96 ls []) rfl ?_
        refine lv_dload hx hb dX0_halved_96 (lv_at hl 1 rfl) ?_
        refine lv_aload_n hx hb dX0_halved_98 rfl (lv_at hl 4 rfl) ?_
        refine xx_getP (j := jp1) S Gp 0 (by decide) q89 rfl (v := .ref (jA jp1 1)) rfl dX0_halved_99 ?_
        refine lv_iload_n hx hb dX0_halved_102 rfl (lv_at hl 6 rfl) ?_
        refine xx_aald (j := jp1) S Gp (r := 1) (by decide) (xW_p (by decide) rfl) (i := q1) (by omega) (by decide) (o := some (jA jp1 (xr q1 0))) (if_pos (show q1 < cN (twC C) from hq1)) dX0_halved_103 ?_
        refine W.eq (g2 := F0 mid 104 ls [.ref (jA jp1 (xr q1 0)), .double (xhN C q1 i)]) rfl ?_
        refine xx_get11 (j := jp1) S Gp (mm := q1) (show q1 < cN (twC C) from hq1) hN (hC0.k _) 6 (by decide) q226 rfl (v := .double (dAD (xtN (twC C) (hvT (cH C)) (i + 1)) 19 q1)) rfl dX0_halved_104 ?_
        refine lv_aload hx hb dX0_halved_107 (lv_at hl 3 rfl) ?_
        refine xx_getP (j := jq2) S Gq 0 (by decide) q89 rfl (v := .ref (jA jq2 1)) rfl dX0_halved_109 ?_
        refine lv_iload_n hx hb dX0_halved_112 rfl (lv_at hl 6 rfl) ?_
        refine xx_aald (j := jq2) S Gq (r := 1) (by decide) (xW_p (by decide) rfl) (i := q1) (by omega) (by decide) (o := some (jA jq2 (xr q1 0))) (if_pos (show q1 < cN (twC C) from hq1)) dX0_halved_113 ?_
        refine W.eq (g2 := F0 mid 114 ls [.ref (jA jq2 (xr q1 0)), .double (dAD (xtN (twC C) (hvT (cH C)) (i + 1)) 19 q1), .double (xhN C q1 i)]) rfl ?_
        refine xx_get11 (j := jq2) S Gq (mm := q1) (show q1 < cN (twC C) from hq1) hN (hC0.k _) 6 (by decide) q226 rfl (v := .double (dAD (xtN (twC C) (hf_ (hvT (cH C))) (2 * (i + 1))) 19 q1)) rfl dX0_halved_114 ?_
        have hvb : bD 1079 (xhV C q1 i) := rd_b tp.1.r tq.1.r
        refine lv_dsub hx hb dX0_halved_117 (bD_n hvb) ?_
        refine w_st (st' := [.double (xhV C q1 i), .double (xhN C q1 i)]) (by rfl) ?_
        refine va_ov (As := [.double (xhV C q1 i)]) (rest := [.double (xhN C q1 i)]) (row := ovA) (r := .double (abD (xhV C q1 i))) hx hb (hml.trans hl.1.symm) hown (hts _ q1217) (hts _ q185) (hts _ q56) (hts _ q186) ovA_d ovA_c (ovA_row _) ovA_p rfl rfl (fun S => ovA_run2 (bD_n hvb) _ S) (Nat.le_of_ble_eq_true rfl) (Nat.le_of_ble_eq_true rfl) (show 338 ≤ 338 by omega) (show 5030 ≤ 5030 by omega) rfl dX0_halved_118 ?_
        refine va_ov (As := [.double (xhN C q1 i), .double (abD (xhV C q1 i))]) (rest := []) (row := ovM) (r := .double (mxD (xhN C q1 i) (abD (xhV C q1 i)))) hx hb (hml.trans hl.1.symm) hown (hts _ q1234) (hts _ q1001) (hts _ q56) (hts _ q1002) ovM_d ovM_c (ovM_row _) ovM_p rfl rfl (fun S => ovM_run2 (bD_n hap.1) (abD_n (bD_n hvb)) _ S) (Nat.le_of_ble_eq_true rfl) (Nat.le_of_ble_eq_true rfl) (show 338 ≤ 338 by omega) (show 5030 ≤ 5030 by omega) rfl dX0_halved_121 ?_
        refine w_st (st' := [.double (mxV (xhN C q1 i) (xhV C q1 i))]) (by rw [mxV_e hap hvb]) ?_
        refine lv_dstore (lv' := [(7, .double (mxV (xhN C q1 i) (xhV C q1 i))), (9, .int (nI i)), (5, .double (hvT (cH C))), (4, .ref (jA jq2 0)), (3, .ref (jA jp1 0)), (2, .int (nI n1)), (1, .int (nI q1)), (0, .ref (jA j 0))]) hx hb dX0_halved_124 hl (by decide) rfl (fun ls hl => ?_)
        refine lv_iinc (v := nI (i + 1)) (lv' := [(9, .int (nI (i + 1))), (7, .double (mxV (xhN C q1 i) (xhV C q1 i))), (5, .double (hvT (cH C))), (4, .ref (jA jq2 0)), (3, .ref (jA jp1 0)), (2, .int (nI n1)), (1, .int (nI q1)), (0, .ref (jA j 0))]) hx hb dX0_halved_126 hl (k := 1) rfl (nI_1 _) (by decide) rfl (fun ls hl => ?_)
        refine lv_goto (tgt := 62) hx hb dX0_halved_129 (by decide) ?_
        exact ih (i + 1) jp1 jq2 (by omega) (by omega) (mxV_ok hap hvb) tp tq d1 d2 d3 H locs ls G Gp Gq (lv_eq (lv_sub (l' := [(9, .int (nI (i + 1))), (7, .double (mxV (xhN C q1 i) (xhV C q1 i))), (5, .double (hvT (cH C))), (4, .ref (jA jq2 0)), (3, .ref (jA jp1 0)), (2, .int (nI n1)), (1, .int (nI q1)), (0, .ref (jA j 0))]) hl [0, 1, 2, 3, 4, 5, 6, 7] rfl) (by rfl))
  refine lv_aload_n hx hb dX0_halved_0 rfl (lv_at hl 0 rfl) ?_
  refine lv_iload_n hx hb dX0_halved_1 rfl (lv_at hl 1 rfl) ?_
  refine xx_callP (As := [.int q]) (rest := []) S G (xt_X0_isModule l D dA C d j q hC) q575 q577 qs0 q578 hd_X0_isModule ⟨Nat.le_of_ble_eq_true rfl, Nat.le_of_ble_eq_true rfl⟩ rfl hl.1 rfl (Nat.le_of_ble_eq_true rfl) dX0_halved_2 ⟨(show 0 ≤ 338 by omega), (show 0 ≤ 5030 by omega)⟩ (fun H locs G => ?_)
  refine W.eq (g2 := F0 mid 5 ls [.int (bI (inB q (nI 0) (nI (cN C) - nI 1)))]) rfl ?_
  refine bb_eq (tgt := 25) hx hb dX0_halved_5 (by decide) (fun c_5 => ?_) (fun c_5 => ?_)
  · refine lv_lconst (v := 0) hx hb dX0_halved_25 (by decide) ?_
    exact xx_lretN S hr hlk G (by omega) (by omega) ⟨by simp [xhL, haO, imB, c_5], rfl, rfl, rfl⟩ dX0_halved_26
  · obtain ⟨q1, hq1, rfl⟩ := im_nat c_5 hN
    have ij_q1 : ixN (nI q1) = q1 := ixN_nI (by omega)
    refine lv_iload_n hx hb dX0_halved_8 rfl (lv_at hl 2 rfl) ?_
    refine lv_iconst (v := nI 1) hx hb dX0_halved_9 (by decide) ?_
    refine lv_bipush (v := nI 20) hx hb dX0_halved_10 (by decide) ?_
    refine sC_call (As := [.int n, .int (nI 1), .int (nI 20)]) (rest := []) S (st_X0_isIn l n (nI 1) (nI 20)) q149 q150 q52 q151 hd_X0_isIn ⟨Nat.le_of_ble_eq_true rfl, Nat.le_of_ble_eq_true rfl⟩ rfl hl.1 rfl (Nat.le_of_ble_eq_true rfl) dX0_halved_12 ⟨(show 0 ≤ 338 by omega), (show 0 ≤ 5030 by omega)⟩ ?_
    refine W.eq (g2 := F0 mid 15 ls [.int (bI (inB n (nI 1) (nI 20)))]) rfl ?_
    refine bb_eq (tgt := 25) hx hb dX0_halved_15 (by decide) (fun c_15 => ?_) (fun c_15 => ?_)
    · refine lv_lconst (v := 0) hx hb dX0_halved_25 (by decide) ?_
      exact xx_lretN S hr hlk G (by omega) (by omega) ⟨by simp [xhL, haO, imB, c_5, ij_q1, c_15], rfl, rfl, rfl⟩ dX0_halved_26
    · obtain ⟨n1, hn0, hn1, rfl⟩ := in_nat c_15 (by decide) (by decide)
      have ij_n1 : ixN (nI n1) = n1 := ixN_nI (by omega)
      refine lv_aload_n hx hb dX0_halved_18 rfl (lv_at hl 0 rfl) ?_
      refine xx_getP S G 2 (by decide) q91 rfl (v := .int (nI (cM C))) rfl dX0_halved_19 ?_
      refine nz_ne (tgt := 27) hx hb (by omega) dX0_halved_22 (by decide) (fun c_22 => ?_) (fun c_22 => ?_)
      · have hA0 : aOK (twC C) := hA_ (by omega)
        have hOG := hOG_ (by omega)
        refine lv_aload_n hx hb dX0_halved_27 rfl (lv_at hl 0 rfl) ?_
        have G0 := G
        refine tt_call (As := []) (rest := []) S G hA (tt_X0_twin l D dA C d j hC hfC hfE) q1219 q1221 qs15 q1222 hd_X0_twin ⟨Nat.le_of_ble_eq_true rfl, Nat.le_of_ble_eq_true rfl⟩ rfl hl.1 rfl (Nat.le_of_ble_eq_true rfl) dX0_halved_28 ⟨(show 0 + 129 ≤ 338 by omega), (show 0 + 1875 ≤ 5030 by omega)⟩ (fun o_ w_ H locs hp G Gp hge hz hk => ?_)
        obtain ⟨ap, rfl, rfl⟩ := hp
        have Gp : xG D dA (xB (xA dA C d j) s0.heap.size) (twC C) nmd (nmj ap) s0 H locs := Gp
        have d1 : (∀ q, xA dA C d j q → ¬ xA dA (twC C) nmd (nmj ap) q) := fun q a b => by have := wG_lt (xG_w G0) a; have := hge q b; omega
        refine W.eq (g2 := F0 mid 31 ls [.ref (jA (nmj ap) 0)]) rfl ?_
        refine lv_astore_n (lv' := [(3, .ref (jA (nmj ap) 0)), (0, .ref (jA j 0)), (1, .int (nI q1)), (2, .int (nI n1))]) hx hb dX0_halved_31 rfl hl (by decide) rfl (fun ls hl => ?_)
        refine lv_aload_n hx hb dX0_halved_32 rfl (lv_at hl 1 rfl) ?_
        have G0 := G
        have Gp0 := Gp
        refine tt_call (As := []) (rest := []) S G hA (tt_X0_twin l D dA C d j hC hfC hfE) q1219 q1221 qs15 q1222 hd_X0_twin ⟨Nat.le_of_ble_eq_true rfl, Nat.le_of_ble_eq_true rfl⟩ rfl hl.1 rfl (Nat.le_of_ble_eq_true rfl) dX0_halved_33 ⟨(show 0 + 129 + 129 ≤ 338 by omega), (show 0 + 1875 + 1875 ≤ 5030 by omega)⟩ (fun o_ w_ H locs hp G Gq hge hz hk => ?_)
        obtain ⟨aq, rfl, rfl⟩ := hp
        have Gq : xG D dA (xB (xA dA C d j) s0.heap.size) (twC C) nmd (nmj aq) s0 H locs := Gq
        have d2 : (∀ q, xA dA C d j q → ¬ xA dA (twC C) nmd (nmj aq) q) := fun q a b => by have := wG_lt (xG_w G0) a; have := hge q b; omega
        have Gp : xG D dA (xB (xA dA C d j) s0.heap.size) (twC C) nmd (nmj ap) s0 H locs := wG_keep (xG_w Gq) (xG_w Gp0) (fun q h => hk q (wG_lt (xG_w Gp0) h))
        have d3 : (∀ q, xA dA (twC C) nmd (nmj aq) q → ¬ xA dA (twC C) nmd (nmj ap) q) := fun q a b => by have := hge q a; have := wG_lt (xG_w Gp0) b; omega
        refine W.eq (g2 := F0 mid 36 ls [.ref (jA (nmj aq) 0)]) rfl ?_
        refine lv_astore (lv' := [(4, .ref (jA (nmj aq) 0)), (3, .ref (jA (nmj ap) 0)), (0, .ref (jA j 0)), (1, .int (nI q1)), (2, .int (nI n1))]) hx hb dX0_halved_36 hl (by decide) rfl (fun ls hl => ?_)
        refine lv_aload_n hx hb dX0_halved_38 rfl (lv_at hl 1 rfl) ?_
        refine xx_callNF (As := []) (rest := []) S Gp hA (xt_X0_start l D dA (twC C) nmd (nmj ap) hC0 hV0 hW0 hA0 hDl0 (nm_I _) (nm_n _) nm_a h110 (hOG _ _)) q681 q683 qs5 q684 hd_X0_start ⟨Nat.le_of_ble_eq_true rfl, Nat.le_of_ble_eq_true rfl⟩ rfl hl.1 rfl (Nat.le_of_ble_eq_true rfl) dX0_halved_39 ⟨(show 0 + 129 + 129 + 40 ≤ 338 by omega), (show 0 + 1875 + 1875 + 640 ≤ 5030 by omega)⟩ (fun o_ C_ e_ jp H locs hp Gp O_ => ?_)
        obtain ⟨rfl, rfl, rfl, hbs⟩ := hp
        obtain ⟨G, d1⟩ := O_ _ (xG_w G) d1
        have G : xG D dA (xB (xA dA C d j) s0.heap.size) C d j s0 H locs := G
        obtain ⟨Gq, d3⟩ := O_ _ (xG_w Gq) d3
        have Gq : xG D dA (xB (xA dA C d j) s0.heap.size) (twC C) nmd (nmj aq) s0 H locs := Gq
        have tp : twI (twC C) (leF (twC C) (dAI nmd 10)) (beD (twC C) nmd) jp := twI_b hC0 hV0 hW0 hA0 hDl0 h110 (nm_I _) nm_a (nm_w _) (hOG _ _) hbs
        have hAp := bsP_0A hbs
        have hAp : jA jp 0 = jA (nmj ap) 0 := hAp
        rw [← hAp] at hl
        refine W.eq (g2 := F0 mid 42 ls []) rfl ?_
        refine lv_aload hx hb dX0_halved_42 (lv_at hl 0 rfl) ?_
        refine xx_callNF (As := []) (rest := []) S Gq hA (xt_X0_start l D dA (twC C) nmd (nmj aq) hC0 hV0 hW0 hA0 hDl0 (nm_I _) (nm_n _) nm_a h110 (hOG _ _)) q681 q683 qs5 q684 hd_X0_start ⟨Nat.le_of_ble_eq_true rfl, Nat.le_of_ble_eq_true rfl⟩ rfl hl.1 rfl (Nat.le_of_ble_eq_true rfl) dX0_halved_44 ⟨(show 0 + 129 + 129 + 40 + 40 ≤ 338 by omega), (show 0 + 1875 + 1875 + 640 + 640 ≤ 5030 by omega)⟩ (fun o_ C_ e_ jq H locs hp Gq O_ => ?_)
        obtain ⟨rfl, rfl, rfl, hbs⟩ := hp
        obtain ⟨G, d2⟩ := O_ _ (xG_w G) d2
        have G : xG D dA (xB (xA dA C d j) s0.heap.size) C d j s0 H locs := G
        obtain ⟨Gp, d3_⟩ := O_ _ (xG_w Gp) (fun q a b => d3 q b a)
        have Gp : xG D dA (xB (xA dA C d j) s0.heap.size) (twC C) (beD (twC C) nmd) jp s0 H locs := Gp
        have d3 := fun q a b => d3_ q b a
        have tq : twI (twC C) (leF (twC C) (dAI nmd 10)) (beD (twC C) nmd) jq := twI_b hC0 hV0 hW0 hA0 hDl0 h110 (nm_I _) nm_a (nm_w _) (hOG _ _) hbs
        have hAq := bsP_0A hbs
        have hAq : jA jq 0 = jA (nmj aq) 0 := hAq
        rw [← hAq] at hl
        refine W.eq (g2 := F0 mid 47 ls []) rfl ?_
        refine lv_aload_n hx hb dX0_halved_47 rfl (lv_at hl 2 rfl) ?_
        refine xx_getP S G 4 (by decide) q93 rfl (v := .int (nI (cH C))) rfl dX0_halved_48 ?_
        refine xx_callSF (As := [.int (nI (cH C))]) (rest := []) S G (xt_X0_length l D dA C d j (cH C) hC (by omega)) q1018 q1019 q52 q1020 hd_X0_length ⟨Nat.le_of_ble_eq_true rfl, Nat.le_of_ble_eq_true rfl⟩ rfl hl.1 rfl (Nat.le_of_ble_eq_true rfl) dX0_halved_51 ⟨(show 0 + 129 + 129 + 40 + 40 ≤ 338 by omega), (show 0 + 1875 + 1875 + 640 + 640 ≤ 5030 by omega)⟩ (fun H locs G O_ => ?_)
        obtain ⟨Gp, d1_⟩ := O_ _ (xG_w Gp) (fun q a b => d1 q b a)
        have Gp : xG D dA (xB (xA dA C d j) s0.heap.size) (twC C) (xtN (twC C) (hvT (cH C)) 0) jp s0 H locs := Gp
        have d1 : (∀ q, xA dA C d j q → ¬ xA dA (twC C) (xtN (twC C) (hvT (cH C)) 0) jp q) := fun q a b => d1_ q b a
        obtain ⟨Gq, d2_⟩ := O_ _ (xG_w Gq) (fun q a b => d2 q b a)
        have Gq : xG D dA (xB (xA dA C d j) s0.heap.size) (twC C) (xtN (twC C) (hf_ (hvT (cH C))) (2 * 0)) jq s0 H locs := Gq
        have d2 : (∀ q, xA dA C d j q → ¬ xA dA (twC C) (xtN (twC C) (hf_ (hvT (cH C))) (2 * 0)) jq q) := fun q a b => d2_ q b a
        refine W.eq (g2 := F0 mid 54 ls [.double (hvT (cH C))]) rfl ?_
        refine lv_dstore (lv' := [(5, .double (hvT (cH C))), (4, .ref (jA jq 0)), (3, .ref (jA jp 0)), (0, .ref (jA j 0)), (1, .int (nI q1)), (2, .int (nI n1))]) hx hb dX0_halved_54 hl (by decide) rfl (fun ls hl => ?_)
        refine lv_dconst0 hx hb dX0_halved_56 ?_
        refine lv_dstore (lv' := [(7, .double FP.dconst0), (5, .double (hvT (cH C))), (4, .ref (jA jq 0)), (3, .ref (jA jp 0)), (0, .ref (jA j 0)), (1, .int (nI q1)), (2, .int (nI n1))]) hx hb dX0_halved_57 hl (by decide) rfl (fun ls hl => ?_)
        refine lv_iconst (v := nI 0) hx hb dX0_halved_59 (by decide) ?_
        refine lv_istore (lv' := [(9, .int (nI 0)), (7, .double FP.dconst0), (5, .double (hvT (cH C))), (4, .ref (jA jq 0)), (3, .ref (jA jp 0)), (0, .ref (jA j 0)), (1, .int (nI q1)), (2, .int (nI n1))]) hx hb dX0_halved_60 hl (by decide) rfl (fun ls hl => ?_)
        exact L1 q1 n1 hq1 hn1 (by unfold xhL haO; simp [imB, c_5, ij_q1, c_15, ij_n1, c_22]) hA0 (leF (twC C) (dAI nmd 10)) (n1 + 1) 0 jp jq (by omega) (by omega) apV_0 tp tq d1 d2 d3 H locs ls G Gp Gq (lv_eq (lv_sub (l' := [(9, .int (nI 0)), (7, .double FP.dconst0), (5, .double (hvT (cH C))), (4, .ref (jA jq 0)), (3, .ref (jA jp 0)), (2, .int (nI n1)), (1, .int (nI q1)), (0, .ref (jA j 0))]) hl [0, 1, 2, 3, 4, 7, 6, 5] rfl) (by rfl))
      · refine lv_lconst (v := 0) hx hb dX0_halved_25 (by decide) ?_
        exact xx_lretN S hr hlk G (by omega) (by omega) ⟨by simp [xhL, haO, imB, c_5, ij_q1, c_15, ij_n1, c_22], rfl, rfl, rfl⟩ dX0_halved_26
