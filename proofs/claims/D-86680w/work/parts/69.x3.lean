set_option maxRecDepth 100000
set_option maxHeartbeats 4000000
theorem dX11_wideOut_0 : decode cX11_wideOut 0 = .ok (.aload_n 0, 1) := by decide +kernel
theorem dX11_wideOut_1 : decode cX11_wideOut 1 = .ok (.iconst 0, 1) := by decide +kernel
theorem dX11_wideOut_2 : decode cX11_wideOut 2 = .ok (.invokevirtual 18, 3) := by decide +kernel
theorem dX11_wideOut_5 : decode cX11_wideOut 5 = .ok (.dstore_n 2, 1) := by decide +kernel
theorem dX11_wideOut_6 : decode cX11_wideOut 6 = .ok (.dload_n 2, 1) := by decide +kernel
theorem dX11_wideOut_7 : decode cX11_wideOut 7 = .ok (.aload_n 0, 1) := by decide +kernel
theorem dX11_wideOut_8 : decode cX11_wideOut 8 = .ok (.getfield 9, 3) := by decide +kernel
theorem dX11_wideOut_11 : decode cX11_wideOut 11 = .ok (.iconst 0, 1) := by decide +kernel
theorem dX11_wideOut_12 : decode cX11_wideOut 12 = .ok (.daload, 1) := by decide +kernel
theorem dX11_wideOut_13 : decode cX11_wideOut 13 = .ok (.dcmp .g, 1) := by decide +kernel
theorem dX11_wideOut_14 : decode cX11_wideOut 14 = .ok (.ifCond .gt 10, 3) := by decide +kernel
theorem dX11_wideOut_17 : decode cX11_wideOut 17 = .ok (.aload_n 0, 1) := by decide +kernel
theorem dX11_wideOut_18 : decode cX11_wideOut 18 = .ok (.getfield 15, 3) := by decide +kernel
theorem dX11_wideOut_21 : decode cX11_wideOut 21 = .ok (.iconst 0, 1) := by decide +kernel
theorem dX11_wideOut_22 : decode cX11_wideOut 22 = .ok (.daload, 1) := by decide +kernel
theorem dX11_wideOut_23 : decode cX11_wideOut 23 = .ok (.dreturn, 1) := by decide +kernel
theorem dX11_wideOut_24 : decode cX11_wideOut 24 = .ok (.dload_n 2, 1) := by decide +kernel
theorem dX11_wideOut_25 : decode cX11_wideOut 25 = .ok (.aload_n 0, 1) := by decide +kernel
theorem dX11_wideOut_26 : decode cX11_wideOut 26 = .ok (.getfield 9, 3) := by decide +kernel
theorem dX11_wideOut_29 : decode cX11_wideOut 29 = .ok (.aload_n 0, 1) := by decide +kernel
theorem dX11_wideOut_30 : decode cX11_wideOut 30 = .ok (.getfield 22, 3) := by decide +kernel
theorem dX11_wideOut_33 : decode cX11_wideOut 33 = .ok (.iconst 1, 1) := by decide +kernel
theorem dX11_wideOut_34 : decode cX11_wideOut 34 = .ok (.isub, 1) := by decide +kernel
theorem dX11_wideOut_35 : decode cX11_wideOut 35 = .ok (.daload, 1) := by decide +kernel
theorem dX11_wideOut_36 : decode cX11_wideOut 36 = .ok (.dcmp .l, 1) := by decide +kernel
theorem dX11_wideOut_37 : decode cX11_wideOut 37 = .ok (.ifCond .lt 15, 3) := by decide +kernel
theorem dX11_wideOut_40 : decode cX11_wideOut 40 = .ok (.aload_n 0, 1) := by decide +kernel
theorem dX11_wideOut_41 : decode cX11_wideOut 41 = .ok (.getfield 15, 3) := by decide +kernel
theorem dX11_wideOut_44 : decode cX11_wideOut 44 = .ok (.aload_n 0, 1) := by decide +kernel
theorem dX11_wideOut_45 : decode cX11_wideOut 45 = .ok (.getfield 22, 3) := by decide +kernel
theorem dX11_wideOut_48 : decode cX11_wideOut 48 = .ok (.iconst 1, 1) := by decide +kernel
theorem dX11_wideOut_49 : decode cX11_wideOut 49 = .ok (.isub, 1) := by decide +kernel
theorem dX11_wideOut_50 : decode cX11_wideOut 50 = .ok (.daload, 1) := by decide +kernel
theorem dX11_wideOut_51 : decode cX11_wideOut 51 = .ok (.dreturn, 1) := by decide +kernel
theorem dX11_wideOut_52 : decode cX11_wideOut 52 = .ok (.iconst 0, 1) := by decide +kernel
theorem dX11_wideOut_53 : decode cX11_wideOut 53 = .ok (.istore 4, 2) := by decide +kernel
theorem dX11_wideOut_55 : decode cX11_wideOut 55 = .ok (.aload_n 0, 1) := by decide +kernel
theorem dX11_wideOut_56 : decode cX11_wideOut 56 = .ok (.getfield 9, 3) := by decide +kernel
theorem dX11_wideOut_59 : decode cX11_wideOut 59 = .ok (.iload 4, 2) := by decide +kernel
theorem dX11_wideOut_61 : decode cX11_wideOut 61 = .ok (.iconst 1, 1) := by decide +kernel
theorem dX11_wideOut_62 : decode cX11_wideOut 62 = .ok (.iadd, 1) := by decide +kernel
theorem dX11_wideOut_63 : decode cX11_wideOut 63 = .ok (.daload, 1) := by decide +kernel
theorem dX11_wideOut_64 : decode cX11_wideOut 64 = .ok (.dload_n 2, 1) := by decide +kernel
theorem dX11_wideOut_65 : decode cX11_wideOut 65 = .ok (.dcmp .g, 1) := by decide +kernel
theorem dX11_wideOut_66 : decode cX11_wideOut 66 = .ok (.ifCond .gt 9, 3) := by decide +kernel
theorem dX11_wideOut_69 : decode cX11_wideOut 69 = .ok (.iinc 4 1, 3) := by decide +kernel
theorem dX11_wideOut_72 : decode cX11_wideOut 72 = .ok (.goto (-17), 3) := by decide +kernel
theorem dX11_wideOut_75 : decode cX11_wideOut 75 = .ok (.dload_n 2, 1) := by decide +kernel
theorem dX11_wideOut_76 : decode cX11_wideOut 76 = .ok (.aload_n 0, 1) := by decide +kernel
theorem dX11_wideOut_77 : decode cX11_wideOut 77 = .ok (.getfield 9, 3) := by decide +kernel
theorem dX11_wideOut_80 : decode cX11_wideOut 80 = .ok (.iload 4, 2) := by decide +kernel
theorem dX11_wideOut_82 : decode cX11_wideOut 82 = .ok (.daload, 1) := by decide +kernel
theorem dX11_wideOut_83 : decode cX11_wideOut 83 = .ok (.dsub, 1) := by decide +kernel
theorem dX11_wideOut_84 : decode cX11_wideOut 84 = .ok (.aload_n 0, 1) := by decide +kernel
theorem dX11_wideOut_85 : decode cX11_wideOut 85 = .ok (.getfield 15, 3) := by decide +kernel
theorem dX11_wideOut_88 : decode cX11_wideOut 88 = .ok (.iload 4, 2) := by decide +kernel
theorem dX11_wideOut_90 : decode cX11_wideOut 90 = .ok (.iconst 1, 1) := by decide +kernel
theorem dX11_wideOut_91 : decode cX11_wideOut 91 = .ok (.iadd, 1) := by decide +kernel
theorem dX11_wideOut_92 : decode cX11_wideOut 92 = .ok (.daload, 1) := by decide +kernel
theorem dX11_wideOut_93 : decode cX11_wideOut 93 = .ok (.aload_n 0, 1) := by decide +kernel
theorem dX11_wideOut_94 : decode cX11_wideOut 94 = .ok (.getfield 15, 3) := by decide +kernel
theorem dX11_wideOut_97 : decode cX11_wideOut 97 = .ok (.iload 4, 2) := by decide +kernel
theorem dX11_wideOut_99 : decode cX11_wideOut 99 = .ok (.daload, 1) := by decide +kernel
theorem dX11_wideOut_100 : decode cX11_wideOut 100 = .ok (.dsub, 1) := by decide +kernel
theorem dX11_wideOut_101 : decode cX11_wideOut 101 = .ok (.dmul, 1) := by decide +kernel
theorem dX11_wideOut_102 : decode cX11_wideOut 102 = .ok (.aload_n 0, 1) := by decide +kernel
theorem dX11_wideOut_103 : decode cX11_wideOut 103 = .ok (.getfield 9, 3) := by decide +kernel
theorem dX11_wideOut_106 : decode cX11_wideOut 106 = .ok (.iload 4, 2) := by decide +kernel
theorem dX11_wideOut_108 : decode cX11_wideOut 108 = .ok (.iconst 1, 1) := by decide +kernel
theorem dX11_wideOut_109 : decode cX11_wideOut 109 = .ok (.iadd, 1) := by decide +kernel
theorem dX11_wideOut_110 : decode cX11_wideOut 110 = .ok (.daload, 1) := by decide +kernel
theorem dX11_wideOut_111 : decode cX11_wideOut 111 = .ok (.aload_n 0, 1) := by decide +kernel
theorem dX11_wideOut_112 : decode cX11_wideOut 112 = .ok (.getfield 9, 3) := by decide +kernel
theorem dX11_wideOut_115 : decode cX11_wideOut 115 = .ok (.iload 4, 2) := by decide +kernel
theorem dX11_wideOut_117 : decode cX11_wideOut 117 = .ok (.daload, 1) := by decide +kernel
theorem dX11_wideOut_118 : decode cX11_wideOut 118 = .ok (.dsub, 1) := by decide +kernel
theorem dX11_wideOut_119 : decode cX11_wideOut 119 = .ok (.ddiv, 1) := by decide +kernel
theorem dX11_wideOut_120 : decode cX11_wideOut 120 = .ok (.aload_n 0, 1) := by decide +kernel
theorem dX11_wideOut_121 : decode cX11_wideOut 121 = .ok (.getfield 15, 3) := by decide +kernel
theorem dX11_wideOut_124 : decode cX11_wideOut 124 = .ok (.iload 4, 2) := by decide +kernel
theorem dX11_wideOut_126 : decode cX11_wideOut 126 = .ok (.daload, 1) := by decide +kernel
theorem dX11_wideOut_127 : decode cX11_wideOut 127 = .ok (.dadd, 1) := by decide +kernel
theorem dX11_wideOut_128 : decode cX11_wideOut 128 = .ok (.dreturn, 1) := by decide +kernel
theorem dX11_narrowOut_0 : decode cX11_narrowOut 0 = .ok (.aload_n 0, 1) := by decide +kernel
theorem dX11_narrowOut_1 : decode cX11_narrowOut 1 = .ok (.iconst 0, 1) := by decide +kernel
theorem dX11_narrowOut_2 : decode cX11_narrowOut 2 = .ok (.invokevirtual 26, 3) := by decide +kernel
theorem dX11_narrowOut_5 : decode cX11_narrowOut 5 = .ok (.fstore_n 2, 1) := by decide +kernel
theorem dX11_narrowOut_6 : decode cX11_narrowOut 6 = .ok (.fload_n 2, 1) := by decide +kernel
theorem dX11_narrowOut_7 : decode cX11_narrowOut 7 = .ok (.aload_n 0, 1) := by decide +kernel
theorem dX11_narrowOut_8 : decode cX11_narrowOut 8 = .ok (.getfield 9, 3) := by decide +kernel
theorem dX11_narrowOut_11 : decode cX11_narrowOut 11 = .ok (.iconst 0, 1) := by decide +kernel
theorem dX11_narrowOut_12 : decode cX11_narrowOut 12 = .ok (.daload, 1) := by decide +kernel
theorem dX11_narrowOut_13 : decode cX11_narrowOut 13 = .ok (.d2f, 1) := by decide +kernel
theorem dX11_narrowOut_14 : decode cX11_narrowOut 14 = .ok (.fcmp .g, 1) := by decide +kernel
theorem dX11_narrowOut_15 : decode cX11_narrowOut 15 = .ok (.ifCond .gt 11, 3) := by decide +kernel
theorem dX11_narrowOut_18 : decode cX11_narrowOut 18 = .ok (.aload_n 0, 1) := by decide +kernel
theorem dX11_narrowOut_19 : decode cX11_narrowOut 19 = .ok (.getfield 15, 3) := by decide +kernel
theorem dX11_narrowOut_22 : decode cX11_narrowOut 22 = .ok (.iconst 0, 1) := by decide +kernel
theorem dX11_narrowOut_23 : decode cX11_narrowOut 23 = .ok (.daload, 1) := by decide +kernel
theorem dX11_narrowOut_24 : decode cX11_narrowOut 24 = .ok (.d2f, 1) := by decide +kernel
theorem dX11_narrowOut_25 : decode cX11_narrowOut 25 = .ok (.freturn, 1) := by decide +kernel
theorem dX11_narrowOut_26 : decode cX11_narrowOut 26 = .ok (.fload_n 2, 1) := by decide +kernel
theorem dX11_narrowOut_27 : decode cX11_narrowOut 27 = .ok (.aload_n 0, 1) := by decide +kernel
theorem dX11_narrowOut_28 : decode cX11_narrowOut 28 = .ok (.getfield 9, 3) := by decide +kernel
theorem dX11_narrowOut_31 : decode cX11_narrowOut 31 = .ok (.aload_n 0, 1) := by decide +kernel
theorem dX11_narrowOut_32 : decode cX11_narrowOut 32 = .ok (.getfield 22, 3) := by decide +kernel
theorem dX11_narrowOut_35 : decode cX11_narrowOut 35 = .ok (.iconst 1, 1) := by decide +kernel
theorem dX11_narrowOut_36 : decode cX11_narrowOut 36 = .ok (.isub, 1) := by decide +kernel
theorem dX11_narrowOut_37 : decode cX11_narrowOut 37 = .ok (.daload, 1) := by decide +kernel
theorem dX11_narrowOut_38 : decode cX11_narrowOut 38 = .ok (.d2f, 1) := by decide +kernel
theorem dX11_narrowOut_39 : decode cX11_narrowOut 39 = .ok (.fcmp .l, 1) := by decide +kernel
theorem dX11_narrowOut_40 : decode cX11_narrowOut 40 = .ok (.ifCond .lt 16, 3) := by decide +kernel
theorem dX11_narrowOut_43 : decode cX11_narrowOut 43 = .ok (.aload_n 0, 1) := by decide +kernel
theorem dX11_narrowOut_44 : decode cX11_narrowOut 44 = .ok (.getfield 15, 3) := by decide +kernel
theorem dX11_narrowOut_47 : decode cX11_narrowOut 47 = .ok (.aload_n 0, 1) := by decide +kernel
theorem dX11_narrowOut_48 : decode cX11_narrowOut 48 = .ok (.getfield 22, 3) := by decide +kernel
theorem dX11_narrowOut_51 : decode cX11_narrowOut 51 = .ok (.iconst 1, 1) := by decide +kernel
theorem dX11_narrowOut_52 : decode cX11_narrowOut 52 = .ok (.isub, 1) := by decide +kernel
theorem dX11_narrowOut_53 : decode cX11_narrowOut 53 = .ok (.daload, 1) := by decide +kernel
theorem dX11_narrowOut_54 : decode cX11_narrowOut 54 = .ok (.d2f, 1) := by decide +kernel
theorem dX11_narrowOut_55 : decode cX11_narrowOut 55 = .ok (.freturn, 1) := by decide +kernel
theorem dX11_narrowOut_56 : decode cX11_narrowOut 56 = .ok (.iconst 0, 1) := by decide +kernel
theorem dX11_narrowOut_57 : decode cX11_narrowOut 57 = .ok (.istore_n 3, 1) := by decide +kernel
theorem dX11_narrowOut_58 : decode cX11_narrowOut 58 = .ok (.aload_n 0, 1) := by decide +kernel
theorem dX11_narrowOut_59 : decode cX11_narrowOut 59 = .ok (.getfield 9, 3) := by decide +kernel
theorem dX11_narrowOut_62 : decode cX11_narrowOut 62 = .ok (.iload_n 3, 1) := by decide +kernel
theorem dX11_narrowOut_63 : decode cX11_narrowOut 63 = .ok (.iconst 1, 1) := by decide +kernel
theorem dX11_narrowOut_64 : decode cX11_narrowOut 64 = .ok (.iadd, 1) := by decide +kernel
theorem dX11_narrowOut_65 : decode cX11_narrowOut 65 = .ok (.daload, 1) := by decide +kernel
theorem dX11_narrowOut_66 : decode cX11_narrowOut 66 = .ok (.d2f, 1) := by decide +kernel
theorem dX11_narrowOut_67 : decode cX11_narrowOut 67 = .ok (.fload_n 2, 1) := by decide +kernel
theorem dX11_narrowOut_68 : decode cX11_narrowOut 68 = .ok (.fcmp .g, 1) := by decide +kernel
theorem dX11_narrowOut_69 : decode cX11_narrowOut 69 = .ok (.ifCond .gt 9, 3) := by decide +kernel
theorem dX11_narrowOut_72 : decode cX11_narrowOut 72 = .ok (.iinc 3 1, 3) := by decide +kernel
theorem dX11_narrowOut_75 : decode cX11_narrowOut 75 = .ok (.goto (-17), 3) := by decide +kernel
theorem dX11_narrowOut_78 : decode cX11_narrowOut 78 = .ok (.aload_n 0, 1) := by decide +kernel
theorem dX11_narrowOut_79 : decode cX11_narrowOut 79 = .ok (.getfield 9, 3) := by decide +kernel
theorem dX11_narrowOut_82 : decode cX11_narrowOut 82 = .ok (.iload_n 3, 1) := by decide +kernel
theorem dX11_narrowOut_83 : decode cX11_narrowOut 83 = .ok (.daload, 1) := by decide +kernel
theorem dX11_narrowOut_84 : decode cX11_narrowOut 84 = .ok (.d2f, 1) := by decide +kernel
theorem dX11_narrowOut_85 : decode cX11_narrowOut 85 = .ok (.fstore 4, 2) := by decide +kernel
theorem dX11_narrowOut_87 : decode cX11_narrowOut 87 = .ok (.aload_n 0, 1) := by decide +kernel
theorem dX11_narrowOut_88 : decode cX11_narrowOut 88 = .ok (.getfield 15, 3) := by decide +kernel
theorem dX11_narrowOut_91 : decode cX11_narrowOut 91 = .ok (.iload_n 3, 1) := by decide +kernel
theorem dX11_narrowOut_92 : decode cX11_narrowOut 92 = .ok (.daload, 1) := by decide +kernel
theorem dX11_narrowOut_93 : decode cX11_narrowOut 93 = .ok (.d2f, 1) := by decide +kernel
theorem dX11_narrowOut_94 : decode cX11_narrowOut 94 = .ok (.fstore 5, 2) := by decide +kernel
theorem dX11_narrowOut_96 : decode cX11_narrowOut 96 = .ok (.fload_n 2, 1) := by decide +kernel
theorem dX11_narrowOut_97 : decode cX11_narrowOut 97 = .ok (.fload 4, 2) := by decide +kernel
theorem dX11_narrowOut_99 : decode cX11_narrowOut 99 = .ok (.fsub, 1) := by decide +kernel
theorem dX11_narrowOut_100 : decode cX11_narrowOut 100 = .ok (.aload_n 0, 1) := by decide +kernel
theorem dX11_narrowOut_101 : decode cX11_narrowOut 101 = .ok (.getfield 15, 3) := by decide +kernel
theorem dX11_narrowOut_104 : decode cX11_narrowOut 104 = .ok (.iload_n 3, 1) := by decide +kernel
theorem dX11_narrowOut_105 : decode cX11_narrowOut 105 = .ok (.iconst 1, 1) := by decide +kernel
theorem dX11_narrowOut_106 : decode cX11_narrowOut 106 = .ok (.iadd, 1) := by decide +kernel
theorem dX11_narrowOut_107 : decode cX11_narrowOut 107 = .ok (.daload, 1) := by decide +kernel
theorem dX11_narrowOut_108 : decode cX11_narrowOut 108 = .ok (.d2f, 1) := by decide +kernel
theorem dX11_narrowOut_109 : decode cX11_narrowOut 109 = .ok (.fload 5, 2) := by decide +kernel
theorem dX11_narrowOut_111 : decode cX11_narrowOut 111 = .ok (.fsub, 1) := by decide +kernel
theorem dX11_narrowOut_112 : decode cX11_narrowOut 112 = .ok (.fmul, 1) := by decide +kernel
theorem dX11_narrowOut_113 : decode cX11_narrowOut 113 = .ok (.aload_n 0, 1) := by decide +kernel
theorem dX11_narrowOut_114 : decode cX11_narrowOut 114 = .ok (.getfield 9, 3) := by decide +kernel
theorem dX11_narrowOut_117 : decode cX11_narrowOut 117 = .ok (.iload_n 3, 1) := by decide +kernel
theorem dX11_narrowOut_118 : decode cX11_narrowOut 118 = .ok (.iconst 1, 1) := by decide +kernel
theorem dX11_narrowOut_119 : decode cX11_narrowOut 119 = .ok (.iadd, 1) := by decide +kernel
theorem dX11_narrowOut_120 : decode cX11_narrowOut 120 = .ok (.daload, 1) := by decide +kernel
theorem dX11_narrowOut_121 : decode cX11_narrowOut 121 = .ok (.d2f, 1) := by decide +kernel
theorem dX11_narrowOut_122 : decode cX11_narrowOut 122 = .ok (.fload 4, 2) := by decide +kernel
theorem dX11_narrowOut_124 : decode cX11_narrowOut 124 = .ok (.fsub, 1) := by decide +kernel
theorem dX11_narrowOut_125 : decode cX11_narrowOut 125 = .ok (.fdiv, 1) := by decide +kernel
theorem dX11_narrowOut_126 : decode cX11_narrowOut 126 = .ok (.fload 5, 2) := by decide +kernel
theorem dX11_narrowOut_128 : decode cX11_narrowOut 128 = .ok (.fadd, 1) := by decide +kernel
theorem dX11_narrowOut_129 : decode cX11_narrowOut 129 = .ok (.freturn, 1) := by decide +kernel
theorem dX5_wideOut_0 : decode cX5_wideOut 0 = .ok (.aload_n 0, 1) := by decide +kernel
theorem dX5_wideOut_1 : decode cX5_wideOut 1 = .ok (.getfield 7, 3) := by decide +kernel
theorem dX5_wideOut_4 : decode cX5_wideOut 4 = .ok (.dreturn, 1) := by decide +kernel
theorem dX5_narrowOut_0 : decode cX5_narrowOut 0 = .ok (.aload_n 0, 1) := by decide +kernel
theorem dX5_narrowOut_1 : decode cX5_narrowOut 1 = .ok (.getfield 13, 3) := by decide +kernel
theorem dX5_narrowOut_4 : decode cX5_narrowOut 4 = .ok (.freturn, 1) := by decide +kernel
theorem xt_X11_wideOut (l : Launch) (D : va_G) (dA : Nat → ClassId) (C : tp_C) (d : md_T) (j : xj_T) (m : Nat) (t : Int32) (hC : mOK C) (hm : m < cN C) (hk : cK C m = 7) (hV : vOK C) (hR : rOK d) (hI : okM C m) (ht : dI d 44 = t) : xC l D dA yX11_wideOut cX11_wideOut 5 (some .double) 1 [.ref (jA j (xr m 0)), .int t] C d j (some (.double (xoD C d m))) C (mkL C d m) j := by
  refine xx_start (own := RX11) (by decide) rfl (Nat.le_of_ble_eq_true rfl) ?_
  intro p0 e0 s0 mid bl0 me0 co0 ls S hr hlk G hl
  have hx := S.1; have hb := S.2.1; have hml := S.2.2.1; have hown := S.2.2.2.1; have hts := S.2.2.2.2; have hN := hC.n
  have hl : lv_has ls 5 [(0, .ref (jA j (xr m 0))), (1, .int t)] := hl
  obtain ⟨k0, f0⟩ := hi_0 hI.1 (by rw [hk]; decide) (by rw [hk]; decide)
  have hp8 := hC.p m
  have hP := hI.2 hk
  have L1 : ∀ (hle : fx_le (cX C m (cP C m - 1)) (inD C (dAD d 19) m 0) = false) (n_ : Nat) (i : Nat), (i + 1 < cP C m) → (cP C m ≤ i + n_) → (∀ j, j < i → tbP (cX C m) (inD C (dAD d 19) m 0) j = false) → ∀ (H : Heap) (locs : List Loc) (ls : Array Slot), xG D dA (xA dA C d j) C d j s0 H locs → lv_has ls 5 [(4, .int (nI i)), (2, .double (inD C (dAD d 19) m 0)), (0, .ref (jA j (xr m 0))), (1, .int t)] → (∀ (i : Nat) (H : Heap) (locs : List Loc) (ls : Array Slot), (i + 1 < cP C m) → (fi_ (tbP (cX C m) (inD C (dAD d 19) m 0)) 8 = some i) → xG D dA (xA dA C d j) C d j s0 H locs → lv_has ls 5 [(4, .int (nI i)), (2, .double (inD C (dAD d 19) m 0)), (0, .ref (jA j (xr m 0))), (1, .int t)] → W p0 l e0 (rm_ 1) s0 mid ([.ref (jA j (xr m 0)), .int t] : List Value).toArray bl0 me0 co0 H locs 0 0 (MQ bl0 (xQ D dA C d j (some (.double (xoD C d m))) C (mkL C d m) j) ([.ref (jA j (xr m 0)), .int t] : List Value).toArray s0 0 0 (xA dA C d j)) (F0 mid 75 ls [])) → W p0 l e0 (rm_ 1) s0 mid ([.ref (jA j (xr m 0)), .int t] : List Value).toArray bl0 me0 co0 H locs 0 0 (MQ bl0 (xQ D dA C d j (some (.double (xoD C d m))) C (mkL C d m) j) ([.ref (jA j (xr m 0)), .int t] : List Value).toArray s0 0 0 (xA dA C d j)) (F0 mid 55 ls []) := by
    intro hle n_
    induction n_ with
    | zero => intro i h1_ h2_ hp; exfalso; omega
    | succ n_ ih =>
      intro i h1_ h2_ hp H locs ls G hl kk
      refine lv_aload_n hx hb dX11_wideOut_55 rfl (lv_at hl 2 rfl) ?_
      refine xx_getM S G (mm := m) (ref := "TwinPanel$Table") (by omega) hN (hC.k _) 11 (by rw [hk]; decide) (by rw [hk]; exact hts _ q420) (by rw [hk]; exact fun x h => h) (v := .ref (jA j (xr m 4))) (xV_7_11 hk) dX11_wideOut_56 ?_
      refine lv_iload hx hb dX11_wideOut_59 (lv_at hl 0 rfl) ?_
      refine lv_iconst (v := nI 1) hx hb dX11_wideOut_61 (by decide) ?_
      refine nn_add hx hb dX11_wideOut_62 ?_
      refine xx_dald S G (r := xr m 4) (xr_lt (by decide) (Nat.lt_of_lt_of_le (by omega) hN)) (xW_m (by decide) (by omega) (xME_7_4 hk)) 2 rfl (i := i + 1) (by omega) (by decide) (v := cX C m (i + 1)) rfl dX11_wideOut_63 ?_
      refine lv_dload_n hx hb dX11_wideOut_64 rfl (lv_at hl 1 rfl) ?_
      refine fx_jggt (tgt := 75) hx hb dX11_wideOut_65 dX11_wideOut_66 (by decide) (fun c_66 => ?_) (fun c_66 => ?_)
      · exact kk i H locs ls h1_ (fi_some (by omega) (by simp [tbP, c_66]) hp) G (lv_sub hl [0, 1, 2, 3] rfl)
      · refine lv_iinc (v := nI (i + 1)) (lv' := [(4, .int (nI (i + 1))), (2, .double (inD C (dAD d 19) m 0)), (0, .ref (jA j (xr m 0))), (1, .int t)]) hx hb dX11_wideOut_69 hl (k := 0) rfl (nI_1 _) (by decide) rfl (fun ls hl => ?_)
        refine lv_goto (tgt := 55) hx hb dX11_wideOut_72 (by decide) ?_
        exact ih (i + 1) (Nat.lt_of_le_of_ne (by omega) (fun e => nb_tf c_66 (by rw [show i + 1 = cP C m - 1 by omega]; exact hle))) (by omega) (lt_sB hp (by simp [tbP, c_66])) H locs ls G (lv_sub hl [0, 1, 2, 3] rfl) kk
  refine lv_aload_n hx hb dX11_wideOut_0 rfl (lv_at hl 0 rfl) ?_
  refine lv_iconst (v := nI 0) hx hb dX11_wideOut_1 (by decide) ?_
  refine xx_callM (mm := m) (As := [.int (nI 0)]) (rest := []) S G (by omega) hN (hC.k _) (xt_X2_wideIn l D dA C d j m 0 hC (by omega) (by decide) f0) (xx_cw hts q851 q852 (by rw [hk]; exact q853) q749 q58 q750 rfl hu_Module_wideIn ⟨Nat.le_of_ble_eq_true rfl, Nat.le_of_ble_eq_true rfl⟩) rfl hl.1 rfl (Nat.le_of_ble_eq_true rfl) dX11_wideOut_2 ⟨Nat.zero_le _, Nat.zero_le _⟩ (fun H locs G => ?_)
  refine W.eq (g2 := F0 mid 5 ls [.double (inD C (dAD d 19) m 0)]) rfl ?_
  refine lv_dstore_n (lv' := [(2, .double (inD C (dAD d 19) m 0)), (0, .ref (jA j (xr m 0))), (1, .int t)]) hx hb dX11_wideOut_5 rfl hl (by decide) rfl (fun ls hl => ?_)
  refine lv_dload_n hx hb dX11_wideOut_6 rfl (lv_at hl 0 rfl) ?_
  refine lv_aload_n hx hb dX11_wideOut_7 rfl (lv_at hl 1 rfl) ?_
  refine xx_getM S G (mm := m) (ref := "TwinPanel$Table") (by omega) hN (hC.k _) 11 (by rw [hk]; decide) (by rw [hk]; exact hts _ q420) (by rw [hk]; exact fun x h => h) (v := .ref (jA j (xr m 4))) (xV_7_11 hk) dX11_wideOut_8 ?_
  refine lv_iconst (v := nI 0) hx hb dX11_wideOut_11 (by decide) ?_
  refine xx_dald S G (r := xr m 4) (xr_lt (by decide) (Nat.lt_of_lt_of_le (by omega) hN)) (xW_m (by decide) (by omega) (xME_7_4 hk)) 2 rfl (i := 0) (by omega) (by decide) (v := cX C m 0) rfl dX11_wideOut_12 ?_
  refine fx_jggt (tgt := 24) hx hb dX11_wideOut_13 dX11_wideOut_14 (by decide) (fun c_14 => ?_) (fun c_14 => ?_)
  · refine lv_dload_n hx hb dX11_wideOut_24 rfl (lv_at hl 0 rfl) ?_
    refine lv_aload_n hx hb dX11_wideOut_25 rfl (lv_at hl 1 rfl) ?_
    refine xx_getM S G (mm := m) (ref := "TwinPanel$Table") (by omega) hN (hC.k _) 11 (by rw [hk]; decide) (by rw [hk]; exact hts _ q420) (by rw [hk]; exact fun x h => h) (v := .ref (jA j (xr m 4))) (xV_7_11 hk) dX11_wideOut_26 ?_
    refine lv_aload_n hx hb dX11_wideOut_29 rfl (lv_at hl 1 rfl) ?_
    refine xx_getM S G (mm := m) (ref := "TwinPanel$Table") (by omega) hN (hC.k _) 13 (by rw [hk]; decide) (by rw [hk]; exact hts _ q424) (by rw [hk]; exact fun x h => h) (v := .int (nI (cP C m))) (xV_7_13 hk) dX11_wideOut_30 ?_
    refine lv_iconst (v := nI 1) hx hb dX11_wideOut_33 (by decide) ?_
    refine nn_sub hx hb (by omega) dX11_wideOut_34 ?_
    refine xx_dald S G (r := xr m 4) (xr_lt (by decide) (Nat.lt_of_lt_of_le (by omega) hN)) (xW_m (by decide) (by omega) (xME_7_4 hk)) 2 rfl (i := cP C m - 1) (by omega) (by decide) (v := cX C m (cP C m - 1)) rfl dX11_wideOut_35 ?_
    refine fx_jllt (tgt := 52) hx hb dX11_wideOut_36 dX11_wideOut_37 (by decide) (fun c_37 => ?_) (fun c_37 => ?_)
    · refine lv_iconst (v := nI 0) hx hb dX11_wideOut_52 (by decide) ?_
      refine lv_istore (lv' := [(4, .int (nI 0)), (2, .double (inD C (dAD d 19) m 0)), (0, .ref (jA j (xr m 0))), (1, .int t)]) hx hb dX11_wideOut_53 hl (by decide) rfl (fun ls hl => ?_)
      refine L1 (fx_nge (in_b hR.rd) (hV.x m _) c_37) (cP C m) 0 (by omega) (by omega) (fun j hj => by omega) _ _ ls G (lv_sub hl [0, 1, 2, 3] rfl) (fun i H locs ls hK hf G hl => ?_)
      refine lv_dload_n hx hb dX11_wideOut_75 rfl (lv_at hl 1 rfl) ?_
      refine lv_aload_n hx hb dX11_wideOut_76 rfl (lv_at hl 2 rfl) ?_
      refine xx_getM S G (mm := m) (ref := "TwinPanel$Table") (by omega) hN (hC.k _) 11 (by rw [hk]; decide) (by rw [hk]; exact hts _ q420) (by rw [hk]; exact fun x h => h) (v := .ref (jA j (xr m 4))) (xV_7_11 hk) dX11_wideOut_77 ?_
      refine lv_iload hx hb dX11_wideOut_80 (lv_at hl 0 rfl) ?_
      refine xx_dald S G (r := xr m 4) (xr_lt (by decide) (Nat.lt_of_lt_of_le (by omega) hN)) (xW_m (by decide) (by omega) (xME_7_4 hk)) 2 rfl (i := i) (by omega) (by decide) (v := cX C m i) rfl dX11_wideOut_82 ?_
      refine lv_dsub hx hb dX11_wideOut_83 (bD_n (bD_sub (in_b hR.rd) (hV.x _ _))) ?_
      refine lv_aload_n hx hb dX11_wideOut_84 rfl (lv_at hl 2 rfl) ?_
      refine xx_getM S G (mm := m) (ref := "TwinPanel$Table") (by omega) hN (hC.k _) 12 (by rw [hk]; decide) (by rw [hk]; exact hts _ q422) (by rw [hk]; exact fun x h => h) (v := .ref (jA j (xr m 5))) (xV_7_12 hk) dX11_wideOut_85 ?_
      refine lv_iload hx hb dX11_wideOut_88 (lv_at hl 0 rfl) ?_
      refine lv_iconst (v := nI 1) hx hb dX11_wideOut_90 (by decide) ?_
      refine nn_add hx hb dX11_wideOut_91 ?_
      refine xx_dald S G (r := xr m 5) (xr_lt (by decide) (Nat.lt_of_lt_of_le (by omega) hN)) (xW_m (by decide) (by omega) (xME_7_5 hk)) 2 rfl (i := i + 1) (by omega) (by decide) (v := cY C m (i + 1)) rfl dX11_wideOut_92 ?_
      refine lv_aload_n hx hb dX11_wideOut_93 rfl (lv_at hl 2 rfl) ?_
      refine xx_getM S G (mm := m) (ref := "TwinPanel$Table") (by omega) hN (hC.k _) 12 (by rw [hk]; decide) (by rw [hk]; exact hts _ q422) (by rw [hk]; exact fun x h => h) (v := .ref (jA j (xr m 5))) (xV_7_12 hk) dX11_wideOut_94 ?_
      refine lv_iload hx hb dX11_wideOut_97 (lv_at hl 0 rfl) ?_
      refine xx_dald S G (r := xr m 5) (xr_lt (by decide) (Nat.lt_of_lt_of_le (by omega) hN)) (xW_m (by decide) (by omega) (xME_7_5 hk)) 2 rfl (i := i) (by omega) (by decide) (v := cY C m i) rfl dX11_wideOut_99 ?_
      refine lv_dsub hx hb dX11_wideOut_100 (bD_n (bD_sub (hV.y _ _) (hV.y _ _))) ?_
      refine lv_dmul hx hb dX11_wideOut_101 (bD_n (tb_n1 hV (in_b hR.rd))) ?_
      refine lv_aload_n hx hb dX11_wideOut_102 rfl (lv_at hl 2 rfl) ?_
      refine xx_getM S G (mm := m) (ref := "TwinPanel$Table") (by omega) hN (hC.k _) 11 (by rw [hk]; decide) (by rw [hk]; exact hts _ q420) (by rw [hk]; exact fun x h => h) (v := .ref (jA j (xr m 4))) (xV_7_11 hk) dX11_wideOut_103 ?_
      refine lv_iload hx hb dX11_wideOut_106 (lv_at hl 0 rfl) ?_
      refine lv_iconst (v := nI 1) hx hb dX11_wideOut_108 (by decide) ?_
      refine nn_add hx hb dX11_wideOut_109 ?_
      refine xx_dald S G (r := xr m 4) (xr_lt (by decide) (Nat.lt_of_lt_of_le (by omega) hN)) (xW_m (by decide) (by omega) (xME_7_4 hk)) 2 rfl (i := i + 1) (by omega) (by decide) (v := cX C m (i + 1)) rfl dX11_wideOut_110 ?_
      refine lv_aload_n hx hb dX11_wideOut_111 rfl (lv_at hl 2 rfl) ?_
      refine xx_getM S G (mm := m) (ref := "TwinPanel$Table") (by omega) hN (hC.k _) 11 (by rw [hk]; decide) (by rw [hk]; exact hts _ q420) (by rw [hk]; exact fun x h => h) (v := .ref (jA j (xr m 4))) (xV_7_11 hk) dX11_wideOut_112 ?_
      refine lv_iload hx hb dX11_wideOut_115 (lv_at hl 0 rfl) ?_
      refine xx_dald S G (r := xr m 4) (xr_lt (by decide) (Nat.lt_of_lt_of_le (by omega) hN)) (xW_m (by decide) (by omega) (xME_7_4 hk)) 2 rfl (i := i) (by omega) (by decide) (v := cX C m i) rfl dX11_wideOut_117 ?_
      refine lv_dsub hx hb dX11_wideOut_118 (bD_n (bD_sub (hV.x _ _) (hV.x _ _))) ?_
      refine lv_ddiv hx hb dX11_wideOut_119 (tb_n2 hV (in_b hR.rd) hK) ?_
      refine lv_aload_n hx hb dX11_wideOut_120 rfl (lv_at hl 2 rfl) ?_
      refine xx_getM S G (mm := m) (ref := "TwinPanel$Table") (by omega) hN (hC.k _) 12 (by rw [hk]; decide) (by rw [hk]; exact hts _ q422) (by rw [hk]; exact fun x h => h) (v := .ref (jA j (xr m 5))) (xV_7_12 hk) dX11_wideOut_121 ?_
      refine lv_iload hx hb dX11_wideOut_124 (lv_at hl 0 rfl) ?_
      refine xx_dald S G (r := xr m 5) (xr_lt (by decide) (Nat.lt_of_lt_of_le (by omega) hN)) (xW_m (by decide) (by omega) (xME_7_5 hk)) 2 rfl (i := i) (by omega) (by decide) (v := cY C m i) rfl dX11_wideOut_126 ?_
      refine lv_dadd hx hb dX11_wideOut_127 (tb_n3 hV (in_b hR.rd) hK) ?_
      exact xx_dret S hr hlk G (by simp [xoD, mkD, mkL, hk, a0D_in f0, tbD, tbK, tbV, hf, c_14, c_37]) (xL_e rfl (by simp [xoD, mkD, mkL, hk, a0D_in f0, tbD, tbK, tbV, hf, c_14, c_37]) rfl) dX11_wideOut_128
    · refine lv_aload_n hx hb dX11_wideOut_40 rfl (lv_at hl 1 rfl) ?_
      refine xx_getM S G (mm := m) (ref := "TwinPanel$Table") (by omega) hN (hC.k _) 12 (by rw [hk]; decide) (by rw [hk]; exact hts _ q422) (by rw [hk]; exact fun x h => h) (v := .ref (jA j (xr m 5))) (xV_7_12 hk) dX11_wideOut_41 ?_
      refine lv_aload_n hx hb dX11_wideOut_44 rfl (lv_at hl 1 rfl) ?_
      refine xx_getM S G (mm := m) (ref := "TwinPanel$Table") (by omega) hN (hC.k _) 13 (by rw [hk]; decide) (by rw [hk]; exact hts _ q424) (by rw [hk]; exact fun x h => h) (v := .int (nI (cP C m))) (xV_7_13 hk) dX11_wideOut_45 ?_
      refine lv_iconst (v := nI 1) hx hb dX11_wideOut_48 (by decide) ?_
      refine nn_sub hx hb (by omega) dX11_wideOut_49 ?_
      refine xx_dald S G (r := xr m 5) (xr_lt (by decide) (Nat.lt_of_lt_of_le (by omega) hN)) (xW_m (by decide) (by omega) (xME_7_5 hk)) 2 rfl (i := cP C m - 1) (by omega) (by decide) (v := cY C m (cP C m - 1)) rfl dX11_wideOut_50 ?_
      exact xx_dret S hr hlk G (by simp [xoD, mkD, mkL, hk, a0D_in f0, tbD, c_14, c_37]) (xL_e rfl (by simp [xoD, mkD, mkL, hk, a0D_in f0, tbD, c_14, c_37]) rfl) dX11_wideOut_51
  · refine lv_aload_n hx hb dX11_wideOut_17 rfl (lv_at hl 1 rfl) ?_
    refine xx_getM S G (mm := m) (ref := "TwinPanel$Table") (by omega) hN (hC.k _) 12 (by rw [hk]; decide) (by rw [hk]; exact hts _ q422) (by rw [hk]; exact fun x h => h) (v := .ref (jA j (xr m 5))) (xV_7_12 hk) dX11_wideOut_18 ?_
    refine lv_iconst (v := nI 0) hx hb dX11_wideOut_21 (by decide) ?_
    refine xx_dald S G (r := xr m 5) (xr_lt (by decide) (Nat.lt_of_lt_of_le (by omega) hN)) (xW_m (by decide) (by omega) (xME_7_5 hk)) 2 rfl (i := 0) (by omega) (by decide) (v := cY C m 0) rfl dX11_wideOut_22 ?_
    exact xx_dret S hr hlk G (by simp [xoD, mkD, mkL, hk, a0D_in f0, tbD, c_14]) (xL_e rfl (by simp [xoD, mkD, mkL, hk, a0D_in f0, tbD, c_14]) rfl) dX11_wideOut_23
theorem xt_X11_narrowOut (l : Launch) (D : va_G) (dA : Nat → ClassId) (C : tp_C) (d : md_T) (j : xj_T) (m : Nat) (t : Int32) (hC : mOK C) (hm : m < cN C) (hk : cK C m = 7) (hV : vOK C) (hR : rOK d) (hI : okM C m) (ht : dI d 44 = t) : xC l D dA yX11_narrowOut cX11_narrowOut 6 (some .float) 1 [.ref (jA j (xr m 0)), .int t] C d j (some (.float (xoF C d m))) C (mkLF C d m) j := by
  refine xx_start (own := RX11) (by decide) rfl (Nat.le_of_ble_eq_true rfl) ?_
  intro p0 e0 s0 mid bl0 me0 co0 ls S hr hlk G hl
  have hx := S.1; have hb := S.2.1; have hml := S.2.2.1; have hown := S.2.2.2.1; have hts := S.2.2.2.2; have hN := hC.n
  have hl : lv_has ls 6 [(0, .ref (jA j (xr m 0))), (1, .int t)] := hl
  obtain ⟨k0, f0⟩ := hi_0 hI.1 (by rw [hk]; decide) (by rw [hk]; decide)
  have hp8 := hC.p m
  have hP := hI.2 hk
  have L1 : ∀ (hle : fy_le (xF C m (cP C m - 1)) (inF C (dAF d 20) m 0) = false) (n_ : Nat) (i : Nat), (i + 1 < cP C m) → (cP C m ≤ i + n_) → (∀ j, j < i → tfP (xF C m) (inF C (dAF d 20) m 0) j = false) → ∀ (H : Heap) (locs : List Loc) (ls : Array Slot), xG D dA (xA dA C d j) C d j s0 H locs → lv_has ls 6 [(3, .int (nI i)), (2, .float (inF C (dAF d 20) m 0)), (0, .ref (jA j (xr m 0))), (1, .int t)] → (∀ (i : Nat) (H : Heap) (locs : List Loc) (ls : Array Slot), (i + 1 < cP C m) → (fi_ (tfP (xF C m) (inF C (dAF d 20) m 0)) 8 = some i) → xG D dA (xA dA C d j) C d j s0 H locs → lv_has ls 6 [(3, .int (nI i)), (2, .float (inF C (dAF d 20) m 0)), (0, .ref (jA j (xr m 0))), (1, .int t)] → W p0 l e0 (rm_ 1) s0 mid ([.ref (jA j (xr m 0)), .int t] : List Value).toArray bl0 me0 co0 H locs 0 0 (MQ bl0 (xQ D dA C d j (some (.float (xoF C d m))) C (mkLF C d m) j) ([.ref (jA j (xr m 0)), .int t] : List Value).toArray s0 0 0 (xA dA C d j)) (F0 mid 78 ls [])) → W p0 l e0 (rm_ 1) s0 mid ([.ref (jA j (xr m 0)), .int t] : List Value).toArray bl0 me0 co0 H locs 0 0 (MQ bl0 (xQ D dA C d j (some (.float (xoF C d m))) C (mkLF C d m) j) ([.ref (jA j (xr m 0)), .int t] : List Value).toArray s0 0 0 (xA dA C d j)) (F0 mid 58 ls []) := by
    intro hle n_
    induction n_ with
    | zero => intro i h1_ h2_ hp; exfalso; omega
    | succ n_ ih =>
      intro i h1_ h2_ hp H locs ls G hl kk
      refine lv_aload_n hx hb dX11_narrowOut_58 rfl (lv_at hl 2 rfl) ?_
      refine xx_getM S G (mm := m) (ref := "TwinPanel$Table") (by omega) hN (hC.k _) 11 (by rw [hk]; decide) (by rw [hk]; exact hts _ q420) (by rw [hk]; exact fun x h => h) (v := .ref (jA j (xr m 4))) (xV_7_11 hk) dX11_narrowOut_59 ?_
      refine lv_iload_n hx hb dX11_narrowOut_62 rfl (lv_at hl 0 rfl) ?_
      refine lv_iconst (v := nI 1) hx hb dX11_narrowOut_63 (by decide) ?_
      refine nn_add hx hb dX11_narrowOut_64 ?_
      refine xx_dald S G (r := xr m 4) (xr_lt (by decide) (Nat.lt_of_lt_of_le (by omega) hN)) (xW_m (by decide) (by omega) (xME_7_4 hk)) 2 rfl (i := i + 1) (by omega) (by decide) (v := cX C m (i + 1)) rfl dX11_narrowOut_65 ?_
      refine lv_d2f hx hb dX11_narrowOut_66 (bF_n (xF_b hV _ _)) ?_
      refine w_st (st' := [.float (xF C m (i + 1))]) (by rfl) ?_
      refine lv_fload_n hx hb dX11_narrowOut_67 rfl (lv_at hl 1 rfl) ?_
      refine fy_jggt (tgt := 78) hx hb dX11_narrowOut_68 dX11_narrowOut_69 (by decide) (fun c_69 => ?_) (fun c_69 => ?_)
      · exact kk i H locs ls h1_ (fi_some (by omega) (by simp [tfP, c_69]) hp) G (lv_sub hl [0, 1, 2, 3] rfl)
      · refine lv_iinc (v := nI (i + 1)) (lv' := [(3, .int (nI (i + 1))), (2, .float (inF C (dAF d 20) m 0)), (0, .ref (jA j (xr m 0))), (1, .int t)]) hx hb dX11_narrowOut_72 hl (k := 0) rfl (nI_1 _) (by decide) rfl (fun ls hl => ?_)
        refine lv_goto (tgt := 58) hx hb dX11_narrowOut_75 (by decide) ?_
        exact ih (i + 1) (Nat.lt_of_le_of_ne (by omega) (fun e => nb_tf c_69 (by rw [show i + 1 = cP C m - 1 by omega]; exact hle))) (by omega) (lt_sB hp (by simp [tfP, c_69])) H locs ls G (lv_sub hl [0, 1, 2, 3] rfl) kk
  refine lv_aload_n hx hb dX11_narrowOut_0 rfl (lv_at hl 0 rfl) ?_
  refine lv_iconst (v := nI 0) hx hb dX11_narrowOut_1 (by decide) ?_
  refine xx_callM (mm := m) (As := [.int (nI 0)]) (rest := []) S G (by omega) hN (hC.k _) (xt_X2_narrowIn l D dA C d j m 0 hC (by omega) (by decide) f0) (xx_cw hts q951 q952 (by rw [hk]; exact q953) q892 q58 q893 rfl hu_Module_narrowIn ⟨Nat.le_of_ble_eq_true rfl, Nat.le_of_ble_eq_true rfl⟩) rfl hl.1 rfl (Nat.le_of_ble_eq_true rfl) dX11_narrowOut_2 ⟨Nat.zero_le _, Nat.zero_le _⟩ (fun H locs G => ?_)
  refine W.eq (g2 := F0 mid 5 ls [.float (inF C (dAF d 20) m 0)]) rfl ?_
  refine lv_fstore_n (lv' := [(2, .float (inF C (dAF d 20) m 0)), (0, .ref (jA j (xr m 0))), (1, .int t)]) hx hb dX11_narrowOut_5 rfl hl (by decide) rfl (fun ls hl => ?_)
  refine lv_fload_n hx hb dX11_narrowOut_6 rfl (lv_at hl 0 rfl) ?_
  refine lv_aload_n hx hb dX11_narrowOut_7 rfl (lv_at hl 1 rfl) ?_
  refine xx_getM S G (mm := m) (ref := "TwinPanel$Table") (by omega) hN (hC.k _) 11 (by rw [hk]; decide) (by rw [hk]; exact hts _ q420) (by rw [hk]; exact fun x h => h) (v := .ref (jA j (xr m 4))) (xV_7_11 hk) dX11_narrowOut_8 ?_
  refine lv_iconst (v := nI 0) hx hb dX11_narrowOut_11 (by decide) ?_
  refine xx_dald S G (r := xr m 4) (xr_lt (by decide) (Nat.lt_of_lt_of_le (by omega) hN)) (xW_m (by decide) (by omega) (xME_7_4 hk)) 2 rfl (i := 0) (by omega) (by decide) (v := cX C m 0) rfl dX11_narrowOut_12 ?_
  refine lv_d2f hx hb dX11_narrowOut_13 (bF_n (xF_b hV _ _)) ?_
  refine w_st (st' := [.float (xF C m 0), .float (inF C (dAF d 20) m 0)]) (by rfl) ?_
  refine fy_jggt (tgt := 26) hx hb dX11_narrowOut_14 dX11_narrowOut_15 (by decide) (fun c_15 => ?_) (fun c_15 => ?_)
  · refine lv_fload_n hx hb dX11_narrowOut_26 rfl (lv_at hl 0 rfl) ?_
    refine lv_aload_n hx hb dX11_narrowOut_27 rfl (lv_at hl 1 rfl) ?_
    refine xx_getM S G (mm := m) (ref := "TwinPanel$Table") (by omega) hN (hC.k _) 11 (by rw [hk]; decide) (by rw [hk]; exact hts _ q420) (by rw [hk]; exact fun x h => h) (v := .ref (jA j (xr m 4))) (xV_7_11 hk) dX11_narrowOut_28 ?_
    refine lv_aload_n hx hb dX11_narrowOut_31 rfl (lv_at hl 1 rfl) ?_
    refine xx_getM S G (mm := m) (ref := "TwinPanel$Table") (by omega) hN (hC.k _) 13 (by rw [hk]; decide) (by rw [hk]; exact hts _ q424) (by rw [hk]; exact fun x h => h) (v := .int (nI (cP C m))) (xV_7_13 hk) dX11_narrowOut_32 ?_
    refine lv_iconst (v := nI 1) hx hb dX11_narrowOut_35 (by decide) ?_
    refine nn_sub hx hb (by omega) dX11_narrowOut_36 ?_
    refine xx_dald S G (r := xr m 4) (xr_lt (by decide) (Nat.lt_of_lt_of_le (by omega) hN)) (xW_m (by decide) (by omega) (xME_7_4 hk)) 2 rfl (i := cP C m - 1) (by omega) (by decide) (v := cX C m (cP C m - 1)) rfl dX11_narrowOut_37 ?_
    refine lv_d2f hx hb dX11_narrowOut_38 (bF_n (xF_b hV _ _)) ?_
    refine w_st (st' := [.float (xF C m (cP C m - 1)), .float (inF C (dAF d 20) m 0)]) (by rfl) ?_
    refine fy_jllt (tgt := 56) hx hb dX11_narrowOut_39 dX11_narrowOut_40 (by decide) (fun c_40 => ?_) (fun c_40 => ?_)
    · refine lv_iconst (v := nI 0) hx hb dX11_narrowOut_56 (by decide) ?_
      refine lv_istore_n (lv' := [(3, .int (nI 0)), (2, .float (inF C (dAF d 20) m 0)), (0, .ref (jA j (xr m 0))), (1, .int t)]) hx hb dX11_narrowOut_57 rfl hl (by decide) rfl (fun ls hl => ?_)
      refine L1 (fy_nge (in_bF hR.rf) (xF_b hV m _) c_40) (cP C m) 0 (by omega) (by omega) (fun j hj => by omega) _ _ ls G (lv_sub hl [0, 1, 2, 3] rfl) (fun i H locs ls hK hf G hl => ?_)
      refine lv_aload_n hx hb dX11_narrowOut_78 rfl (lv_at hl 2 rfl) ?_
      refine xx_getM S G (mm := m) (ref := "TwinPanel$Table") (by omega) hN (hC.k _) 11 (by rw [hk]; decide) (by rw [hk]; exact hts _ q420) (by rw [hk]; exact fun x h => h) (v := .ref (jA j (xr m 4))) (xV_7_11 hk) dX11_narrowOut_79 ?_
      refine lv_iload_n hx hb dX11_narrowOut_82 rfl (lv_at hl 0 rfl) ?_
      refine xx_dald S G (r := xr m 4) (xr_lt (by decide) (Nat.lt_of_lt_of_le (by omega) hN)) (xW_m (by decide) (by omega) (xME_7_4 hk)) 2 rfl (i := i) (by omega) (by decide) (v := cX C m i) rfl dX11_narrowOut_83 ?_
      refine lv_d2f hx hb dX11_narrowOut_84 (bF_n (xF_b hV _ _)) ?_
      refine w_st (st' := [.float (xF C m i)]) (by rfl) ?_
      refine lv_fstore (lv' := [(4, .float (xF C m i)), (3, .int (nI i)), (2, .float (inF C (dAF d 20) m 0)), (0, .ref (jA j (xr m 0))), (1, .int t)]) hx hb dX11_narrowOut_85 hl (by decide) rfl (fun ls hl => ?_)
      refine lv_aload_n hx hb dX11_narrowOut_87 rfl (lv_at hl 3 rfl) ?_
      refine xx_getM S G (mm := m) (ref := "TwinPanel$Table") (by omega) hN (hC.k _) 12 (by rw [hk]; decide) (by rw [hk]; exact hts _ q422) (by rw [hk]; exact fun x h => h) (v := .ref (jA j (xr m 5))) (xV_7_12 hk) dX11_narrowOut_88 ?_
      refine lv_iload_n hx hb dX11_narrowOut_91 rfl (lv_at hl 1 rfl) ?_
      refine xx_dald S G (r := xr m 5) (xr_lt (by decide) (Nat.lt_of_lt_of_le (by omega) hN)) (xW_m (by decide) (by omega) (xME_7_5 hk)) 2 rfl (i := i) (by omega) (by decide) (v := cY C m i) rfl dX11_narrowOut_92 ?_
      refine lv_d2f hx hb dX11_narrowOut_93 (bF_n (yF_b hV _ _)) ?_
      refine w_st (st' := [.float (yF C m i)]) (by rfl) ?_
      refine lv_fstore (lv' := [(5, .float (yF C m i)), (4, .float (xF C m i)), (3, .int (nI i)), (2, .float (inF C (dAF d 20) m 0)), (0, .ref (jA j (xr m 0))), (1, .int t)]) hx hb dX11_narrowOut_94 hl (by decide) rfl (fun ls hl => ?_)
      refine lv_fload_n hx hb dX11_narrowOut_96 rfl (lv_at hl 3 rfl) ?_
      refine lv_fload hx hb dX11_narrowOut_97 (lv_at hl 1 rfl) ?_
      refine lv_fsub hx hb dX11_narrowOut_99 (bF_n (bF_sub (bF_up (in_bF hR.rf)) (xF_b hV _ _))) ?_
      refine lv_aload_n hx hb dX11_narrowOut_100 rfl (lv_at hl 4 rfl) ?_
      refine xx_getM S G (mm := m) (ref := "TwinPanel$Table") (by omega) hN (hC.k _) 12 (by rw [hk]; decide) (by rw [hk]; exact hts _ q422) (by rw [hk]; exact fun x h => h) (v := .ref (jA j (xr m 5))) (xV_7_12 hk) dX11_narrowOut_101 ?_
      refine lv_iload_n hx hb dX11_narrowOut_104 rfl (lv_at hl 2 rfl) ?_
      refine lv_iconst (v := nI 1) hx hb dX11_narrowOut_105 (by decide) ?_
      refine nn_add hx hb dX11_narrowOut_106 ?_
      refine xx_dald S G (r := xr m 5) (xr_lt (by decide) (Nat.lt_of_lt_of_le (by omega) hN)) (xW_m (by decide) (by omega) (xME_7_5 hk)) 2 rfl (i := i + 1) (by omega) (by decide) (v := cY C m (i + 1)) rfl dX11_narrowOut_107 ?_
      refine lv_d2f hx hb dX11_narrowOut_108 (bF_n (yF_b hV _ _)) ?_
      refine w_st (st' := [.float (yF C m (i + 1)), .float (FP.fsub (inF C (dAF d 20) m 0) (xF C m i))]) (by rfl) ?_
      refine lv_fload hx hb dX11_narrowOut_109 (lv_at hl 0 rfl) ?_
      refine lv_fsub hx hb dX11_narrowOut_111 (bF_n (bF_sub (yF_b hV _ _) (yF_b hV _ _))) ?_
      refine lv_fmul hx hb dX11_narrowOut_112 (bF_n (tf_n1 hV (in_bF hR.rf))) ?_
      refine lv_aload_n hx hb dX11_narrowOut_113 rfl (lv_at hl 4 rfl) ?_
      refine xx_getM S G (mm := m) (ref := "TwinPanel$Table") (by omega) hN (hC.k _) 11 (by rw [hk]; decide) (by rw [hk]; exact hts _ q420) (by rw [hk]; exact fun x h => h) (v := .ref (jA j (xr m 4))) (xV_7_11 hk) dX11_narrowOut_114 ?_
      refine lv_iload_n hx hb dX11_narrowOut_117 rfl (lv_at hl 2 rfl) ?_
      refine lv_iconst (v := nI 1) hx hb dX11_narrowOut_118 (by decide) ?_
      refine nn_add hx hb dX11_narrowOut_119 ?_
      refine xx_dald S G (r := xr m 4) (xr_lt (by decide) (Nat.lt_of_lt_of_le (by omega) hN)) (xW_m (by decide) (by omega) (xME_7_4 hk)) 2 rfl (i := i + 1) (by omega) (by decide) (v := cX C m (i + 1)) rfl dX11_narrowOut_120 ?_
      refine lv_d2f hx hb dX11_narrowOut_121 (bF_n (xF_b hV _ _)) ?_
      refine w_st (st' := [.float (xF C m (i + 1)), .float (FP.fmul (FP.fsub (inF C (dAF d 20) m 0) (xF C m i)) (FP.fsub (yF C m (i + 1)) (yF C m i)))]) (by rfl) ?_
      refine lv_fload hx hb dX11_narrowOut_122 (lv_at hl 1 rfl) ?_
      refine lv_fsub hx hb dX11_narrowOut_124 (bF_n (bF_sub (xF_b hV _ _) (xF_b hV _ _))) ?_
      refine lv_fdiv hx hb dX11_narrowOut_125 (tf_n2 hV (in_bF hR.rf) hK) ?_
      refine lv_fload hx hb dX11_narrowOut_126 (lv_at hl 0 rfl) ?_
      refine lv_fadd hx hb dX11_narrowOut_128 (tf_n3 hV (in_bF hR.rf) hK) ?_
      exact xx_fret S hr hlk G (by simp [xoF, mkF, mkLF, hk, a0F_in f0, tbF, tfK, tfV, hf, c_15, c_40]) (xL_e rfl (by simp [xoF, mkF, mkLF, hk, a0F_in f0, tbF, tfK, tfV, hf, c_15, c_40]) rfl) dX11_narrowOut_129
    · refine lv_aload_n hx hb dX11_narrowOut_43 rfl (lv_at hl 1 rfl) ?_
      refine xx_getM S G (mm := m) (ref := "TwinPanel$Table") (by omega) hN (hC.k _) 12 (by rw [hk]; decide) (by rw [hk]; exact hts _ q422) (by rw [hk]; exact fun x h => h) (v := .ref (jA j (xr m 5))) (xV_7_12 hk) dX11_narrowOut_44 ?_
      refine lv_aload_n hx hb dX11_narrowOut_47 rfl (lv_at hl 1 rfl) ?_
      refine xx_getM S G (mm := m) (ref := "TwinPanel$Table") (by omega) hN (hC.k _) 13 (by rw [hk]; decide) (by rw [hk]; exact hts _ q424) (by rw [hk]; exact fun x h => h) (v := .int (nI (cP C m))) (xV_7_13 hk) dX11_narrowOut_48 ?_
      refine lv_iconst (v := nI 1) hx hb dX11_narrowOut_51 (by decide) ?_
      refine nn_sub hx hb (by omega) dX11_narrowOut_52 ?_
      refine xx_dald S G (r := xr m 5) (xr_lt (by decide) (Nat.lt_of_lt_of_le (by omega) hN)) (xW_m (by decide) (by omega) (xME_7_5 hk)) 2 rfl (i := cP C m - 1) (by omega) (by decide) (v := cY C m (cP C m - 1)) rfl dX11_narrowOut_53 ?_
      refine lv_d2f hx hb dX11_narrowOut_54 (bF_n (yF_b hV _ _)) ?_
      refine w_st (st' := [.float (yF C m (cP C m - 1))]) (by rfl) ?_
      exact xx_fret S hr hlk G (by simp [xoF, mkF, mkLF, hk, a0F_in f0, tbF, c_15, c_40]) (xL_e rfl (by simp [xoF, mkF, mkLF, hk, a0F_in f0, tbF, c_15, c_40]) rfl) dX11_narrowOut_55
  · refine lv_aload_n hx hb dX11_narrowOut_18 rfl (lv_at hl 1 rfl) ?_
    refine xx_getM S G (mm := m) (ref := "TwinPanel$Table") (by omega) hN (hC.k _) 12 (by rw [hk]; decide) (by rw [hk]; exact hts _ q422) (by rw [hk]; exact fun x h => h) (v := .ref (jA j (xr m 5))) (xV_7_12 hk) dX11_narrowOut_19 ?_
    refine lv_iconst (v := nI 0) hx hb dX11_narrowOut_22 (by decide) ?_
    refine xx_dald S G (r := xr m 5) (xr_lt (by decide) (Nat.lt_of_lt_of_le (by omega) hN)) (xW_m (by decide) (by omega) (xME_7_5 hk)) 2 rfl (i := 0) (by omega) (by decide) (v := cY C m 0) rfl dX11_narrowOut_23 ?_
    refine lv_d2f hx hb dX11_narrowOut_24 (bF_n (yF_b hV _ _)) ?_
    refine w_st (st' := [.float (yF C m 0)]) (by rfl) ?_
    exact xx_fret S hr hlk G (by simp [xoF, mkF, mkLF, hk, a0F_in f0, tbF, c_15]) (xL_e rfl (by simp [xoF, mkF, mkLF, hk, a0F_in f0, tbF, c_15]) rfl) dX11_narrowOut_25
theorem xt_X5_wideOut_2 (l : Launch) (D : va_G) (dA : Nat → ClassId) (C : tp_C) (d : md_T) (j : xj_T) (m : Nat) (t : Int32) (hC : mOK C) (hm : m < cN C) (hk : cK C m = 2) (hV : vOK C) (hR : rOK d) (hI : okM C m) (ht : dI d 44 = t) (hJ : jOK C d j) : xC l D dA yX5_wideOut cX5_wideOut 2 (some .double) 0 [.ref (jA j (xr m 0)), .int t] C d j (some (.double (xoD C d m))) C (mkL C d m) j := by
  refine xx_start (own := RX5) (by decide) rfl (Nat.le_of_ble_eq_true rfl) ?_
  intro p0 e0 s0 mid bl0 me0 co0 ls S hr hlk G hl
  have hx := S.1; have hb := S.2.1; have hml := S.2.2.1; have hown := S.2.2.2.1; have hts := S.2.2.2.2; have hN := hC.n
  have hl : lv_has ls 2 [(0, .ref (jA j (xr m 0))), (1, .int t)] := hl
  refine lv_aload_n hx hb dX5_wideOut_0 rfl (lv_at hl 0 rfl) ?_
  refine xx_getM S G (mm := m) (ref := "TwinPanel$Keeper") (by omega) hN (hC.k _) 11 (by rw [hk]; decide) (by rw [hk]; exact hts _ q291) (by rw [hk]; exact fun x h => h) (v := .double (dAD d 17 m)) (xV_2_11 hk) dX5_wideOut_1 ?_
  exact xx_dret S hr hlk G (by simp [xoD, mkD, mkL, hk]) (xL_e rfl (by simp [xoD, mkD, mkL, hk]) rfl) dX5_wideOut_4
theorem xt_X5_narrowOut_2 (l : Launch) (D : va_G) (dA : Nat → ClassId) (C : tp_C) (d : md_T) (j : xj_T) (m : Nat) (t : Int32) (hC : mOK C) (hm : m < cN C) (hk : cK C m = 2) (hV : vOK C) (hR : rOK d) (hI : okM C m) (ht : dI d 44 = t) (hJ : jOK C d j) : xC l D dA yX5_narrowOut cX5_narrowOut 2 (some .float) 0 [.ref (jA j (xr m 0)), .int t] C d j (some (.float (xoF C d m))) C (mkLF C d m) j := by
  refine xx_start (own := RX5) (by decide) rfl (Nat.le_of_ble_eq_true rfl) ?_
  intro p0 e0 s0 mid bl0 me0 co0 ls S hr hlk G hl
  have hx := S.1; have hb := S.2.1; have hml := S.2.2.1; have hown := S.2.2.2.1; have hts := S.2.2.2.2; have hN := hC.n
  have hl : lv_has ls 2 [(0, .ref (jA j (xr m 0))), (1, .int t)] := hl
  refine lv_aload_n hx hb dX5_narrowOut_0 rfl (lv_at hl 0 rfl) ?_
  refine xx_getM S G (mm := m) (ref := "TwinPanel$Keeper") (by omega) hN (hC.k _) 12 (by rw [hk]; decide) (by rw [hk]; exact hts _ q302) (by rw [hk]; exact fun x h => h) (v := .float (dAF d 18 m)) (xV_2_12 hk) dX5_narrowOut_1 ?_
  exact xx_fret S hr hlk G (by simp [xoF, mkF, mkLF, hk]) (xL_e rfl (by simp [xoF, mkF, mkLF, hk]) rfl) dX5_narrowOut_4
theorem xt_X5_wideOut_3 (l : Launch) (D : va_G) (dA : Nat → ClassId) (C : tp_C) (d : md_T) (j : xj_T) (m : Nat) (t : Int32) (hC : mOK C) (hm : m < cN C) (hk : cK C m = 3) (hV : vOK C) (hR : rOK d) (hI : okM C m) (ht : dI d 44 = t) (hJ : jOK C d j) : xC l D dA yX5_wideOut cX5_wideOut 2 (some .double) 0 [.ref (jA j (xr m 0)), .int t] C d j (some (.double (xoD C d m))) C (mkL C d m) j := by
  refine xx_start (own := RX5) (by decide) rfl (Nat.le_of_ble_eq_true rfl) ?_
  intro p0 e0 s0 mid bl0 me0 co0 ls S hr hlk G hl
  have hx := S.1; have hb := S.2.1; have hml := S.2.2.1; have hown := S.2.2.2.1; have hts := S.2.2.2.2; have hN := hC.n
  have hl : lv_has ls 2 [(0, .ref (jA j (xr m 0))), (1, .int t)] := hl
  refine lv_aload_n hx hb dX5_wideOut_0 rfl (lv_at hl 0 rfl) ?_
  refine xx_getM S G (mm := m) (ref := "TwinPanel$Keeper") (by omega) hN (hC.k _) 11 (by rw [hk]; decide) (by rw [hk]; exact hts _ q291) (by rw [hk]; exact fun x h => h) (v := .double (dAD d 17 m)) (xV_3_11 hk) dX5_wideOut_1 ?_
  exact xx_dret S hr hlk G (by simp [xoD, mkD, mkL, hk]) (xL_e rfl (by simp [xoD, mkD, mkL, hk]) rfl) dX5_wideOut_4
theorem xt_X5_narrowOut_3 (l : Launch) (D : va_G) (dA : Nat → ClassId) (C : tp_C) (d : md_T) (j : xj_T) (m : Nat) (t : Int32) (hC : mOK C) (hm : m < cN C) (hk : cK C m = 3) (hV : vOK C) (hR : rOK d) (hI : okM C m) (ht : dI d 44 = t) (hJ : jOK C d j) : xC l D dA yX5_narrowOut cX5_narrowOut 2 (some .float) 0 [.ref (jA j (xr m 0)), .int t] C d j (some (.float (xoF C d m))) C (mkLF C d m) j := by
  refine xx_start (own := RX5) (by decide) rfl (Nat.le_of_ble_eq_true rfl) ?_
  intro p0 e0 s0 mid bl0 me0 co0 ls S hr hlk G hl
  have hx := S.1; have hb := S.2.1; have hml := S.2.2.1; have hown := S.2.2.2.1; have hts := S.2.2.2.2; have hN := hC.n
  have hl : lv_has ls 2 [(0, .ref (jA j (xr m 0))), (1, .int t)] := hl
  refine lv_aload_n hx hb dX5_narrowOut_0 rfl (lv_at hl 0 rfl) ?_
  refine xx_getM S G (mm := m) (ref := "TwinPanel$Keeper") (by omega) hN (hC.k _) 12 (by rw [hk]; decide) (by rw [hk]; exact hts _ q302) (by rw [hk]; exact fun x h => h) (v := .float (dAF d 18 m)) (xV_3_12 hk) dX5_narrowOut_1 ?_
  exact xx_fret S hr hlk G (by simp [xoF, mkF, mkLF, hk]) (xL_e rfl (by simp [xoF, mkF, mkLF, hk]) rfl) dX5_narrowOut_4
theorem xt_X5_wideOut_11 (l : Launch) (D : va_G) (dA : Nat → ClassId) (C : tp_C) (d : md_T) (j : xj_T) (m : Nat) (t : Int32) (hC : mOK C) (hm : m < cN C) (hk : cK C m = 11) (hV : vOK C) (hR : rOK d) (hI : okM C m) (ht : dI d 44 = t) (hJ : jOK C d j) : xC l D dA yX5_wideOut cX5_wideOut 2 (some .double) 0 [.ref (jA j (xr m 0)), .int t] C d j (some (.double (xoD C d m))) C (mkL C d m) j := by
  refine xx_start (own := RX5) (by decide) rfl (Nat.le_of_ble_eq_true rfl) ?_
  intro p0 e0 s0 mid bl0 me0 co0 ls S hr hlk G hl
  have hx := S.1; have hb := S.2.1; have hml := S.2.2.1; have hown := S.2.2.2.1; have hts := S.2.2.2.2; have hN := hC.n
  have hl : lv_has ls 2 [(0, .ref (jA j (xr m 0))), (1, .int t)] := hl
  refine lv_aload_n hx hb dX5_wideOut_0 rfl (lv_at hl 0 rfl) ?_
  refine xx_getM S G (mm := m) (ref := "TwinPanel$Keeper") (by omega) hN (hC.k _) 11 (by rw [hk]; decide) (by rw [hk]; exact hts _ q291) (by rw [hk]; exact fun x h => h) (v := .double (jWf j m)) (xV_11_11 hk) dX5_wideOut_1 ?_
  exact xx_dret S hr hlk G (by simp [xoD, mkD, mkL, hk, (hJ m hk).1]) (xL_e rfl (by simp [xoD, mkD, mkL, hk, (hJ m hk).1]) rfl) dX5_wideOut_4
theorem xt_X5_narrowOut_11 (l : Launch) (D : va_G) (dA : Nat → ClassId) (C : tp_C) (d : md_T) (j : xj_T) (m : Nat) (t : Int32) (hC : mOK C) (hm : m < cN C) (hk : cK C m = 11) (hV : vOK C) (hR : rOK d) (hI : okM C m) (ht : dI d 44 = t) (hJ : jOK C d j) : xC l D dA yX5_narrowOut cX5_narrowOut 2 (some .float) 0 [.ref (jA j (xr m 0)), .int t] C d j (some (.float (xoF C d m))) C (mkLF C d m) j := by
  refine xx_start (own := RX5) (by decide) rfl (Nat.le_of_ble_eq_true rfl) ?_
  intro p0 e0 s0 mid bl0 me0 co0 ls S hr hlk G hl
  have hx := S.1; have hb := S.2.1; have hml := S.2.2.1; have hown := S.2.2.2.1; have hts := S.2.2.2.2; have hN := hC.n
  have hl : lv_has ls 2 [(0, .ref (jA j (xr m 0))), (1, .int t)] := hl
  refine lv_aload_n hx hb dX5_narrowOut_0 rfl (lv_at hl 0 rfl) ?_
  refine xx_getM S G (mm := m) (ref := "TwinPanel$Keeper") (by omega) hN (hC.k _) 12 (by rw [hk]; decide) (by rw [hk]; exact hts _ q302) (by rw [hk]; exact fun x h => h) (v := .float (jNf j m)) (xV_11_12 hk) dX5_narrowOut_1 ?_
  exact xx_fret S hr hlk G (by simp [xoF, mkF, mkLF, hk, (hJ m hk).2]) (xL_e rfl (by simp [xoF, mkF, mkLF, hk, (hJ m hk).2]) rfl) dX5_narrowOut_4
theorem xt_X5_wideOut_13 (l : Launch) (D : va_G) (dA : Nat → ClassId) (C : tp_C) (d : md_T) (j : xj_T) (m : Nat) (t : Int32) (hC : mOK C) (hm : m < cN C) (hk : cK C m = 13) (hV : vOK C) (hR : rOK d) (hI : okM C m) (ht : dI d 44 = t) (hJ : jOK C d j) : xC l D dA yX5_wideOut cX5_wideOut 2 (some .double) 0 [.ref (jA j (xr m 0)), .int t] C d j (some (.double (xoD C d m))) C (mkL C d m) j := by
  refine xx_start (own := RX5) (by decide) rfl (Nat.le_of_ble_eq_true rfl) ?_
  intro p0 e0 s0 mid bl0 me0 co0 ls S hr hlk G hl
  have hx := S.1; have hb := S.2.1; have hml := S.2.2.1; have hown := S.2.2.2.1; have hts := S.2.2.2.2; have hN := hC.n
  have hl : lv_has ls 2 [(0, .ref (jA j (xr m 0))), (1, .int t)] := hl
  refine lv_aload_n hx hb dX5_wideOut_0 rfl (lv_at hl 0 rfl) ?_
  refine xx_getM S G (mm := m) (ref := "TwinPanel$Keeper") (by omega) hN (hC.k _) 11 (by rw [hk]; decide) (by rw [hk]; exact hts _ q291) (by rw [hk]; exact fun x h => h) (v := .double (dAD d 17 m)) (xV_13_11 hk) dX5_wideOut_1 ?_
  exact xx_dret S hr hlk G (by simp [xoD, mkD, mkL, hk]) (xL_e rfl (by simp [xoD, mkD, mkL, hk]) rfl) dX5_wideOut_4
theorem xt_X5_narrowOut_13 (l : Launch) (D : va_G) (dA : Nat → ClassId) (C : tp_C) (d : md_T) (j : xj_T) (m : Nat) (t : Int32) (hC : mOK C) (hm : m < cN C) (hk : cK C m = 13) (hV : vOK C) (hR : rOK d) (hI : okM C m) (ht : dI d 44 = t) (hJ : jOK C d j) : xC l D dA yX5_narrowOut cX5_narrowOut 2 (some .float) 0 [.ref (jA j (xr m 0)), .int t] C d j (some (.float (xoF C d m))) C (mkLF C d m) j := by
  refine xx_start (own := RX5) (by decide) rfl (Nat.le_of_ble_eq_true rfl) ?_
  intro p0 e0 s0 mid bl0 me0 co0 ls S hr hlk G hl
  have hx := S.1; have hb := S.2.1; have hml := S.2.2.1; have hown := S.2.2.2.1; have hts := S.2.2.2.2; have hN := hC.n
  have hl : lv_has ls 2 [(0, .ref (jA j (xr m 0))), (1, .int t)] := hl
  refine lv_aload_n hx hb dX5_narrowOut_0 rfl (lv_at hl 0 rfl) ?_
  refine xx_getM S G (mm := m) (ref := "TwinPanel$Keeper") (by omega) hN (hC.k _) 12 (by rw [hk]; decide) (by rw [hk]; exact hts _ q302) (by rw [hk]; exact fun x h => h) (v := .float (dAF d 18 m)) (xV_13_12 hk) dX5_narrowOut_1 ?_
  exact xx_fret S hr hlk G (by simp [xoF, mkF, mkLF, hk]) (xL_e rfl (by simp [xoF, mkF, mkLF, hk]) rfl) dX5_narrowOut_4
