set_option maxRecDepth 100000
set_option maxHeartbeats 4000000
theorem dX0_newModule_0 : decode cX0_newModule 0 = .ok (.iload_n 0, 1) := by decide +kernel
theorem dX0_newModule_1 : decode cX0_newModule 1 = .ok (.tableswitch 197 0 12 #[67, 77, 87, 97, 107, 117, 127, 137, 147, 157, 167, 177, 187], 67) := by decide +kernel
theorem dX0_newModule_68 : decode cX0_newModule 68 = .ok (.new 1, 3) := by decide +kernel
theorem dX0_newModule_71 : decode cX0_newModule 71 = .ok (.dup, 1) := by decide +kernel
theorem dX0_newModule_72 : decode cX0_newModule 72 = .ok (.iload_n 0, 1) := by decide +kernel
theorem dX0_newModule_73 : decode cX0_newModule 73 = .ok (.dload_n 1, 1) := by decide +kernel
theorem dX0_newModule_74 : decode cX0_newModule 74 = .ok (.invokespecial 3, 3) := by decide +kernel
theorem dX0_newModule_77 : decode cX0_newModule 77 = .ok (.areturn, 1) := by decide +kernel
theorem dX0_newModule_78 : decode cX0_newModule 78 = .ok (.new 7, 3) := by decide +kernel
theorem dX0_newModule_81 : decode cX0_newModule 81 = .ok (.dup, 1) := by decide +kernel
theorem dX0_newModule_82 : decode cX0_newModule 82 = .ok (.iload_n 0, 1) := by decide +kernel
theorem dX0_newModule_83 : decode cX0_newModule 83 = .ok (.dload_n 1, 1) := by decide +kernel
theorem dX0_newModule_84 : decode cX0_newModule 84 = .ok (.invokespecial 9, 3) := by decide +kernel
theorem dX0_newModule_87 : decode cX0_newModule 87 = .ok (.areturn, 1) := by decide +kernel
theorem dX0_newModule_88 : decode cX0_newModule 88 = .ok (.new 10, 3) := by decide +kernel
theorem dX0_newModule_91 : decode cX0_newModule 91 = .ok (.dup, 1) := by decide +kernel
theorem dX0_newModule_92 : decode cX0_newModule 92 = .ok (.iload_n 0, 1) := by decide +kernel
theorem dX0_newModule_93 : decode cX0_newModule 93 = .ok (.dload_n 1, 1) := by decide +kernel
theorem dX0_newModule_94 : decode cX0_newModule 94 = .ok (.invokespecial 12, 3) := by decide +kernel
theorem dX0_newModule_97 : decode cX0_newModule 97 = .ok (.areturn, 1) := by decide +kernel
theorem dX0_newModule_98 : decode cX0_newModule 98 = .ok (.new 13, 3) := by decide +kernel
theorem dX0_newModule_101 : decode cX0_newModule 101 = .ok (.dup, 1) := by decide +kernel
theorem dX0_newModule_102 : decode cX0_newModule 102 = .ok (.iload_n 0, 1) := by decide +kernel
theorem dX0_newModule_103 : decode cX0_newModule 103 = .ok (.dload_n 1, 1) := by decide +kernel
theorem dX0_newModule_104 : decode cX0_newModule 104 = .ok (.invokespecial 15, 3) := by decide +kernel
theorem dX0_newModule_107 : decode cX0_newModule 107 = .ok (.areturn, 1) := by decide +kernel
theorem dX0_newModule_108 : decode cX0_newModule 108 = .ok (.new 16, 3) := by decide +kernel
theorem dX0_newModule_111 : decode cX0_newModule 111 = .ok (.dup, 1) := by decide +kernel
theorem dX0_newModule_112 : decode cX0_newModule 112 = .ok (.iload_n 0, 1) := by decide +kernel
theorem dX0_newModule_113 : decode cX0_newModule 113 = .ok (.dload_n 1, 1) := by decide +kernel
theorem dX0_newModule_114 : decode cX0_newModule 114 = .ok (.invokespecial 18, 3) := by decide +kernel
theorem dX0_newModule_117 : decode cX0_newModule 117 = .ok (.areturn, 1) := by decide +kernel
theorem dX0_newModule_118 : decode cX0_newModule 118 = .ok (.new 19, 3) := by decide +kernel
theorem dX0_newModule_121 : decode cX0_newModule 121 = .ok (.dup, 1) := by decide +kernel
theorem dX0_newModule_122 : decode cX0_newModule 122 = .ok (.iload_n 0, 1) := by decide +kernel
theorem dX0_newModule_123 : decode cX0_newModule 123 = .ok (.dload_n 1, 1) := by decide +kernel
theorem dX0_newModule_124 : decode cX0_newModule 124 = .ok (.invokespecial 21, 3) := by decide +kernel
theorem dX0_newModule_127 : decode cX0_newModule 127 = .ok (.areturn, 1) := by decide +kernel
theorem dX0_newModule_128 : decode cX0_newModule 128 = .ok (.new 22, 3) := by decide +kernel
theorem dX0_newModule_131 : decode cX0_newModule 131 = .ok (.dup, 1) := by decide +kernel
theorem dX0_newModule_132 : decode cX0_newModule 132 = .ok (.iload_n 0, 1) := by decide +kernel
theorem dX0_newModule_133 : decode cX0_newModule 133 = .ok (.dload_n 1, 1) := by decide +kernel
theorem dX0_newModule_134 : decode cX0_newModule 134 = .ok (.invokespecial 24, 3) := by decide +kernel
theorem dX0_newModule_137 : decode cX0_newModule 137 = .ok (.areturn, 1) := by decide +kernel
theorem dX0_newModule_138 : decode cX0_newModule 138 = .ok (.new 25, 3) := by decide +kernel
theorem dX0_newModule_141 : decode cX0_newModule 141 = .ok (.dup, 1) := by decide +kernel
theorem dX0_newModule_142 : decode cX0_newModule 142 = .ok (.iload_n 0, 1) := by decide +kernel
theorem dX0_newModule_143 : decode cX0_newModule 143 = .ok (.dload_n 1, 1) := by decide +kernel
theorem dX0_newModule_144 : decode cX0_newModule 144 = .ok (.invokespecial 27, 3) := by decide +kernel
theorem dX0_newModule_147 : decode cX0_newModule 147 = .ok (.areturn, 1) := by decide +kernel
theorem dX0_newModule_148 : decode cX0_newModule 148 = .ok (.new 28, 3) := by decide +kernel
theorem dX0_newModule_151 : decode cX0_newModule 151 = .ok (.dup, 1) := by decide +kernel
theorem dX0_newModule_152 : decode cX0_newModule 152 = .ok (.iload_n 0, 1) := by decide +kernel
theorem dX0_newModule_153 : decode cX0_newModule 153 = .ok (.dload_n 1, 1) := by decide +kernel
theorem dX0_newModule_154 : decode cX0_newModule 154 = .ok (.invokespecial 30, 3) := by decide +kernel
theorem dX0_newModule_157 : decode cX0_newModule 157 = .ok (.areturn, 1) := by decide +kernel
theorem dX0_newModule_158 : decode cX0_newModule 158 = .ok (.new 31, 3) := by decide +kernel
theorem dX0_newModule_161 : decode cX0_newModule 161 = .ok (.dup, 1) := by decide +kernel
theorem dX0_newModule_162 : decode cX0_newModule 162 = .ok (.iload_n 0, 1) := by decide +kernel
theorem dX0_newModule_163 : decode cX0_newModule 163 = .ok (.dload_n 1, 1) := by decide +kernel
theorem dX0_newModule_164 : decode cX0_newModule 164 = .ok (.invokespecial 33, 3) := by decide +kernel
theorem dX0_newModule_167 : decode cX0_newModule 167 = .ok (.areturn, 1) := by decide +kernel
theorem dX0_newModule_168 : decode cX0_newModule 168 = .ok (.new 34, 3) := by decide +kernel
theorem dX0_newModule_171 : decode cX0_newModule 171 = .ok (.dup, 1) := by decide +kernel
theorem dX0_newModule_172 : decode cX0_newModule 172 = .ok (.iload_n 0, 1) := by decide +kernel
theorem dX0_newModule_173 : decode cX0_newModule 173 = .ok (.dload_n 1, 1) := by decide +kernel
theorem dX0_newModule_174 : decode cX0_newModule 174 = .ok (.invokespecial 36, 3) := by decide +kernel
theorem dX0_newModule_177 : decode cX0_newModule 177 = .ok (.areturn, 1) := by decide +kernel
theorem dX0_newModule_178 : decode cX0_newModule 178 = .ok (.new 37, 3) := by decide +kernel
theorem dX0_newModule_181 : decode cX0_newModule 181 = .ok (.dup, 1) := by decide +kernel
theorem dX0_newModule_182 : decode cX0_newModule 182 = .ok (.iload_n 0, 1) := by decide +kernel
theorem dX0_newModule_183 : decode cX0_newModule 183 = .ok (.dload_n 1, 1) := by decide +kernel
theorem dX0_newModule_184 : decode cX0_newModule 184 = .ok (.invokespecial 39, 3) := by decide +kernel
theorem dX0_newModule_187 : decode cX0_newModule 187 = .ok (.areturn, 1) := by decide +kernel
theorem dX0_newModule_188 : decode cX0_newModule 188 = .ok (.new 40, 3) := by decide +kernel
theorem dX0_newModule_191 : decode cX0_newModule 191 = .ok (.dup, 1) := by decide +kernel
theorem dX0_newModule_192 : decode cX0_newModule 192 = .ok (.iload_n 0, 1) := by decide +kernel
theorem dX0_newModule_193 : decode cX0_newModule 193 = .ok (.dload_n 1, 1) := by decide +kernel
theorem dX0_newModule_194 : decode cX0_newModule 194 = .ok (.invokespecial 42, 3) := by decide +kernel
theorem dX0_newModule_197 : decode cX0_newModule 197 = .ok (.areturn, 1) := by decide +kernel
theorem dX0_newModule_198 : decode cX0_newModule 198 = .ok (.new 43, 3) := by decide +kernel
theorem dX0_newModule_201 : decode cX0_newModule 201 = .ok (.dup, 1) := by decide +kernel
theorem dX0_newModule_202 : decode cX0_newModule 202 = .ok (.iload_n 0, 1) := by decide +kernel
theorem dX0_newModule_203 : decode cX0_newModule 203 = .ok (.dload_n 1, 1) := by decide +kernel
theorem dX0_newModule_204 : decode cX0_newModule 204 = .ok (.invokespecial 45, 3) := by decide +kernel
theorem dX0_newModule_207 : decode cX0_newModule 207 = .ok (.areturn, 1) := by decide +kernel
theorem dX0_init_0 : decode cX0_init 0 = .ok (.aload_n 0, 1) := by decide +kernel
theorem dX0_init_1 : decode cX0_init 1 = .ok (.invokespecial 46, 3) := by decide +kernel
theorem dX0_init_4 : decode cX0_init 4 = .ok (.aload_n 0, 1) := by decide +kernel
theorem dX0_init_5 : decode cX0_init 5 = .ok (.bipush 20, 2) := by decide +kernel
theorem dX0_init_7 : decode cX0_init 7 = .ok (.anewarray 53, 3) := by decide +kernel
theorem dX0_init_10 : decode cX0_init 10 = .ok (.putfield 55, 3) := by decide +kernel
theorem dX0_init_13 : decode cX0_init 13 = .ok (.aload_n 0, 1) := by decide +kernel
theorem dX0_init_14 : decode cX0_init 14 = .ok (.iconst 4, 1) := by decide +kernel
theorem dX0_init_15 : decode cX0_init 15 = .ok (.putfield 59, 3) := by decide +kernel
theorem dX0_init_18 : decode cX0_init 18 = .ok (.aload_n 0, 1) := by decide +kernel
theorem dX0_init_19 : decode cX0_init 19 = .ok (.bipush 6, 2) := by decide +kernel
theorem dX0_init_21 : decode cX0_init 21 = .ok (.newarray .int, 2) := by decide +kernel
theorem dX0_init_23 : decode cX0_init 23 = .ok (.putfield 63, 3) := by decide +kernel
theorem dX0_init_26 : decode cX0_init 26 = .ok (.aload_n 0, 1) := by decide +kernel
theorem dX0_init_27 : decode cX0_init 27 = .ok (.sipush 720, 3) := by decide +kernel
theorem dX0_init_30 : decode cX0_init 30 = .ok (.newarray .double, 2) := by decide +kernel
theorem dX0_init_32 : decode cX0_init 32 = .ok (.putfield 67, 3) := by decide +kernel
theorem dX0_init_35 : decode cX0_init 35 = .ok (.aload_n 0, 1) := by decide +kernel
theorem dX0_init_36 : decode cX0_init 36 = .ok (.bipush 6, 2) := by decide +kernel
theorem dX0_init_38 : decode cX0_init 38 = .ok (.newarray .int, 2) := by decide +kernel
theorem dX0_init_40 : decode cX0_init 40 = .ok (.putfield 71, 3) := by decide +kernel
theorem dX0_init_43 : decode cX0_init 43 = .ok (.aload_n 0, 1) := by decide +kernel
theorem dX0_init_44 : decode cX0_init 44 = .ok (.bipush 6, 2) := by decide +kernel
theorem dX0_init_46 : decode cX0_init 46 = .ok (.newarray .long, 2) := by decide +kernel
theorem dX0_init_48 : decode cX0_init 48 = .ok (.putfield 74, 3) := by decide +kernel
theorem dX0_init_51 : decode cX0_init 51 = .ok (.aload_n 0, 1) := by decide +kernel
theorem dX0_init_52 : decode cX0_init 52 = .ok (.bipush 20, 2) := by decide +kernel
theorem dX0_init_54 : decode cX0_init 54 = .ok (.newarray .int, 2) := by decide +kernel
theorem dX0_init_56 : decode cX0_init 56 = .ok (.putfield 78, 3) := by decide +kernel
theorem dX0_init_59 : decode cX0_init 59 = .ok (.aload_n 0, 1) := by decide +kernel
theorem dX0_init_60 : decode cX0_init 60 = .ok (.bipush 20, 2) := by decide +kernel
theorem dX0_init_62 : decode cX0_init 62 = .ok (.newarray .boolean, 2) := by decide +kernel
theorem dX0_init_64 : decode cX0_init 64 = .ok (.putfield 81, 3) := by decide +kernel
theorem dX0_init_67 : decode cX0_init 67 = .ok (.aload_n 0, 1) := by decide +kernel
theorem dX0_init_68 : decode cX0_init 68 = .ok (.bipush 20, 2) := by decide +kernel
theorem dX0_init_70 : decode cX0_init 70 = .ok (.newarray .int, 2) := by decide +kernel
theorem dX0_init_72 : decode cX0_init 72 = .ok (.putfield 85, 3) := by decide +kernel
theorem dX0_init_75 : decode cX0_init 75 = .ok (.aload_n 0, 1) := by decide +kernel
theorem dX0_init_76 : decode cX0_init 76 = .ok (.iconst 0, 1) := by decide +kernel
theorem dX0_init_77 : decode cX0_init 77 = .ok (.putfield 88, 3) := by decide +kernel
theorem dX0_init_80 : decode cX0_init 80 = .ok (.return_, 1) := by decide +kernel
section TA3_
variable {p : Program} {l : Launch} {e : Env} {R : Room} {s : State} {m : MethodId} {args : Array Value} {below : List Frame} {meth : Method} {c : Code} {H : Heap} {locs : List Loc} {cells slots : Nat} {Q : State → Prop}
variable {cc : ByteArray} {pc nL : Nat} {ls : Array Slot} {D : va_G} {dA : Nat → ClassId} {own : String} {w : wr_F} {P : Option Value → wr_F → Prop}
theorem ww_aretN {w0 : wr_F} {mc ms a : Nat} {cn : String} (S : CallFix p m c cc nL s args lw_all own) (hr : meth.sig.returnType = some (.object cn)) (hlocks : meth.locks = false) (G : wG D dA (xB (gA w0) s.heap.size) w s H locs) (hc : cells ≤ mc) (hs : slots ≤ ms) (hP : P (some (.ref a)) w) (hdg : decode cc pc = .ok (.areturn, 1)) : W p l e R s m args below meth c H locs cells slots (MQ below (gQN D dA w0 s.heap.size P) args s mc ms (xB (gA w0) s.heap.size)) (F0 m pc ls [.ref a]) := by
  obtain ⟨hPP, hK, hD, hS, hT⟩ := G
  refine W.widen hc hs ?_
  exact W.aret S.1 S.2.1 hr (Or.inl ⟨_, rfl⟩) (Or.inr ⟨_, rfl⟩) (fun t ht hW => ⟨⟨_, w, rfl, hP, by rw [ht]; exact hPP, va_K.moved hW.alike hK, hD⟩, gN_F hS ht⟩) hS.2.2 hdg
end TA3_
/-- a new module, as a panel of one shows it -/
def nmC (k : Nat) (s : UInt64) : tp_C := (1, fun _ => k, fun _ => s, fun _ _ => none, fun _ _ => false, fun _ => FP.dconst0, fun _ => 0, fun _ _ => FP.dconst0, fun _ _ => FP.dconst0, fun _ => 0, 0, 0, 0, 0, fun _ => 0, 0)
def nmd : md_T := (fun _ => 0, fun _ => FP.dconst0, 0, fun k => if k = 24 then (fun _ => -1) else fun _ => 0, fun _ _ => FP.dconst0, fun _ _ => FP.fconst0)
def nmj (ad : Nat → Nat) : xj_T := (ad, fun _ => FP.dconst0, fun _ => FP.fconst0, fun _ _ => FP.dconst0, fun _ _ => FP.fconst0, fun _ => FP.dconst0, fun _ => FP.fconst0, fun _ => FP.dconst0, fun _ => 0, fun _ => false, fun _ => none)
def nmW (dA : Nat → ClassId) (k : Nat) (s : UInt64) (ad : Nat → Nat) : wr_F := fun r => if 10 ≤ r ∧ r < 16 then xW dA (nmC k s) nmd (nmj ad) r else none
def adf (a q1 q2 q3 q4 q5 : Nat) : Nat → Nat := fun r => match r with | 10 => a | 11 => q1 | 12 => q2 | 13 => q3 | 14 => q4 | 15 => q5 | _ => 0
theorem nmW_o {dA : Nat → ClassId} {k : Nat} {s : UInt64} {ad : Nat → Nat} {r : Nat} (h0 : r ≠ 10) (h1 : r ≠ 11) (h2 : r ≠ 12) (h3 : r ≠ 13) (h4 : r ≠ 14) (h5 : r ≠ 15) : nmW dA k s ad r = none := by unfold nmW; rw [if_neg (by omega)]
def dfs (k : Nat) : List Value := (List.range (kN k)).map (fun f => defaultValue (kTy k f))
theorem dfs_len (k : Nat) : (dfs k).length = kN k := by simp [dfs]
theorem nm_0 (dA : Nat → ClassId) (s : UInt64) (a q1 q2 q3 q4 q5 : Nat) : cw1 dA 0 a (mfs (dfs 0) 0 s q1 q2 q3) q1 q2 q3 (fun _ => -1) = nmW dA 0 s (adf a q1 q2 q3 q4 q5) := cw_ext rfl rfl rfl rfl rfl rfl (fun r h0 h1 h2 h3 h4 h5 => by rw [nmW_o h0 h1 h2 h3 h4 h5]; simp [cw2, cw1, wr_s, h0, h1, h2, h3, h4, h5])
theorem nm_1 (dA : Nat → ClassId) (s : UInt64) (a q1 q2 q3 q4 q5 : Nat) : cw1 dA 1 a (mfs (dfs 1) 1 s q1 q2 q3) q1 q2 q3 (fun _ => -1) = nmW dA 1 s (adf a q1 q2 q3 q4 q5) := cw_ext rfl rfl rfl rfl rfl rfl (fun r h0 h1 h2 h3 h4 h5 => by rw [nmW_o h0 h1 h2 h3 h4 h5]; simp [cw2, cw1, wr_s, h0, h1, h2, h3, h4, h5])
theorem nm_2 (dA : Nat → ClassId) (s : UInt64) (a q1 q2 q3 q4 q5 : Nat) : cw2 dA 2 a (((mfs (dfs 2) 2 s q1 q2 q3).set 15 (.ref q4)).set 16 (.ref q5)) q1 q2 q3 q4 q5 (e_D (dA 2) 4 (fun _ => FP.dconst0)) (e_F (dA 3) 4 (fun _ => FP.fconst0)) = nmW dA 2 s (adf a q1 q2 q3 q4 q5) := cw_ext rfl rfl rfl rfl rfl rfl (fun r h0 h1 h2 h3 h4 h5 => by rw [nmW_o h0 h1 h2 h3 h4 h5]; simp [cw2, cw1, wr_s, h0, h1, h2, h3, h4, h5])
theorem nm_3 (dA : Nat → ClassId) (s : UInt64) (a q1 q2 q3 q4 q5 : Nat) : cw1 dA 3 a (mfs (dfs 3) 3 s q1 q2 q3) q1 q2 q3 (fun _ => -1) = nmW dA 3 s (adf a q1 q2 q3 q4 q5) := cw_ext rfl rfl rfl rfl rfl rfl (fun r h0 h1 h2 h3 h4 h5 => by rw [nmW_o h0 h1 h2 h3 h4 h5]; simp [cw2, cw1, wr_s, h0, h1, h2, h3, h4, h5])
theorem nm_4 (dA : Nat → ClassId) (s : UInt64) (a q1 q2 q3 q4 q5 : Nat) : cw1 dA 4 a (mfs (dfs 4) 4 s q1 q2 q3) q1 q2 q3 (fun _ => -1) = nmW dA 4 s (adf a q1 q2 q3 q4 q5) := cw_ext rfl rfl rfl rfl rfl rfl (fun r h0 h1 h2 h3 h4 h5 => by rw [nmW_o h0 h1 h2 h3 h4 h5]; simp [cw2, cw1, wr_s, h0, h1, h2, h3, h4, h5])
theorem nm_5 (dA : Nat → ClassId) (s : UInt64) (a q1 q2 q3 q4 q5 : Nat) : cw1 dA 5 a (mfs (dfs 5) 5 s q1 q2 q3) q1 q2 q3 (fun _ => -1) = nmW dA 5 s (adf a q1 q2 q3 q4 q5) := cw_ext rfl rfl rfl rfl rfl rfl (fun r h0 h1 h2 h3 h4 h5 => by rw [nmW_o h0 h1 h2 h3 h4 h5]; simp [cw2, cw1, wr_s, h0, h1, h2, h3, h4, h5])
theorem nm_6 (dA : Nat → ClassId) (s : UInt64) (a q1 q2 q3 q4 q5 : Nat) : cw1 dA 6 a (mfs (dfs 6) 6 s q1 q2 q3) q1 q2 q3 (fun _ => -1) = nmW dA 6 s (adf a q1 q2 q3 q4 q5) := cw_ext rfl rfl rfl rfl rfl rfl (fun r h0 h1 h2 h3 h4 h5 => by rw [nmW_o h0 h1 h2 h3 h4 h5]; simp [cw2, cw1, wr_s, h0, h1, h2, h3, h4, h5])
theorem nm_7 (dA : Nat → ClassId) (s : UInt64) (a q1 q2 q3 q4 q5 : Nat) : cw2 dA 7 a (((mfs (dfs 7) 7 s q1 q2 q3).set 11 (.ref q4)).set 12 (.ref q5)) q1 q2 q3 q4 q5 (e_D (dA 2) 8 (fun _ => FP.dconst0)) (e_D (dA 2) 8 (fun _ => FP.dconst0)) = nmW dA 7 s (adf a q1 q2 q3 q4 q5) := cw_ext rfl rfl rfl rfl rfl rfl (fun r h0 h1 h2 h3 h4 h5 => by rw [nmW_o h0 h1 h2 h3 h4 h5]; simp [cw2, cw1, wr_s, h0, h1, h2, h3, h4, h5])
theorem nm_8 (dA : Nat → ClassId) (s : UInt64) (a q1 q2 q3 q4 q5 : Nat) : cw1 dA 8 a (mfs (dfs 8) 8 s q1 q2 q3) q1 q2 q3 (fun _ => -1) = nmW dA 8 s (adf a q1 q2 q3 q4 q5) := cw_ext rfl rfl rfl rfl rfl rfl (fun r h0 h1 h2 h3 h4 h5 => by rw [nmW_o h0 h1 h2 h3 h4 h5]; simp [cw2, cw1, wr_s, h0, h1, h2, h3, h4, h5])
theorem nm_9 (dA : Nat → ClassId) (s : UInt64) (a q1 q2 q3 q4 q5 : Nat) : cw1 dA 9 a (mfs (dfs 9) 9 s q1 q2 q3) q1 q2 q3 (fun _ => -1) = nmW dA 9 s (adf a q1 q2 q3 q4 q5) := cw_ext rfl rfl rfl rfl rfl rfl (fun r h0 h1 h2 h3 h4 h5 => by rw [nmW_o h0 h1 h2 h3 h4 h5]; simp [cw2, cw1, wr_s, h0, h1, h2, h3, h4, h5])
theorem nm_10 (dA : Nat → ClassId) (s : UInt64) (a q1 q2 q3 q4 q5 : Nat) : cw1 dA 10 a (mfs (dfs 10) 10 s q1 q2 q3) q1 q2 q3 (fun _ => -1) = nmW dA 10 s (adf a q1 q2 q3 q4 q5) := cw_ext rfl rfl rfl rfl rfl rfl (fun r h0 h1 h2 h3 h4 h5 => by rw [nmW_o h0 h1 h2 h3 h4 h5]; simp [cw2, cw1, wr_s, h0, h1, h2, h3, h4, h5])
theorem nm_11 (dA : Nat → ClassId) (s : UInt64) (a q1 q2 q3 q4 q5 : Nat) : cw1 dA 11 a (mfs (dfs 11) 11 s q1 q2 q3) q1 q2 q3 (fun _ => -1) = nmW dA 11 s (adf a q1 q2 q3 q4 q5) := cw_ext rfl rfl rfl rfl rfl rfl (fun r h0 h1 h2 h3 h4 h5 => by rw [nmW_o h0 h1 h2 h3 h4 h5]; simp [cw2, cw1, wr_s, h0, h1, h2, h3, h4, h5])
theorem nm_12 (dA : Nat → ClassId) (s : UInt64) (a q1 q2 q3 q4 q5 : Nat) : cw1 dA 12 a (mfs (dfs 12) 12 s q1 q2 q3) q1 q2 q3 (fun _ => -1) = nmW dA 12 s (adf a q1 q2 q3 q4 q5) := cw_ext rfl rfl rfl rfl rfl rfl (fun r h0 h1 h2 h3 h4 h5 => by rw [nmW_o h0 h1 h2 h3 h4 h5]; simp [cw2, cw1, wr_s, h0, h1, h2, h3, h4, h5])
theorem nm_13 (dA : Nat → ClassId) (s : UInt64) (a q1 q2 q3 q4 q5 : Nat) : cw1 dA 13 a (mfs (dfs 13) 13 s q1 q2 q3) q1 q2 q3 (fun _ => -1) = nmW dA 13 s (adf a q1 q2 q3 q4 q5) := cw_ext rfl rfl rfl rfl rfl rfl (fun r h0 h1 h2 h3 h4 h5 => by rw [nmW_o h0 h1 h2 h3 h4 h5]; simp [cw2, cw1, wr_s, h0, h1, h2, h3, h4, h5])
theorem hc_X3_init : yX3_init.cls ≠ "java/lang/invoke/MethodHandle" ∧ yX3_init.cls ≠ "java/lang/invoke/VarHandle" ∧ (parseMethodDescriptor yX3_init.desc).map (fun d => d.parameters.length) = some 2 := by decide +kernel
theorem hc_X4_init : yX4_init.cls ≠ "java/lang/invoke/MethodHandle" ∧ yX4_init.cls ≠ "java/lang/invoke/VarHandle" ∧ (parseMethodDescriptor yX4_init.desc).map (fun d => d.parameters.length) = some 2 := by decide +kernel
theorem hc_X6_init : yX6_init.cls ≠ "java/lang/invoke/MethodHandle" ∧ yX6_init.cls ≠ "java/lang/invoke/VarHandle" ∧ (parseMethodDescriptor yX6_init.desc).map (fun d => d.parameters.length) = some 2 := by decide +kernel
theorem hc_X7_init : yX7_init.cls ≠ "java/lang/invoke/MethodHandle" ∧ yX7_init.cls ≠ "java/lang/invoke/VarHandle" ∧ (parseMethodDescriptor yX7_init.desc).map (fun d => d.parameters.length) = some 2 := by decide +kernel
theorem hc_X8_init : yX8_init.cls ≠ "java/lang/invoke/MethodHandle" ∧ yX8_init.cls ≠ "java/lang/invoke/VarHandle" ∧ (parseMethodDescriptor yX8_init.desc).map (fun d => d.parameters.length) = some 2 := by decide +kernel
theorem hc_X9_init : yX9_init.cls ≠ "java/lang/invoke/MethodHandle" ∧ yX9_init.cls ≠ "java/lang/invoke/VarHandle" ∧ (parseMethodDescriptor yX9_init.desc).map (fun d => d.parameters.length) = some 2 := by decide +kernel
theorem hc_X10_init : yX10_init.cls ≠ "java/lang/invoke/MethodHandle" ∧ yX10_init.cls ≠ "java/lang/invoke/VarHandle" ∧ (parseMethodDescriptor yX10_init.desc).map (fun d => d.parameters.length) = some 2 := by decide +kernel
theorem hc_X11_init : yX11_init.cls ≠ "java/lang/invoke/MethodHandle" ∧ yX11_init.cls ≠ "java/lang/invoke/VarHandle" ∧ (parseMethodDescriptor yX11_init.desc).map (fun d => d.parameters.length) = some 2 := by decide +kernel
theorem hc_X12_init : yX12_init.cls ≠ "java/lang/invoke/MethodHandle" ∧ yX12_init.cls ≠ "java/lang/invoke/VarHandle" ∧ (parseMethodDescriptor yX12_init.desc).map (fun d => d.parameters.length) = some 2 := by decide +kernel
theorem hc_X13_init : yX13_init.cls ≠ "java/lang/invoke/MethodHandle" ∧ yX13_init.cls ≠ "java/lang/invoke/VarHandle" ∧ (parseMethodDescriptor yX13_init.desc).map (fun d => d.parameters.length) = some 2 := by decide +kernel
theorem hc_X14_init : yX14_init.cls ≠ "java/lang/invoke/MethodHandle" ∧ yX14_init.cls ≠ "java/lang/invoke/VarHandle" ∧ (parseMethodDescriptor yX14_init.desc).map (fun d => d.parameters.length) = some 2 := by decide +kernel
theorem hc_X15_init : yX15_init.cls ≠ "java/lang/invoke/MethodHandle" ∧ yX15_init.cls ≠ "java/lang/invoke/VarHandle" ∧ (parseMethodDescriptor yX15_init.desc).map (fun d => d.parameters.length) = some 2 := by decide +kernel
theorem hc_X16_init : yX16_init.cls ≠ "java/lang/invoke/MethodHandle" ∧ yX16_init.cls ≠ "java/lang/invoke/VarHandle" ∧ (parseMethodDescriptor yX16_init.desc).map (fun d => d.parameters.length) = some 2 := by decide +kernel
theorem hc_X17_init : yX17_init.cls ≠ "java/lang/invoke/MethodHandle" ∧ yX17_init.cls ≠ "java/lang/invoke/VarHandle" ∧ (parseMethodDescriptor yX17_init.desc).map (fun d => d.parameters.length) = some 2 := by decide +kernel
theorem ct_X0_newModule (l : Launch) (D : va_G) (dA : Nat → ClassId) (k : Nat) (s : UInt64) (hk : k < 14) : gN l D dA yX0_newModule cX0_newModule 3 (some (.object "TwinPanel$Module")) 4 6 52 [.int (nI k), .double s] (fun _ => none) (fun o w' => ∃ ad : Nat → Nat, o = some (.ref (ad 10)) ∧ w' = nmW dA k s ad) := by
  refine ww_start (own := RX0) (by decide) rfl (Nat.le_of_ble_eq_true rfl) ?_
  intro p0 e0 s0 mid bl0 me0 co0 ls S hr hlk hin G hl
  have hx := S.1; have hb := S.2.1; have hml := S.2.2.1; have hown := S.2.2.2.1; have hts := S.2.2.2.2
  have hA : ∀ q, s0.heap.size ≤ q → xB (gA (fun _ => none)) s0.heap.size q := fun q h => Or.inr h
  have hl : lv_has ls 3 [(0, .int (nI k)), (1, .double s)] := hl
  refine lv_iload_n hx hb dX0_newModule_0 rfl (lv_at hl 0 rfl) ?_
  rcases (show k = 0 ∨ k = 1 ∨ k = 2 ∨ k = 3 ∨ k = 4 ∨ k = 5 ∨ k = 6 ∨ k = 7 ∨ k = 8 ∨ k = 9 ∨ k = 10 ∨ k = 11 ∨ k = 12 ∨ k = 13 by omega) with rfl | rfl | rfl | rfl | rfl | rfl | rfl | rfl | rfl | rfl | rfl | rfl | rfl | rfl
  · refine sw_in (off := 67) (tgt := 68) [0] (by simp) hx hb dX0_newModule_1 (by decide) (by decide) ?_
    refine oo_new S G hA (k_cl (k := 0) (by decide)) (k_in (by decide)) (kTy 0) (k_ty (by decide)) (index := 1) q192 q193 q59 (r := 10) (by decide) rfl (show 0 + 1 ≤ 6 by omega) (show 0 + 11 ≤ 52 by omega) dX0_newModule_68 (fun a H G => ?_)
    have G : wG D dA (xB (gA (fun _ => none)) s0.heap.size) (cw0 0 a (dfs 0)) s0 H [] := G
    refine lv_dup hx hb dX0_newModule_71 rfl ?_
    refine lv_iload_n hx hb dX0_newModule_72 rfl (lv_at hl 0 rfl) ?_
    refine lv_dload_n hx hb dX0_newModule_73 rfl (lv_at hl 1 rfl) ?_
    refine ww_callI (As := [.int (nI 0), .double s]) (rest := [.ref a]) S G hA (ct_X3_init l D dA a s (dfs 0) (dfs_len 0)) q194 q195 q59 q196 rfl hc_X3_init ⟨Nat.le_of_ble_eq_true rfl, Nat.le_of_ble_eq_true rfl⟩ rfl hl.1 rfl (Nat.le_of_ble_eq_true rfl) dX0_newModule_74 ⟨(show 0 + 1 + 3 ≤ 6 by omega), (show 0 + 11 + 18 ≤ 52 by omega)⟩ (fun o_ w1 H locs hp G _ _ _ => ?_)
    obtain ⟨rfl, q1, q2, q3, rfl⟩ := hp
    refine W.eq (g2 := F0 mid 77 ls [.ref a]) rfl ?_
    exact ww_aretN S hr hlk G (by omega) (show 0 + 11 + 18 ≤ 52 by omega) ⟨adf a q1 q2 q3 0 0, rfl, nm_0 dA s a q1 q2 q3 0 0⟩ dX0_newModule_77
  · refine sw_in (off := 77) (tgt := 78) [1] (by simp) hx hb dX0_newModule_1 (by decide) (by decide) ?_
    refine oo_new S G hA (k_cl (k := 1) (by decide)) (k_in (by decide)) (kTy 1) (k_ty (by decide)) (index := 7) q257 q258 q60 (r := 10) (by decide) rfl (show 0 + 1 ≤ 6 by omega) (show 0 + 11 ≤ 52 by omega) dX0_newModule_78 (fun a H G => ?_)
    have G : wG D dA (xB (gA (fun _ => none)) s0.heap.size) (cw0 1 a (dfs 1)) s0 H [] := G
    refine lv_dup hx hb dX0_newModule_81 rfl ?_
    refine lv_iload_n hx hb dX0_newModule_82 rfl (lv_at hl 0 rfl) ?_
    refine lv_dload_n hx hb dX0_newModule_83 rfl (lv_at hl 1 rfl) ?_
    refine ww_callI (As := [.int (nI 1), .double s]) (rest := [.ref a]) S G hA (ct_X4_init l D dA a s (dfs 1) (dfs_len 1)) q259 q260 q60 q261 rfl hc_X4_init ⟨Nat.le_of_ble_eq_true rfl, Nat.le_of_ble_eq_true rfl⟩ rfl hl.1 rfl (Nat.le_of_ble_eq_true rfl) dX0_newModule_84 ⟨(show 0 + 1 + 3 ≤ 6 by omega), (show 0 + 11 + 18 ≤ 52 by omega)⟩ (fun o_ w1 H locs hp G _ _ _ => ?_)
    obtain ⟨rfl, q1, q2, q3, rfl⟩ := hp
    refine W.eq (g2 := F0 mid 87 ls [.ref a]) rfl ?_
    exact ww_aretN S hr hlk G (by omega) (show 0 + 11 + 18 ≤ 52 by omega) ⟨adf a q1 q2 q3 0 0, rfl, nm_1 dA s a q1 q2 q3 0 0⟩ dX0_newModule_87
  · refine sw_in (off := 87) (tgt := 88) [2] (by simp) hx hb dX0_newModule_1 (by decide) (by decide) ?_
    refine oo_new S G hA (k_cl (k := 2) (by decide)) (k_in (by decide)) (kTy 2) (k_ty (by decide)) (index := 10) q275 q276 q62 (r := 10) (by decide) rfl (show 0 + 1 ≤ 6 by omega) (show 0 + 18 ≤ 52 by omega) dX0_newModule_88 (fun a H G => ?_)
    have G : wG D dA (xB (gA (fun _ => none)) s0.heap.size) (cw0 2 a (dfs 2)) s0 H [] := G
    refine lv_dup hx hb dX0_newModule_91 rfl ?_
    refine lv_iload_n hx hb dX0_newModule_92 rfl (lv_at hl 0 rfl) ?_
    refine lv_dload_n hx hb dX0_newModule_93 rfl (lv_at hl 1 rfl) ?_
    refine ww_callI (As := [.int (nI 2), .double s]) (rest := [.ref a]) S G hA (ct_X6_init l D dA a s (dfs 2) (dfs_len 2)) q277 q278 q62 q279 rfl hc_X6_init ⟨Nat.le_of_ble_eq_true rfl, Nat.le_of_ble_eq_true rfl⟩ rfl hl.1 rfl (Nat.le_of_ble_eq_true rfl) dX0_newModule_94 ⟨(show 0 + 1 + 5 ≤ 6 by omega), (show 0 + 18 + 26 ≤ 52 by omega)⟩ (fun o_ w1 H locs hp G _ _ _ => ?_)
    obtain ⟨rfl, q1, q2, q3, q4, q5, rfl⟩ := hp
    refine W.eq (g2 := F0 mid 97 ls [.ref a]) rfl ?_
    exact ww_aretN S hr hlk G (by omega) (show 0 + 18 + 26 ≤ 52 by omega) ⟨adf a q1 q2 q3 q4 q5, rfl, nm_2 dA s a q1 q2 q3 q4 q5⟩ dX0_newModule_97
  · refine sw_in (off := 97) (tgt := 98) [3] (by simp) hx hb dX0_newModule_1 (by decide) (by decide) ?_
    refine oo_new S G hA (k_cl (k := 3) (by decide)) (k_in (by decide)) (kTy 3) (k_ty (by decide)) (index := 13) q334 q335 q63 (r := 10) (by decide) rfl (show 0 + 1 ≤ 6 by omega) (show 0 + 15 ≤ 52 by omega) dX0_newModule_98 (fun a H G => ?_)
    have G : wG D dA (xB (gA (fun _ => none)) s0.heap.size) (cw0 3 a (dfs 3)) s0 H [] := G
    refine lv_dup hx hb dX0_newModule_101 rfl ?_
    refine lv_iload_n hx hb dX0_newModule_102 rfl (lv_at hl 0 rfl) ?_
    refine lv_dload_n hx hb dX0_newModule_103 rfl (lv_at hl 1 rfl) ?_
    refine ww_callI (As := [.int (nI 3), .double s]) (rest := [.ref a]) S G hA (ct_X7_init l D dA a s (dfs 3) (dfs_len 3)) q336 q337 q63 q338 rfl hc_X7_init ⟨Nat.le_of_ble_eq_true rfl, Nat.le_of_ble_eq_true rfl⟩ rfl hl.1 rfl (Nat.le_of_ble_eq_true rfl) dX0_newModule_104 ⟨(show 0 + 1 + 3 ≤ 6 by omega), (show 0 + 15 + 18 ≤ 52 by omega)⟩ (fun o_ w1 H locs hp G _ _ _ => ?_)
    obtain ⟨rfl, q1, q2, q3, rfl⟩ := hp
    refine W.eq (g2 := F0 mid 107 ls [.ref a]) rfl ?_
    exact ww_aretN S hr hlk G (by omega) (show 0 + 15 + 18 ≤ 52 by omega) ⟨adf a q1 q2 q3 0 0, rfl, nm_3 dA s a q1 q2 q3 0 0⟩ dX0_newModule_107
  · refine sw_in (off := 107) (tgt := 108) [4] (by simp) hx hb dX0_newModule_1 (by decide) (by decide) ?_
    refine oo_new S G hA (k_cl (k := 4) (by decide)) (k_in (by decide)) (kTy 4) (k_ty (by decide)) (index := 16) q360 q361 q64 (r := 10) (by decide) rfl (show 0 + 1 ≤ 6 by omega) (show 0 + 11 ≤ 52 by omega) dX0_newModule_108 (fun a H G => ?_)
    have G : wG D dA (xB (gA (fun _ => none)) s0.heap.size) (cw0 4 a (dfs 4)) s0 H [] := G
    refine lv_dup hx hb dX0_newModule_111 rfl ?_
    refine lv_iload_n hx hb dX0_newModule_112 rfl (lv_at hl 0 rfl) ?_
    refine lv_dload_n hx hb dX0_newModule_113 rfl (lv_at hl 1 rfl) ?_
    refine ww_callI (As := [.int (nI 4), .double s]) (rest := [.ref a]) S G hA (ct_X8_init l D dA a s (dfs 4) (dfs_len 4)) q362 q363 q64 q364 rfl hc_X8_init ⟨Nat.le_of_ble_eq_true rfl, Nat.le_of_ble_eq_true rfl⟩ rfl hl.1 rfl (Nat.le_of_ble_eq_true rfl) dX0_newModule_114 ⟨(show 0 + 1 + 3 ≤ 6 by omega), (show 0 + 11 + 18 ≤ 52 by omega)⟩ (fun o_ w1 H locs hp G _ _ _ => ?_)
    obtain ⟨rfl, q1, q2, q3, rfl⟩ := hp
    refine W.eq (g2 := F0 mid 117 ls [.ref a]) rfl ?_
    exact ww_aretN S hr hlk G (by omega) (show 0 + 11 + 18 ≤ 52 by omega) ⟨adf a q1 q2 q3 0 0, rfl, nm_4 dA s a q1 q2 q3 0 0⟩ dX0_newModule_117
  · refine sw_in (off := 117) (tgt := 118) [5] (by simp) hx hb dX0_newModule_1 (by decide) (by decide) ?_
    refine oo_new S G hA (k_cl (k := 5) (by decide)) (k_in (by decide)) (kTy 5) (k_ty (by decide)) (index := 19) q378 q379 q65 (r := 10) (by decide) rfl (show 0 + 1 ≤ 6 by omega) (show 0 + 11 ≤ 52 by omega) dX0_newModule_118 (fun a H G => ?_)
    have G : wG D dA (xB (gA (fun _ => none)) s0.heap.size) (cw0 5 a (dfs 5)) s0 H [] := G
    refine lv_dup hx hb dX0_newModule_121 rfl ?_
    refine lv_iload_n hx hb dX0_newModule_122 rfl (lv_at hl 0 rfl) ?_
    refine lv_dload_n hx hb dX0_newModule_123 rfl (lv_at hl 1 rfl) ?_
    refine ww_callI (As := [.int (nI 5), .double s]) (rest := [.ref a]) S G hA (ct_X9_init l D dA a s (dfs 5) (dfs_len 5)) q380 q381 q65 q382 rfl hc_X9_init ⟨Nat.le_of_ble_eq_true rfl, Nat.le_of_ble_eq_true rfl⟩ rfl hl.1 rfl (Nat.le_of_ble_eq_true rfl) dX0_newModule_124 ⟨(show 0 + 1 + 3 ≤ 6 by omega), (show 0 + 11 + 18 ≤ 52 by omega)⟩ (fun o_ w1 H locs hp G _ _ _ => ?_)
    obtain ⟨rfl, q1, q2, q3, rfl⟩ := hp
    refine W.eq (g2 := F0 mid 127 ls [.ref a]) rfl ?_
    exact ww_aretN S hr hlk G (by omega) (show 0 + 11 + 18 ≤ 52 by omega) ⟨adf a q1 q2 q3 0 0, rfl, nm_5 dA s a q1 q2 q3 0 0⟩ dX0_newModule_127
  · refine sw_in (off := 127) (tgt := 128) [6] (by simp) hx hb dX0_newModule_1 (by decide) (by decide) ?_
    refine oo_new S G hA (k_cl (k := 6) (by decide)) (k_in (by decide)) (kTy 6) (k_ty (by decide)) (index := 22) q396 q397 q66 (r := 10) (by decide) rfl (show 0 + 1 ≤ 6 by omega) (show 0 + 11 ≤ 52 by omega) dX0_newModule_128 (fun a H G => ?_)
    have G : wG D dA (xB (gA (fun _ => none)) s0.heap.size) (cw0 6 a (dfs 6)) s0 H [] := G
    refine lv_dup hx hb dX0_newModule_131 rfl ?_
    refine lv_iload_n hx hb dX0_newModule_132 rfl (lv_at hl 0 rfl) ?_
    refine lv_dload_n hx hb dX0_newModule_133 rfl (lv_at hl 1 rfl) ?_
    refine ww_callI (As := [.int (nI 6), .double s]) (rest := [.ref a]) S G hA (ct_X10_init l D dA a s (dfs 6) (dfs_len 6)) q398 q399 q66 q400 rfl hc_X10_init ⟨Nat.le_of_ble_eq_true rfl, Nat.le_of_ble_eq_true rfl⟩ rfl hl.1 rfl (Nat.le_of_ble_eq_true rfl) dX0_newModule_134 ⟨(show 0 + 1 + 3 ≤ 6 by omega), (show 0 + 11 + 18 ≤ 52 by omega)⟩ (fun o_ w1 H locs hp G _ _ _ => ?_)
    obtain ⟨rfl, q1, q2, q3, rfl⟩ := hp
    refine W.eq (g2 := F0 mid 137 ls [.ref a]) rfl ?_
    exact ww_aretN S hr hlk G (by omega) (show 0 + 11 + 18 ≤ 52 by omega) ⟨adf a q1 q2 q3 0 0, rfl, nm_6 dA s a q1 q2 q3 0 0⟩ dX0_newModule_137
  · refine sw_in (off := 137) (tgt := 138) [7] (by simp) hx hb dX0_newModule_1 (by decide) (by decide) ?_
    refine oo_new S G hA (k_cl (k := 7) (by decide)) (k_in (by decide)) (kTy 7) (k_ty (by decide)) (index := 25) q414 q415 q67 (r := 10) (by decide) rfl (show 0 + 1 ≤ 6 by omega) (show 0 + 14 ≤ 52 by omega) dX0_newModule_138 (fun a H G => ?_)
    have G : wG D dA (xB (gA (fun _ => none)) s0.heap.size) (cw0 7 a (dfs 7)) s0 H [] := G
    refine lv_dup hx hb dX0_newModule_141 rfl ?_
    refine lv_iload_n hx hb dX0_newModule_142 rfl (lv_at hl 0 rfl) ?_
    refine lv_dload_n hx hb dX0_newModule_143 rfl (lv_at hl 1 rfl) ?_
    refine ww_callI (As := [.int (nI 7), .double s]) (rest := [.ref a]) S G hA (ct_X11_init l D dA a s (dfs 7) (dfs_len 7)) q416 q417 q67 q418 rfl hc_X11_init ⟨Nat.le_of_ble_eq_true rfl, Nat.le_of_ble_eq_true rfl⟩ rfl hl.1 rfl (Nat.le_of_ble_eq_true rfl) dX0_newModule_144 ⟨(show 0 + 1 + 5 ≤ 6 by omega), (show 0 + 14 + 34 ≤ 52 by omega)⟩ (fun o_ w1 H locs hp G _ _ _ => ?_)
    obtain ⟨rfl, q1, q2, q3, q4, q5, rfl⟩ := hp
    refine W.eq (g2 := F0 mid 147 ls [.ref a]) rfl ?_
    exact ww_aretN S hr hlk G (by omega) (show 0 + 14 + 34 ≤ 52 by omega) ⟨adf a q1 q2 q3 q4 q5, rfl, nm_7 dA s a q1 q2 q3 q4 q5⟩ dX0_newModule_147
  · refine sw_in (off := 147) (tgt := 148) [8] (by simp) hx hb dX0_newModule_1 (by decide) (by decide) ?_
    refine oo_new S G hA (k_cl (k := 8) (by decide)) (k_in (by decide)) (kTy 8) (k_ty (by decide)) (index := 28) q444 q445 q68 (r := 10) (by decide) rfl (show 0 + 1 ≤ 6 by omega) (show 0 + 11 ≤ 52 by omega) dX0_newModule_148 (fun a H G => ?_)
    have G : wG D dA (xB (gA (fun _ => none)) s0.heap.size) (cw0 8 a (dfs 8)) s0 H [] := G
    refine lv_dup hx hb dX0_newModule_151 rfl ?_
    refine lv_iload_n hx hb dX0_newModule_152 rfl (lv_at hl 0 rfl) ?_
    refine lv_dload_n hx hb dX0_newModule_153 rfl (lv_at hl 1 rfl) ?_
    refine ww_callI (As := [.int (nI 8), .double s]) (rest := [.ref a]) S G hA (ct_X12_init l D dA a s (dfs 8) (dfs_len 8)) q446 q447 q68 q448 rfl hc_X12_init ⟨Nat.le_of_ble_eq_true rfl, Nat.le_of_ble_eq_true rfl⟩ rfl hl.1 rfl (Nat.le_of_ble_eq_true rfl) dX0_newModule_154 ⟨(show 0 + 1 + 3 ≤ 6 by omega), (show 0 + 11 + 18 ≤ 52 by omega)⟩ (fun o_ w1 H locs hp G _ _ _ => ?_)
    obtain ⟨rfl, q1, q2, q3, rfl⟩ := hp
    refine W.eq (g2 := F0 mid 157 ls [.ref a]) rfl ?_
    exact ww_aretN S hr hlk G (by omega) (show 0 + 11 + 18 ≤ 52 by omega) ⟨adf a q1 q2 q3 0 0, rfl, nm_8 dA s a q1 q2 q3 0 0⟩ dX0_newModule_157
  · refine sw_in (off := 157) (tgt := 158) [9] (by simp) hx hb dX0_newModule_1 (by decide) (by decide) ?_
    refine oo_new S G hA (k_cl (k := 9) (by decide)) (k_in (by decide)) (kTy 9) (k_ty (by decide)) (index := 31) q462 q463 q69 (r := 10) (by decide) rfl (show 0 + 1 ≤ 6 by omega) (show 0 + 11 ≤ 52 by omega) dX0_newModule_158 (fun a H G => ?_)
    have G : wG D dA (xB (gA (fun _ => none)) s0.heap.size) (cw0 9 a (dfs 9)) s0 H [] := G
    refine lv_dup hx hb dX0_newModule_161 rfl ?_
    refine lv_iload_n hx hb dX0_newModule_162 rfl (lv_at hl 0 rfl) ?_
    refine lv_dload_n hx hb dX0_newModule_163 rfl (lv_at hl 1 rfl) ?_
    refine ww_callI (As := [.int (nI 9), .double s]) (rest := [.ref a]) S G hA (ct_X13_init l D dA a s (dfs 9) (dfs_len 9)) q464 q465 q69 q466 rfl hc_X13_init ⟨Nat.le_of_ble_eq_true rfl, Nat.le_of_ble_eq_true rfl⟩ rfl hl.1 rfl (Nat.le_of_ble_eq_true rfl) dX0_newModule_164 ⟨(show 0 + 1 + 3 ≤ 6 by omega), (show 0 + 11 + 18 ≤ 52 by omega)⟩ (fun o_ w1 H locs hp G _ _ _ => ?_)
    obtain ⟨rfl, q1, q2, q3, rfl⟩ := hp
    refine W.eq (g2 := F0 mid 167 ls [.ref a]) rfl ?_
    exact ww_aretN S hr hlk G (by omega) (show 0 + 11 + 18 ≤ 52 by omega) ⟨adf a q1 q2 q3 0 0, rfl, nm_9 dA s a q1 q2 q3 0 0⟩ dX0_newModule_167
  · refine sw_in (off := 167) (tgt := 168) [10] (by simp) hx hb dX0_newModule_1 (by decide) (by decide) ?_
    refine oo_new S G hA (k_cl (k := 10) (by decide)) (k_in (by decide)) (kTy 10) (k_ty (by decide)) (index := 34) q480 q481 q70 (r := 10) (by decide) rfl (show 0 + 1 ≤ 6 by omega) (show 0 + 11 ≤ 52 by omega) dX0_newModule_168 (fun a H G => ?_)
    have G : wG D dA (xB (gA (fun _ => none)) s0.heap.size) (cw0 10 a (dfs 10)) s0 H [] := G
    refine lv_dup hx hb dX0_newModule_171 rfl ?_
    refine lv_iload_n hx hb dX0_newModule_172 rfl (lv_at hl 0 rfl) ?_
    refine lv_dload_n hx hb dX0_newModule_173 rfl (lv_at hl 1 rfl) ?_
    refine ww_callI (As := [.int (nI 10), .double s]) (rest := [.ref a]) S G hA (ct_X14_init l D dA a s (dfs 10) (dfs_len 10)) q482 q483 q70 q484 rfl hc_X14_init ⟨Nat.le_of_ble_eq_true rfl, Nat.le_of_ble_eq_true rfl⟩ rfl hl.1 rfl (Nat.le_of_ble_eq_true rfl) dX0_newModule_174 ⟨(show 0 + 1 + 3 ≤ 6 by omega), (show 0 + 11 + 18 ≤ 52 by omega)⟩ (fun o_ w1 H locs hp G _ _ _ => ?_)
    obtain ⟨rfl, q1, q2, q3, rfl⟩ := hp
    refine W.eq (g2 := F0 mid 177 ls [.ref a]) rfl ?_
    exact ww_aretN S hr hlk G (by omega) (show 0 + 11 + 18 ≤ 52 by omega) ⟨adf a q1 q2 q3 0 0, rfl, nm_10 dA s a q1 q2 q3 0 0⟩ dX0_newModule_177
  · refine sw_in (off := 177) (tgt := 178) [11] (by simp) hx hb dX0_newModule_1 (by decide) (by decide) ?_
    refine oo_new S G hA (k_cl (k := 11) (by decide)) (k_in (by decide)) (kTy 11) (k_ty (by decide)) (index := 37) q498 q499 q71 (r := 10) (by decide) rfl (show 0 + 1 ≤ 6 by omega) (show 0 + 17 ≤ 52 by omega) dX0_newModule_178 (fun a H G => ?_)
    have G : wG D dA (xB (gA (fun _ => none)) s0.heap.size) (cw0 11 a (dfs 11)) s0 H [] := G
    refine lv_dup hx hb dX0_newModule_181 rfl ?_
    refine lv_iload_n hx hb dX0_newModule_182 rfl (lv_at hl 0 rfl) ?_
    refine lv_dload_n hx hb dX0_newModule_183 rfl (lv_at hl 1 rfl) ?_
    refine ww_callI (As := [.int (nI 11), .double s]) (rest := [.ref a]) S G hA (ct_X15_init l D dA a s (dfs 11) (dfs_len 11)) q500 q501 q71 q502 rfl hc_X15_init ⟨Nat.le_of_ble_eq_true rfl, Nat.le_of_ble_eq_true rfl⟩ rfl hl.1 rfl (Nat.le_of_ble_eq_true rfl) dX0_newModule_184 ⟨(show 0 + 1 + 3 ≤ 6 by omega), (show 0 + 17 + 18 ≤ 52 by omega)⟩ (fun o_ w1 H locs hp G _ _ _ => ?_)
    obtain ⟨rfl, q1, q2, q3, rfl⟩ := hp
    refine W.eq (g2 := F0 mid 187 ls [.ref a]) rfl ?_
    exact ww_aretN S hr hlk G (by omega) (show 0 + 17 + 18 ≤ 52 by omega) ⟨adf a q1 q2 q3 0 0, rfl, nm_11 dA s a q1 q2 q3 0 0⟩ dX0_newModule_187
  · refine sw_in (off := 187) (tgt := 188) [12] (by simp) hx hb dX0_newModule_1 (by decide) (by decide) ?_
    refine oo_new S G hA (k_cl (k := 12) (by decide)) (k_in (by decide)) (kTy 12) (k_ty (by decide)) (index := 40) q530 q531 q72 (r := 10) (by decide) rfl (show 0 + 1 ≤ 6 by omega) (show 0 + 11 ≤ 52 by omega) dX0_newModule_188 (fun a H G => ?_)
    have G : wG D dA (xB (gA (fun _ => none)) s0.heap.size) (cw0 12 a (dfs 12)) s0 H [] := G
    refine lv_dup hx hb dX0_newModule_191 rfl ?_
    refine lv_iload_n hx hb dX0_newModule_192 rfl (lv_at hl 0 rfl) ?_
    refine lv_dload_n hx hb dX0_newModule_193 rfl (lv_at hl 1 rfl) ?_
    refine ww_callI (As := [.int (nI 12), .double s]) (rest := [.ref a]) S G hA (ct_X16_init l D dA a s (dfs 12) (dfs_len 12)) q532 q533 q72 q534 rfl hc_X16_init ⟨Nat.le_of_ble_eq_true rfl, Nat.le_of_ble_eq_true rfl⟩ rfl hl.1 rfl (Nat.le_of_ble_eq_true rfl) dX0_newModule_194 ⟨(show 0 + 1 + 3 ≤ 6 by omega), (show 0 + 11 + 18 ≤ 52 by omega)⟩ (fun o_ w1 H locs hp G _ _ _ => ?_)
    obtain ⟨rfl, q1, q2, q3, rfl⟩ := hp
    refine W.eq (g2 := F0 mid 197 ls [.ref a]) rfl ?_
    exact ww_aretN S hr hlk G (by omega) (show 0 + 11 + 18 ≤ 52 by omega) ⟨adf a q1 q2 q3 0 0, rfl, nm_12 dA s a q1 q2 q3 0 0⟩ dX0_newModule_197
  · refine sw_out (tgt := 198) [13] (by simp) hx hb dX0_newModule_1 (by decide) (by decide) ?_
    refine oo_new S G hA (k_cl (k := 13) (by decide)) (k_in (by decide)) (kTy 13) (k_ty (by decide)) (index := 43) q548 q549 q73 (r := 10) (by decide) rfl (show 0 + 1 ≤ 6 by omega) (show 0 + 14 ≤ 52 by omega) dX0_newModule_198 (fun a H G => ?_)
    have G : wG D dA (xB (gA (fun _ => none)) s0.heap.size) (cw0 13 a (dfs 13)) s0 H [] := G
    refine lv_dup hx hb dX0_newModule_201 rfl ?_
    refine lv_iload_n hx hb dX0_newModule_202 rfl (lv_at hl 0 rfl) ?_
    refine lv_dload_n hx hb dX0_newModule_203 rfl (lv_at hl 1 rfl) ?_
    refine ww_callI (As := [.int (nI 13), .double s]) (rest := [.ref a]) S G hA (ct_X17_init l D dA a s (dfs 13) (dfs_len 13)) q550 q551 q73 q552 rfl hc_X17_init ⟨Nat.le_of_ble_eq_true rfl, Nat.le_of_ble_eq_true rfl⟩ rfl hl.1 rfl (Nat.le_of_ble_eq_true rfl) dX0_newModule_204 ⟨(show 0 + 1 + 3 ≤ 6 by omega), (show 0 + 14 + 18 ≤ 52 by omega)⟩ (fun o_ w1 H locs hp G _ _ _ => ?_)
    obtain ⟨rfl, q1, q2, q3, rfl⟩ := hp
    refine W.eq (g2 := F0 mid 207 ls [.ref a]) rfl ?_
    exact ww_aretN S hr hlk G (by omega) (show 0 + 14 + 18 ≤ 52 by omega) ⟨adf a q1 q2 q3 0 0, rfl, nm_13 dA s a q1 q2 q3 0 0⟩ dX0_newModule_207
/-- a new panel -/
def pnC : tp_C := (0, fun _ => 0, fun _ => FP.dconst0, fun _ _ => none, fun _ _ => false, fun _ => FP.dconst0, fun _ => 0, fun _ _ => FP.dconst0, fun _ _ => FP.dconst0, fun _ => 0, 0, 0, 4, 0, fun _ => 0, 0)
theorem pw_ext {w w' : wr_F} (h0 : w 0 = w' 0) (h1 : w 1 = w' 1) (h2 : w 2 = w' 2) (h3 : w 3 = w' 3) (h4 : w 4 = w' 4) (h5 : w 5 = w' 5) (h6 : w 6 = w' 6) (h7 : w 7 = w' 7) (h8 : w 8 = w' 8) (h : ∀ r, 9 ≤ r → w r = w' r) : w = w' := by
  funext r
  rcases (show r = 0 ∨ r = 1 ∨ r = 2 ∨ r = 3 ∨ r = 4 ∨ r = 5 ∨ r = 6 ∨ r = 7 ∨ r = 8 ∨ 9 ≤ r by omega) with rfl | rfl | rfl | rfl | rfl | rfl | rfl | rfl | rfl | hr
  · exact h0
  · exact h1
  · exact h2
  · exact h3
  · exact h4
  · exact h5
  · exact h6
  · exact h7
  · exact h8
  · exact h r hr
def pdf : List Value := (List.range 17).map (fun f => defaultValue (tyX0 f))
def pw0 (a : Nat) : wr_F := wr_s (fun _ => none) 0 (a, .inr (0, pdf))
def adp (a q1 q2 q3 q4 q5 q6 q7 q8 : Nat) : Nat → Nat := fun r => match r with | 0 => a | 1 => q1 | 2 => q2 | 3 => q3 | 4 => q4 | 5 => q5 | 6 => q6 | 7 => q7 | _ => q8
theorem xW_pn {dA : Nat → ClassId} {ad : Nat → Nat} {r : Nat} (h : 9 ≤ r) : xW dA pnC nmd (nmj ad) r = none := by
  unfold xW
  by_cases h9 : r = 9
  · subst h9; rfl
  · rw [if_neg (by omega), if_neg (show ¬ (r - 10) / 6 < cN pnC from Nat.not_lt_zero _)]
theorem ct_X0_init (l : Launch) (D : va_G) (dA : Nat → ClassId) (a : Nat) : gN l D dA yX0_init cX0_init 1 none 1 8 818 [.ref a] (pw0 a) (fun o w' => o = none ∧ ∃ ad : Nat → Nat, ad 0 = a ∧ w' = xW dA pnC nmd (nmj ad)) := by
  refine ww_start (own := RX0) (by decide) rfl (Nat.le_of_ble_eq_true rfl) ?_
  intro p0 e0 s0 mid bl0 me0 co0 ls S hr hlk hin G hl
  have hx := S.1; have hb := S.2.1; have hml := S.2.2.1; have hown := S.2.2.2.1; have hts := S.2.2.2.2
  have hA : ∀ q, s0.heap.size ≤ q → xB (gA (pw0 a)) s0.heap.size q := fun q h => Or.inr h
  have hl : lv_has ls 1 [(0, .ref a)] := hl
  refine lv_aload_n hx hb dX0_init_0 rfl (lv_at hl 0 rfl) ?_
  refine ww_obj S q84 q85 q86 hl.1 dX0_init_1 (Nat.le_of_ble_eq_true rfl) (Nat.le_of_ble_eq_true rfl) ?_
  refine lv_aload_n hx hb dX0_init_4 rfl (lv_at hl 0 rfl) ?_
  refine lv_bipush (v := nI 20) hx hb dX0_init_5 (by decide) ?_
  refine oo_newQ S G hA q87 (r := 1) (by decide) rfl (by omega) (show 0 + 1 ≤ 8 by omega) (show 0 + 20 ≤ 818 by omega) dX0_init_7 (fun q1 H G => ?_)
  refine oo_put S G (ci := 0) (Cl := RX0) (T := TX0) (N := 17) rfl in_X0 tyX0 tyX0_ok nmX0 (r := 0) (by decide) rfl (by simp [pdf]) 0 (by decide) (index := 55) (ref := RX0) q89 (fun x h => h) (Or.inr ⟨rfl, hin, rfl⟩) rfl rfl dX0_init_10 (fun H locs G => ?_)
  refine lv_aload_n hx hb dX0_init_13 rfl (lv_at hl 0 rfl) ?_
  refine lv_iconst (v := nI 4) hx hb dX0_init_14 (by decide) ?_
  refine oo_put S G (ci := 0) (Cl := RX0) (T := TX0) (N := 17) rfl in_X0 tyX0 tyX0_ok nmX0 (r := 0) (by decide) rfl (by simp [pdf]) 4 (by decide) (index := 59) (ref := RX0) q93 (fun x h => h) (Or.inl rfl) rfl rfl dX0_init_15 (fun H locs G => ?_)
  refine lv_aload_n hx hb dX0_init_18 rfl (lv_at hl 0 rfl) ?_
  refine lv_bipush (v := nI 6) hx hb dX0_init_19 (by decide) ?_
  refine oo_newI S G hA (r := 2) (by decide) rfl (by omega) (show 0 + 1 + 1 ≤ 8 by omega) (show 0 + 20 + 6 ≤ 818 by omega) dX0_init_21 (fun q2 H G => ?_)
  refine oo_put S G (ci := 0) (Cl := RX0) (T := TX0) (N := 17) rfl in_X0 tyX0 tyX0_ok nmX0 (r := 0) (by decide) rfl (by simp [pdf]) 8 (by decide) (index := 63) (ref := RX0) q97 (fun x h => h) (Or.inr ⟨rfl, hin, rfl⟩) rfl rfl dX0_init_23 (fun H locs G => ?_)
  refine lv_aload_n hx hb dX0_init_26 rfl (lv_at hl 0 rfl) ?_
  refine lv_sipush (v := nI 720) hx hb dX0_init_27 (by decide) ?_
  refine ww_newD S G hA (r := 3) (by decide) rfl (by omega) (show 0 + 1 + 1 + 1 ≤ 8 by omega) (show 0 + 20 + 6 + 720 ≤ 818 by omega) dX0_init_30 (fun q3 H G => ?_)
  refine oo_put S G (ci := 0) (Cl := RX0) (T := TX0) (N := 17) rfl in_X0 tyX0 tyX0_ok nmX0 (r := 0) (by decide) rfl (by simp [pdf]) 10 (by decide) (index := 67) (ref := RX0) q99 (fun x h => h) (Or.inr ⟨rfl, hin, rfl⟩) rfl rfl dX0_init_32 (fun H locs G => ?_)
  refine lv_aload_n hx hb dX0_init_35 rfl (lv_at hl 0 rfl) ?_
  refine lv_bipush (v := nI 6) hx hb dX0_init_36 (by decide) ?_
  refine oo_newI S G hA (r := 4) (by decide) rfl (by omega) (show 0 + 1 + 1 + 1 + 1 ≤ 8 by omega) (show 0 + 20 + 6 + 720 + 6 ≤ 818 by omega) dX0_init_38 (fun q4 H G => ?_)
  refine oo_put S G (ci := 0) (Cl := RX0) (T := TX0) (N := 17) rfl in_X0 tyX0 tyX0_ok nmX0 (r := 0) (by decide) rfl (by simp [pdf]) 11 (by decide) (index := 71) (ref := RX0) q100 (fun x h => h) (Or.inr ⟨rfl, hin, rfl⟩) rfl rfl dX0_init_40 (fun H locs G => ?_)
  refine lv_aload_n hx hb dX0_init_43 rfl (lv_at hl 0 rfl) ?_
  refine lv_bipush (v := nI 6) hx hb dX0_init_44 (by decide) ?_
  refine oo_newL S G hA (r := 5) (by decide) rfl (by omega) (show 0 + 1 + 1 + 1 + 1 + 1 ≤ 8 by omega) (show 0 + 20 + 6 + 720 + 6 + 6 ≤ 818 by omega) dX0_init_46 (fun q5 H G => ?_)
  refine oo_put S G (ci := 0) (Cl := RX0) (T := TX0) (N := 17) rfl in_X0 tyX0 tyX0_ok nmX0 (r := 0) (by decide) rfl (by simp [pdf]) 12 (by decide) (index := 74) (ref := RX0) q101 (fun x h => h) (Or.inr ⟨rfl, hin, rfl⟩) rfl rfl dX0_init_48 (fun H locs G => ?_)
  refine lv_aload_n hx hb dX0_init_51 rfl (lv_at hl 0 rfl) ?_
  refine lv_bipush (v := nI 20) hx hb dX0_init_52 (by decide) ?_
  refine oo_newI S G hA (r := 6) (by decide) rfl (by omega) (show 0 + 1 + 1 + 1 + 1 + 1 + 1 ≤ 8 by omega) (show 0 + 20 + 6 + 720 + 6 + 6 + 20 ≤ 818 by omega) dX0_init_54 (fun q6 H G => ?_)
  refine oo_put S G (ci := 0) (Cl := RX0) (T := TX0) (N := 17) rfl in_X0 tyX0 tyX0_ok nmX0 (r := 0) (by decide) rfl (by simp [pdf]) 14 (by decide) (index := 78) (ref := RX0) q103 (fun x h => h) (Or.inr ⟨rfl, hin, rfl⟩) rfl rfl dX0_init_56 (fun H locs G => ?_)
  refine lv_aload_n hx hb dX0_init_59 rfl (lv_at hl 0 rfl) ?_
  refine lv_bipush (v := nI 20) hx hb dX0_init_60 (by decide) ?_
  refine oo_newZ S G hA (r := 7) (by decide) rfl (by omega) (show 0 + 1 + 1 + 1 + 1 + 1 + 1 + 1 ≤ 8 by omega) (show 0 + 20 + 6 + 720 + 6 + 6 + 20 + 20 ≤ 818 by omega) dX0_init_62 (fun q7 H G => ?_)
  refine oo_put S G (ci := 0) (Cl := RX0) (T := TX0) (N := 17) rfl in_X0 tyX0 tyX0_ok nmX0 (r := 0) (by decide) rfl (by simp [pdf]) 15 (by decide) (index := 81) (ref := RX0) q104 (fun x h => h) (Or.inr ⟨rfl, hin, rfl⟩) rfl rfl dX0_init_64 (fun H locs G => ?_)
  refine lv_aload_n hx hb dX0_init_67 rfl (lv_at hl 0 rfl) ?_
  refine lv_bipush (v := nI 20) hx hb dX0_init_68 (by decide) ?_
  refine oo_newI S G hA (r := 8) (by decide) rfl (by omega) (show 0 + 1 + 1 + 1 + 1 + 1 + 1 + 1 + 1 ≤ 8 by omega) (show 0 + 20 + 6 + 720 + 6 + 6 + 20 + 20 + 20 ≤ 818 by omega) dX0_init_70 (fun q8 H G => ?_)
  refine oo_put S G (ci := 0) (Cl := RX0) (T := TX0) (N := 17) rfl in_X0 tyX0 tyX0_ok nmX0 (r := 0) (by decide) rfl (by simp [pdf]) 16 (by decide) (index := 85) (ref := RX0) q105 (fun x h => h) (Or.inr ⟨rfl, hin, rfl⟩) rfl rfl dX0_init_72 (fun H locs G => ?_)
  refine lv_aload_n hx hb dX0_init_75 rfl (lv_at hl 0 rfl) ?_
  refine lv_iconst (v := nI 0) hx hb dX0_init_76 (by decide) ?_
  refine oo_put S G (ci := 0) (Cl := RX0) (T := TX0) (N := 17) rfl in_X0 tyX0 tyX0_ok nmX0 (r := 0) (by decide) rfl (by simp [pdf]) 2 (by decide) (index := 88) (ref := RX0) q91 (fun x h => h) (Or.inl rfl) rfl rfl dX0_init_77 (fun H locs G => ?_)
  refine ww_vretN S hr hlk G (by omega) (by omega) ⟨rfl, adp a q1 q2 q3 q4 q5 q6 q7 q8, rfl, ?_⟩ dX0_init_80
  exact pw_ext rfl rfl rfl rfl rfl rfl rfl rfl rfl (fun r hr => by rw [xW_pn hr]; unfold pw0; simp only [wr_s]; repeat rw [if_neg (by omega)])
