/-! calls whose receiver is a module -/
theorem lw_U {own : String} {idx : Nat} {C owner : String} {x y : MethodName} {b : ByteArray} {L : Nat} {r : Option FieldType} (h1 : Cond.methodLink own idx x ∈ lw_all) (h2 : Cond.sameMethod x.cls owner x.name x.desc ∈ lw_all) (h3 : Cond.selects C x y ∈ lw_all) (h4 : Cond.instanceMethod y ∈ lw_all) (h5 : Cond.initialized y.cls ∈ lw_all) (h6 : Cond.code y b L r ∈ lw_all) : GoodIn lw_all (va_wsU own idx C owner x y (ws_ y b L r)) := by
  refine lw_app ?_ (lw_meth h6)
  intro w hw
  simp only [List.mem_cons, List.not_mem_nil, or_false] at hw
  rcases hw with e | e | e | e | e
  · rw [e]; exact h1
  · rw [e]; exact h2
  · rw [e]; exact h3
  · rw [e]; exact h4
  · rw [e]; exact h5
theorem lw_O {own : String} {idx : Nat} {C owner : String} {x y : MethodName} {b : ByteArray} {L : Nat} {r : Option FieldType} (h1 : Cond.methodLink own idx x ∈ lw_all) (h2 : Cond.sameMethod x.cls owner x.name x.desc ∈ lw_all) (h0 : Cond.instanceMethod ⟨owner, x.name, x.desc⟩ ∈ lw_all) (h3 : Cond.selects C x y ∈ lw_all) (h4 : Cond.instanceMethod y ∈ lw_all) (h5 : Cond.initialized y.cls ∈ lw_all) (h6 : Cond.code y b L r ∈ lw_all) : GoodIn lw_all (va_wsO own idx C owner x y (ws_ y b L r)) := by
  refine lw_app ?_ (lw_meth h6)
  intro w hw
  simp only [List.mem_cons, List.not_mem_nil, or_false] at hw
  rcases hw with e | e | e | e | e | e
  · rw [e]; exact h1
  · rw [e]; exact h2
  · rw [e]; exact h0
  · rw [e]; exact h3
  · rw [e]; exact h4
  · rw [e]; exact h5
section TX3_
variable {R : Room} {s : State} {args : Array Value} {own C owner : String} {index L h n : Nat} {x y : MethodName} {b : ByteArray} {r : Option FieldType}
theorem xx_cw (hts : ∀ w ∈ lw_all, w.before args s = true) (q1 : Cond.methodLink own index x ∈ lw_all) (q2 : Cond.sameMethod x.cls owner x.name x.desc ∈ lw_all) (q3 : Cond.selects C x y ∈ lw_all) (q4 : Cond.instanceMethod y ∈ lw_all) (q5 : Cond.initialized y.cls ∈ lw_all) (q6 : Cond.code y b L r ∈ lw_all) (hyx : y = ⟨owner, x.name, x.desc⟩) (hd : owner ≠ "java/lang/invoke/MethodHandle" ∧ owner ≠ "java/lang/invoke/VarHandle" ∧ (parseMethodDescriptor x.desc).map (fun d => d.parameters.length) = some n) (hR : h + 1 ≤ R.frames ∧ 8 + (L + 11) + 48 * h ≤ R.locals) : va_CU R s args own C owner index x y b L r (ws_ y b L r) (rm_ h) 0 0 n := va_cwU n hts (lw_U q1 q2 q3 q4 q5 q6) rfl rfl rfl hyx hd hR
theorem xx_cwO (hts : ∀ w ∈ lw_all, w.before args s = true) (q1 : Cond.methodLink own index x ∈ lw_all) (q2 : Cond.sameMethod x.cls owner x.name x.desc ∈ lw_all) (q0 : Cond.instanceMethod ⟨owner, x.name, x.desc⟩ ∈ lw_all) (q3 : Cond.selects C x y ∈ lw_all) (q4 : Cond.instanceMethod y ∈ lw_all) (q5 : Cond.initialized y.cls ∈ lw_all) (q6 : Cond.code y b L r ∈ lw_all) {b0 : ByteArray} {m0 : Nat} {r0 : Option FieldType} (h0 : Cond.code ⟨owner, x.name, x.desc⟩ b0 m0 r0 ∈ lw_all) (hd : owner ≠ "java/lang/invoke/MethodHandle" ∧ owner ≠ "java/lang/invoke/VarHandle" ∧ (parseMethodDescriptor x.desc).map (fun d => d.parameters.length) = some n) (hR : h + 1 ≤ R.frames ∧ 8 + (L + 11) + 48 * h ≤ R.locals) : va_CU R s args own C owner index x y b L r (ws_ y b L r) (rm_ h) 0 0 n := va_cwO n hts (lw_O q1 q2 q0 q3 q4 q5 q6) rfl rfl rfl h0 hd hR
theorem xx_cwA (hts : ∀ w ∈ lw_all, w.before args s = true) (q1 : Cond.methodLink own index x ∈ lw_all) (q2 : Cond.sameMethod x.cls owner x.name x.desc ∈ lw_all) (q3 : Cond.selects C x y ∈ lw_all) (q4 : Cond.instanceMethod y ∈ lw_all) (q5 : Cond.initialized y.cls ∈ lw_all) (q6 : Cond.code y b L r ∈ lw_all) (hz : va_Nw (.declares ⟨owner, x.name, x.desc⟩) s) (hd : owner ≠ "java/lang/invoke/MethodHandle" ∧ owner ≠ "java/lang/invoke/VarHandle" ∧ (parseMethodDescriptor x.desc).map (fun d => d.parameters.length) = some n) (hR : h + 1 ≤ R.frames ∧ 8 + (L + 11) + 48 * h ≤ R.locals) : va_CU R s args own C owner index x y b L r (ws_ y b L r) (rm_ h) 0 0 n := va_cwA n hts (lw_U q1 q2 q3 q4 q5 q6) rfl rfl rfl hz hd hR
end TX3_
/-- what a method over the panel's world ends in -/
abbrev xQ (D : va_G) (dA : Nat → ClassId) (C : tp_C) (d : md_T) (j : xj_T) (o : Option Value) (C' : tp_C) (d' : md_T) (j' : xj_T) : Array Value → State → Outcome → State → Prop := fun _ st oc t => oc = .returned o ∧ xI D dA (xA dA C d j) C' d' j' t ∧ va_F (xA dA C d j) st t
theorem xL_e {dA : Nat → ClassId} {C C' : tp_C} {d d' : md_T} {j j' : xj_T} (h1 : C = C') (h2 : d = d') (h3 : j = j') : xL dA C d j = xL dA C' d' j' := by subst h1; subst h2; subst h3; rfl
theorem xG_D {D : va_G} {dA : Nat → ClassId} {A : Nat → Prop} {C : tp_C} {d : md_T} {j : xj_T} {s : State} {H : Heap} {locs : List Loc} (G : xG D dA A C d j s H locs) : va_Nw (.declares yX2_wideOut) s ∧ va_Nw (.declares yX2_narrowOut) s := ⟨G.2.2.2.2.2.2.1, G.2.2.2.2.2.2.2.1⟩
/-- the delays' states are the first of their rows -/
def jOK (C : tp_C) (d : md_T) (j : xj_T) : Prop := ∀ m, cK C m = 11 → jWf j m = dAD d 21 (16 * m) ∧ jNf j m = dAF d 22 (16 * m)
theorem se_read {k : Nat} (h : k < 14) : Cond.selects (kC k) yX2_read yX2_read ∈ lw_all := k14 (P := fun k => Cond.selects (kC k) yX2_read yX2_read ∈ lw_all) q734 q737 q726 q736 q730 q731 q733 q735 q724 q732 q729 q725 q727 q728 h
theorem se_afterWide {k : Nat} (h : k < 14) : Cond.selects (kC k) yX2_afterWide yX2_afterWide ∈ lw_all := k14 (P := fun k => Cond.selects (kC k) yX2_afterWide yX2_afterWide ∈ lw_all) q874 q877 q866 q876 q870 q871 q873 q875 q864 q872 q869 q865 q867 q868 h
theorem se_afterNarrow {k : Nat} (h : k < 14) : Cond.selects (kC k) yX2_afterNarrow yX2_afterNarrow ∈ lw_all := k14 (P := fun k => Cond.selects (kC k) yX2_afterNarrow yX2_afterNarrow ∈ lw_all) q974 q977 q966 q976 q970 q971 q973 q975 q964 q972 q969 q965 q967 q968 h
theorem se_compare {k : Nat} (h : k < 14) : Cond.selects (kC k) yX2_compare yX2_compare ∈ lw_all := k14 (P := fun k => Cond.selects (kC k) yX2_compare yX2_compare ∈ lw_all) q994 q997 q986 q996 q990 q991 q993 q995 q984 q992 q989 q985 q987 q988 h
theorem se_wideIn {k : Nat} (h : k < 14) : Cond.selects (kC k) yX2_wideIn yX2_wideIn ∈ lw_all := k14 (P := fun k => Cond.selects (kC k) yX2_wideIn yX2_wideIn ∈ lw_all) q1761 q1764 q1753 q1763 q1757 q1758 q1760 q1762 q1751 q1759 q1756 q1752 q1754 q1755 h
theorem se_narrowIn {k : Nat} (h : k < 14) : Cond.selects (kC k) yX2_narrowIn yX2_narrowIn ∈ lw_all := k14 (P := fun k => Cond.selects (kC k) yX2_narrowIn yX2_narrowIn ∈ lw_all) q1791 q1794 q1783 q1793 q1787 q1788 q1790 q1792 q1781 q1789 q1786 q1782 q1784 q1785 h
theorem se_light {k : Nat} (h : k < 14) : Cond.selects (kC k) yX2_light yX2_light ∈ lw_all := k14 (P := fun k => Cond.selects (kC k) yX2_light yX2_light ∈ lw_all) q1776 q1779 q1768 q1778 q1772 q1773 q1775 q1777 q1766 q1774 q1771 q1767 q1769 q1770 h
theorem se_wideSum {k : Nat} (h : k < 14) : Cond.selects (kC k) yX2_wideSum yX2_wideSum ∈ lw_all := k14 (P := fun k => Cond.selects (kC k) yX2_wideSum yX2_wideSum ∈ lw_all) q1806 q1809 q1798 q1808 q1802 q1803 q1805 q1807 q1796 q1804 q1801 q1797 q1799 q1800 h
