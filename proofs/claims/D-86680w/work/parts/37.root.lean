theorem rt_n {v : UInt64} (h : rtOK v) : vf_n64 (rtD v) := sorry
theorem st_X1_root (l : Launch) (v : UInt64) (hv : rtOK v) : sC l yX1_root cX1_root 17 (some .double) 2 [.double v] (some (.double (rtD v))) := sorry
