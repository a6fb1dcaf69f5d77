/-! Math.sqrt: not walked yet -/
theorem st_J1_sqrt (l : Launch) (v : UInt64) (h : rtOK v) : sC l yJ1_sqrt cJ1_sqrt 2 (some .double) 4 [.double v] (some (.double (rtD v))) := by sorry
