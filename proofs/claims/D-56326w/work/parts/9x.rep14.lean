theorem c_nul_0 {v : Int} (h : ¬ v = 0) : c_nul v = 0 := by unfold c_nul; rw [if_neg h]
