/-! ===== the state asked ===== -/
theorem sum8 (f : Int → Bool) : 0 ≤ sumI (fun k => b2 (f k)) 8 ∧ sumI (fun k => b2 (f k)) 8 ≤ 8 := by
  have := sumN_b (f := fun k => b2 (f k)) (lo := 0) (hi := 1) 8 (fun k _ _ => b2_r _)
  have e : sumI (fun k => b2 (f k)) 8 = sumN (fun k => b2 (f k)) 8 := rfl
  omega
