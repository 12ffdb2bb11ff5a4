/-! ===== small plain laws ===== -/
theorem exB_and {f : Int → Bool} {b : Bool} {n : Int} : exB (fun k => b && f k) n = (exB f n && b) := by
  cases b with
  | true => rw [Bool.and_true]; simp only [Bool.true_and]
  | false => rw [Bool.and_false]; exact exB_none (fun _ _ _ => rfl)
