/-- a code that a command answers is not 0; a refusal's number neither -/
def PC : Res → Prop
  | .inl v => 0 < v
  | _ => True
theorem D_pos (g fl : Int → Int) (k a b c : Int) : PC (D_res g fl k a b c) := by
  unfold D_res
  repeat' split
  · unfold A_def; split <;> first | assumption | trivial
  · unfold A_drop; repeat' split
    all_goals first | assumption | trivial | (show (0 : Int) < 3; decide)
  · unfold A_add; repeat' split
    all_goals first | assumption | trivial
  · unfold A_add; repeat' split
    all_goals first | assumption | trivial
  · unfold A_rem; split <;> first | assumption | trivial
  · unfold A_repl; repeat' split
    all_goals first | assumption | trivial
  · unfold A_back; repeat' split
    all_goals first | assumption | trivial
  · unfold A_open; split
    · show (0 : Int) < 1; decide
    · trivial
  · unfold A_close; split
    · trivial
    · show (0 : Int) < 1; decide
  · unfold A_make; repeat' split
    all_goals first | assumption | trivial
  · unfold A_tch; repeat' split
    all_goals first | assumption | trivial
theorem PC_inl {R : Res} (h : PC R) : ∀ v, R = .inl v → 0 < v := fun v e => by rw [e] at h; exact h
