/-! ===== what a failed change is refused for ===== -/
def oR : Res → Int × Int
  | .inr (.inl w) => w
  | _ => (9, 0)
/-- the origin's cell, and that the change failed -/
def OSH (R : Res) (q : Nat) (vs : List Value) : Prop := (∃ pre : List Value, pre.length = 6 ∧ vs = pre ++ [iv (oR R).1, iv (oR R).2, .null]) ∧ ¬ ∃ z, R = .inr (.inr z)
theorem OSH_c {R : Res} {c : Int} {q : Nat} {pre : List Value} (h : R = .inl c) (hp : pre.length = 6) : OSH R q (pre ++ [iv 9, iv 0, .null]) := by
  subst h
  exact ⟨⟨pre, hp, rfl⟩, fun ⟨z, hz⟩ => by cases hz⟩
theorem OSH_w {R : Res} {w : Int × Int} {q : Nat} {pre : List Value} (h : R = .inr (.inl w)) (hp : pre.length = 6) : OSH R q (pre ++ [iv w.1, iv w.2, .null]) := by
  subst h
  exact ⟨⟨pre, hp, rfl⟩, fun ⟨z, hz⟩ => by cases hz⟩
