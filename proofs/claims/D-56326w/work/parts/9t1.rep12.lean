/-! ===== the tailor: the ends of a change ===== -/
abbrev SUP : Type := SU × Option Nat × va_W
/-- thrown out of perform: by the change itself, or a refusal that is kept -/
def XP (nm : Int → String) (R : Res) (lt : Option Nat) (En : String) (z : Option Nat × va_W) : Prop := (z = (lt, []) ∧ ∃ c, R = .inl c ∧ En = nm c) ∨ ∃ (q : Nat) (pre : List Value) (wd : Int × Int), pre.length = 6 ∧ z = (some q, [(q, .inr (5, pre ++ [iv wd.1, iv wd.2, .null]))]) ∧ R = .inr (.inl wd) ∧ En = "java/lang/UnsupportedOperationException"
theorem nmX_1 (a b c : String) : nmX a b c 1 = a := rfl
theorem nmX_2 (a b c : String) : nmX a b c 2 = b := rfl
theorem nmX_3 (a b c : String) : nmX a b c 3 = c := rfl
theorem x_UOE : (xl "ClockworkTailor" 112 114 "java/lang/UnsupportedOperationException" ["java/lang/RuntimeException", "java/lang/Exception"]).all xk = true := by decide +kernel
