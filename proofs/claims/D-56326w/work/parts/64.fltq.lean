def UQf (E : EE) (x : UInt32) (w1 : va_W) (A : Nat → Prop) : Array Value → State → Outcome → State → Prop := va_Qf (fun (r : UInt32) (_ : Unit) => r = x) (fun _ t => va_P E.1 CL w1 t.heap ∧ va_D A w1) A
def UQd (E : EE) (x : UInt64) (w1 : va_W) (A : Nat → Prop) : Array Value → State → Outcome → State → Prop := va_Qd (fun (r : UInt64) (_ : Unit) => r = x) (fun _ t => va_P E.1 CL w1 t.heap ∧ va_D A w1) A
def m_share (g : Int → Int) : UInt32 := FP.fdiv (FP.i2f (iI (g 3))) (FP.i2f (iI (g 2)))
noncomputable def m_mean (g : Int → Int) : UInt64 := FP.ddiv (FP.i2d (iI (sumI (fun k => m_of g k 1) 8))) (FP.i2d (iI (m_recipes g)))
