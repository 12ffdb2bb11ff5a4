/-! ===== longs that hold ints ===== -/
def lI (x : Int) : Int64 := Int64.ofInt x
abbrev jv (x : Int) : Value := .long (lI x)
theorem lI_toInt {x : Int} (h : -9223372036854775808 ≤ x ∧ x < 9223372036854775808) : (lI x).toInt = x := Int64.toInt_ofInt_of_le h.1 h.2
theorem iI_l {x : Int} (h : -2147483648 ≤ x ∧ x < 2147483648) : (iI x).toInt64 = lI x := Int64.toInt_inj.mp (by rw [Int32.toInt_toInt64, iI_toInt h, lI_toInt (by omega)])
def UQl (E : EE) (x : Int) (w1 : va_W) (A : Nat → Prop) : Array Value → State → Outcome → State → Prop := va_Ql (fun (r : Int64) (_ : Unit) => r = lI x) (fun _ t => va_P E.1 CL w1 t.heap ∧ va_D A w1) A
section NCALLL
variable {p : Program} {l : Launch} {e : Env} {R : Room} {s : State} {m : MethodId} {args : Array Value} {below : List Frame} {meth : Method} {c : Code} {H : Heap} {locs : List Loc} {cells slots : Nat} {Q : State → Prop}
variable {pc : Nat} {ls : Array Slot} {rest st0 : List Value} {ws w1 : va_W} {A : Nat → Prop} {H0 : Heap} {E : EE} {x : Int} {mc ms : Nat} {a : Array Value}
theorem n_cul (hr : va_Run p l e R s m args below meth c H locs cells slots mc ms (F0 m pc ls st0) rest (UQl E x w1 (va_A ws H.size) a) (va_A ws H.size)) (hD : va_D A ws) (hS : va_S A H0 H locs) (hA : ∀ q : Nat, H0.size ≤ q → A q) (kk : ∀ (H1 : Heap) (locs1 : List Loc), va_P E.1 CL w1 H1 → va_D A w1 → va_S A H0 H1 locs1 → W p l e R s m args below meth c H1 locs1 (cells + mc) (slots + ms) Q (F0 m (pc + 3) ls (jv x :: rest))) : W p l e R s m args below meth c H locs cells slots Q (F0 m pc ls st0) := by
  have hF := va_A_in hD hS hA
  refine va_calll hr hS (fun q _ h => hF q h) hF (fun r u t H1 locs1 ht hvm h1 hB hz hk hS1 => ?_)
  subst h1
  subst ht
  exact kk t.heap locs1 hB.1 (hB.2.weaken (fun k q _ h => hF q.1 h)) hS1
end NCALLL
