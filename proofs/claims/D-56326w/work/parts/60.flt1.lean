/-! ===== quotients of ints are numbers: out of the definitions of the formats ===== -/
theorem fl_n32 {n : Nat} (h : n % 2 ^ 31 ≤ 2139095040) : vf_n32 (UInt32.ofNat n) := by
  unfold vf_n32
  rw [UInt32.le_iff_toNat_le, UInt32.toNat_and, UInt32.toNat_ofNat']
  rw [show (0x7fffffff : UInt32).toNat = 2 ^ 31 - 1 from rfl, Nat.and_two_pow_sub_one_eq_mod]
  show n % 2 ^ 32 % 2 ^ 31 ≤ 2139095040
  omega
theorem fl_n64 {n : Nat} (h : n % 2 ^ 63 ≤ 9218868437227405312) : vf_n64 (UInt64.ofNat n) := by
  unfold vf_n64
  rw [UInt64.le_iff_toNat_le, UInt64.toNat_and, UInt64.toNat_ofNat']
  rw [show (0x7fffffffffffffff : UInt64).toNat = 2 ^ 63 - 1 from rfl, Nat.and_two_pow_sub_one_eq_mod]
  show n % 2 ^ 64 % 2 ^ 63 ≤ 9218868437227405312
  omega
/-- a number in its range -/
def FR (f : FP.Core.Fmt) : FP.Core.Datum → Prop
  | .nan => False
  | .inf _ => True
  | .fin _ c q => c < 2 ^ f.p ∧ f.qmin ≤ q ∧ q ≤ f.qmax
theorem FR_settle {f : FP.Core.Fmt} {s : Bool} {c : Nat} {q : Int} (ht : f.tails < 2 ^ f.p) (hq : f.qmin ≤ q) : FR f (FP.Core.settle f s c q) := by
  unfold FP.Core.settle FP.Core.bound
  repeat' split
  · next h1 h2 => exact ⟨h1, hq, h2⟩
  · trivial
  · next h1 h2 => exact ⟨ht, by omega, h2⟩
  · trivial
theorem FR_ratio {f : FP.Core.Fmt} {s : Bool} {num den : Nat} {e : Int} (ht : f.tails < 2 ^ f.p) (h0 : f.qmin ≤ f.qmax) : FR f (FP.Core.roundRatio f s num den e) := by
  unfold FP.Core.roundRatio
  split
  · exact ⟨Nat.pow_pos (by decide), Int.le_refl _, h0⟩
  · unfold FP.Core.roundAt FP.Core.quantum
    exact FR_settle ht (by omega)
theorem enc32 {x : FP.Core.Datum} (h : FR FP.Core.b32 x) : FP.Core.encode FP.Core.b32 x % 2 ^ 31 ≤ 2139095040 := by
  cases x with
  | nan => exact h.elim
  | inf s => cases s <;> decide
  | fin s c q =>
    obtain ⟨h1, h2, h3⟩ := h
    have h2 : (-149 : Int) ≤ q := h2
    have h3 : q ≤ (104 : Int) := h3
    have h1 : c < 16777216 := h1
    show (if c < 8388608 then (s.toNat * 256 + 0) * 8388608 + c else (s.toNat * 256 + ((q - (-149)).toNat + 1)) * 8388608 + (c - 8388608)) % 2 ^ 31 ≤ 2139095040
    cases s <;> simp only [Bool.toNat_false, Bool.toNat_true] <;> split <;> omega
theorem enc64 {x : FP.Core.Datum} (h : FR FP.Core.b64 x) : FP.Core.encode FP.Core.b64 x % 2 ^ 63 ≤ 9218868437227405312 := by
  cases x with
  | nan => exact h.elim
  | inf s => cases s <;> decide
  | fin s c q =>
    obtain ⟨h1, h2, h3⟩ := h
    have h2 : (-1074 : Int) ≤ q := h2
    have h3 : q ≤ (971 : Int) := h3
    have h1 : c < 9007199254740992 := h1
    show (if c < 4503599627370496 then (s.toNat * 2048 + 0) * 4503599627370496 + c else (s.toNat * 2048 + ((q - (-1074)).toNat + 1)) * 4503599627370496 + (c - 4503599627370496)) % 2 ^ 63 ≤ 9218868437227405312
    cases s <;> simp only [Bool.toNat_false, Bool.toNat_true] <;> split <;> omega
