theorem i2f_dec (a : Int32) : ∃ (s : Bool) (c : Nat) (q : Int), FP.Core.decode FP.Core.b32 (FP.i2f a).toNat = .fin s c q ∧ (a.toInt ≠ 0 → c ≠ 0) := by
  have hr := a.le_toInt
  have hr2 := a.toInt_lt
  have e : (FP.i2f a).toNat = FP.Core.encode FP.Core.b32 (FP.Core.roundRatio FP.Core.b32 (decide (a.toInt < 0)) a.toInt.natAbs 1 0) % 2 ^ 32 := UInt32.toNat_ofNat'
  rw [e]
  by_cases h0 : a.toInt.natAbs = 0
  · have e2 : FP.Core.roundRatio FP.Core.b32 (decide (a.toInt < 0)) a.toInt.natAbs 1 0 = .fin (decide (a.toInt < 0)) 0 (-149) := if_pos h0
    rw [e2]
    obtain ⟨s, c, q, h1, h2⟩ := dec32 (N := FP.Core.encode FP.Core.b32 (.fin (decide (a.toInt < 0)) 0 (-149)) % 2 ^ 32) (by cases decide (a.toInt < 0) <;> decide)
    exact ⟨s, c, q, h1, fun hn => absurd h0 (by omega)⟩
  · obtain ⟨c, q, e2, h1, h2, h3, h4⟩ := rnd_int (f := FP.Core.b32) (s := decide (a.toInt < 0)) h0 (by omega) (by decide) (by decide) (by decide) (by decide) (by decide)
    rw [e2]
    have h2 : c < 16777216 := h2
    have h3 : (-149 : Int) ≤ q := h3
    have e3 : FP.Core.encode FP.Core.b32 (.fin (decide (a.toInt < 0)) c q) = if c < 8388608 then ((decide (a.toInt < 0)).toNat * 256 + 0) * 8388608 + c else ((decide (a.toInt < 0)).toNat * 256 + ((q - (-149)).toNat + 1)) * 8388608 + (c - 8388608) := rfl
    rw [e3]
    generalize decide (a.toInt < 0) = s
    have key : ∀ N : Nat, N = (if c < 8388608 then (s.toNat * 256 + 0) * 8388608 + c else (s.toNat * 256 + ((q - (-149)).toNat + 1)) * 8388608 + (c - 8388608)) → (N % 2 ^ 32) / 8388608 % 256 ≠ 255 ∧ (N % 2 ^ 32) % 2 ^ 31 ≠ 0 := by
      intro N hN
      cases s <;> simp only [Bool.toNat_false, Bool.toNat_true] at hN <;> split at hN <;> omega
    obtain ⟨k1, k2⟩ := key _ rfl
    obtain ⟨s2, c2, q2, j1, j2⟩ := dec32 k1
    exact ⟨s2, c2, q2, j1, fun _ => j2 k2⟩
theorem vf_f {a b : Int} (hb : -2147483648 ≤ b ∧ b < 2147483648) (h0 : b ≠ 0) : vf_n32 (FP.fdiv (FP.i2f (iI a)) (FP.i2f (iI b))) := by
  obtain ⟨s1, c1, q1, e1, _⟩ := i2f_dec (iI a)
  obtain ⟨s2, c2, q2, e2, h2⟩ := i2f_dec (iI b)
  have h3 := h2 (by rw [iI_toInt hb]; exact h0)
  have e : FP.fdiv (FP.i2f (iI a)) (FP.i2f (iI b)) = UInt32.ofNat (FP.Core.encode FP.Core.b32 (FP.Core.quotient FP.Core.b32 (FP.Core.decode FP.Core.b32 (FP.i2f (iI a)).toNat) (FP.Core.decode FP.Core.b32 (FP.i2f (iI b)).toNat))) := rfl
  rw [e, e1, e2]
  refine fl_n32 (enc32 ?_)
  show FR _ (if c2 = 0 then _ else FP.Core.roundRatio FP.Core.b32 (s1 != s2) c1 c2 (q1 - q2))
  rw [if_neg h3]
  exact FR_ratio (by decide) (by decide)
