theorem i2d_dec (a : Int32) : ∃ (s : Bool) (c : Nat) (q : Int), FP.Core.decode FP.Core.b64 (FP.i2d a).toNat = .fin s c q ∧ (a.toInt ≠ 0 → c ≠ 0) := by
  have hr := a.le_toInt
  have hr2 := a.toInt_lt
  have e : (FP.i2d a).toNat = FP.Core.encode FP.Core.b64 (FP.Core.roundRatio FP.Core.b64 (decide (a.toInt < 0)) a.toInt.natAbs 1 0) % 2 ^ 64 := UInt64.toNat_ofNat'
  rw [e]
  by_cases h0 : a.toInt.natAbs = 0
  · have e2 : FP.Core.roundRatio FP.Core.b64 (decide (a.toInt < 0)) a.toInt.natAbs 1 0 = .fin (decide (a.toInt < 0)) 0 (-1074) := if_pos h0
    rw [e2]
    obtain ⟨s, c, q, h1, h2⟩ := dec64 (N := FP.Core.encode FP.Core.b64 (.fin (decide (a.toInt < 0)) 0 (-1074)) % 2 ^ 64) (by cases decide (a.toInt < 0) <;> decide)
    exact ⟨s, c, q, h1, fun hn => absurd h0 (by omega)⟩
  · obtain ⟨c, q, e2, h1, h2, h3, h4⟩ := rnd_int (f := FP.Core.b64) (s := decide (a.toInt < 0)) h0 (by omega) (by decide) (by decide) (by decide) (by decide) (by decide)
    rw [e2]
    have h2 : c < 9007199254740992 := h2
    have h3 : (-1074 : Int) ≤ q := h3
    have e3 : FP.Core.encode FP.Core.b64 (.fin (decide (a.toInt < 0)) c q) = if c < 4503599627370496 then ((decide (a.toInt < 0)).toNat * 2048 + 0) * 4503599627370496 + c else ((decide (a.toInt < 0)).toNat * 2048 + ((q - (-1074)).toNat + 1)) * 4503599627370496 + (c - 4503599627370496) := rfl
    rw [e3]
    generalize decide (a.toInt < 0) = s
    have key : ∀ N : Nat, N = (if c < 4503599627370496 then (s.toNat * 2048 + 0) * 4503599627370496 + c else (s.toNat * 2048 + ((q - (-1074)).toNat + 1)) * 4503599627370496 + (c - 4503599627370496)) → (N % 2 ^ 64) / 4503599627370496 % 2048 ≠ 2047 ∧ (N % 2 ^ 64) % 2 ^ 63 ≠ 0 := by
      intro N hN
      cases s <;> simp only [Bool.toNat_false, Bool.toNat_true] at hN <;> split at hN <;> omega
    obtain ⟨k1, k2⟩ := key _ rfl
    obtain ⟨s2, c2, q2, j1, j2⟩ := dec64 k1
    exact ⟨s2, c2, q2, j1, fun _ => j2 k2⟩
theorem vf_d {a b : Int} (hb : -2147483648 ≤ b ∧ b < 2147483648) (h0 : b ≠ 0) : vf_n64 (FP.ddiv (FP.i2d (iI a)) (FP.i2d (iI b))) := by
  obtain ⟨s1, c1, q1, e1, _⟩ := i2d_dec (iI a)
  obtain ⟨s2, c2, q2, e2, h2⟩ := i2d_dec (iI b)
  have h3 := h2 (by rw [iI_toInt hb]; exact h0)
  have e : FP.ddiv (FP.i2d (iI a)) (FP.i2d (iI b)) = UInt64.ofNat (FP.Core.encode FP.Core.b64 (FP.Core.quotient FP.Core.b64 (FP.Core.decode FP.Core.b64 (FP.i2d (iI a)).toNat) (FP.Core.decode FP.Core.b64 (FP.i2d (iI b)).toNat))) := rfl
  rw [e, e1, e2]
  refine fl_n64 (enc64 ?_)
  show FR _ (if c2 = 0 then _ else FP.Core.roundRatio FP.Core.b64 (s1 != s2) c1 c2 (q1 - q2))
  rw [if_neg h3]
  exact FR_ratio (by decide) (by decide)
