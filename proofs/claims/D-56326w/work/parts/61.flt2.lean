theorem near_pos {m d : Nat} (hd : 0 < d) (h : d ≤ m) : 1 ≤ FP.Core.nearest m d := by
  have h1 : 1 ≤ m / d := Nat.div_pos h hd
  unfold FP.Core.nearest
  repeat' split
  all_goals omega
theorem lead1 {n : Nat} (hn : n ≠ 0) : FP.Core.leading n 1 = (n.log2 : Int) := by
  have h1 : Nat.log2 1 = 0 := by decide
  have h2 := Nat.log2_self_le hn
  unfold FP.Core.leading
  rw [h1]
  simp only
  rw [if_pos]
  · omega
  · rw [show ((n.log2 : Int) - ((0 : Nat) : Int)).toNat = n.log2 by omega, show (-((n.log2 : Int) - ((0 : Nat) : Int))).toNat = 0 by omega]
    omega
/-- an int, rounded: a number, not 0 -/
theorem rnd_int {f : FP.Core.Fmt} {s : Bool} {n : Nat} (hn : n ≠ 0) (hl : n < 2 ^ 32) (ht : f.tails < 2 ^ f.p) (h0 : 1 ≤ f.tails) (hp : 1 ≤ f.p) (hq : f.qmin ≤ 0) (hm : 40 ≤ f.qmax) : ∃ (c : Nat) (q : Int), FP.Core.roundRatio f s n 1 0 = .fin s c q ∧ 1 ≤ c ∧ c < 2 ^ f.p ∧ f.qmin ≤ q ∧ q ≤ 40 := by
  have hL : n.log2 < 32 := (Nat.log2_lt hn).mpr hl
  have h2 := Nat.log2_self_le hn
  unfold FP.Core.roundRatio
  rw [if_neg hn]
  unfold FP.Core.roundAt
  have hqn : f.qmin ≤ FP.Core.quantum f n 1 0 ∧ FP.Core.quantum f n 1 0 ≤ 31 ∧ (FP.Core.quantum f n 1 0).toNat ≤ n.log2 := by
    unfold FP.Core.quantum
    rw [lead1 hn]
    omega
  generalize FP.Core.quantum f n 1 0 = q at hqn ⊢
  have hc : 1 ≤ FP.Core.nearest (FP.Core.unitsNum n 0 q) (FP.Core.unitsDen 1 0 q) := by
    unfold FP.Core.unitsNum FP.Core.unitsDen
    refine near_pos (by rw [Nat.one_mul]; exact Nat.pow_pos (by decide)) ?_
    rw [Nat.one_mul]
    have h3 : 2 ^ (q - 0).toNat ≤ 2 ^ n.log2 := Nat.pow_le_pow_right (by decide) (by omega)
    have h4 : n * 1 ≤ n * 2 ^ (0 - q).toNat := Nat.mul_le_mul_left n (Nat.pow_pos (by decide))
    omega
  generalize FP.Core.nearest (FP.Core.unitsNum n 0 q) (FP.Core.unitsDen 1 0 q) = c at hc ⊢
  unfold FP.Core.settle FP.Core.bound
  by_cases h5 : c < 2 ^ f.p
  · rw [if_pos h5, if_pos (by omega)]
    exact ⟨c, q, rfl, hc, h5, hqn.1, by omega⟩
  · rw [if_neg h5, if_pos (by omega)]
    exact ⟨f.tails, q + 1, rfl, h0, ht, by omega, by omega⟩
theorem dec32 {N : Nat} (h : N / 8388608 % 256 ≠ 255) : ∃ (s : Bool) (c : Nat) (q : Int), FP.Core.decode FP.Core.b32 N = .fin s c q ∧ (N % 2 ^ 31 ≠ 0 → c ≠ 0) := by
  have e : FP.Core.decode FP.Core.b32 N = if N / 8388608 % 256 = 255 then (if N % 8388608 = 0 then .inf (FP.Core.fieldS FP.Core.b32 N) else .nan) else if N / 8388608 % 256 = 0 then .fin (FP.Core.fieldS FP.Core.b32 N) (N % 8388608) (-149) else .fin (FP.Core.fieldS FP.Core.b32 N) (8388608 + N % 8388608) (-149 + (((N / 8388608 % 256 : Nat) : Int) - 1)) := rfl
  rw [e, if_neg h]
  split
  · exact ⟨_, _, _, rfl, fun h => by omega⟩
  · exact ⟨_, _, _, rfl, fun h => by omega⟩
theorem dec64 {N : Nat} (h : N / 4503599627370496 % 2048 ≠ 2047) : ∃ (s : Bool) (c : Nat) (q : Int), FP.Core.decode FP.Core.b64 N = .fin s c q ∧ (N % 2 ^ 63 ≠ 0 → c ≠ 0) := by
  have e : FP.Core.decode FP.Core.b64 N = if N / 4503599627370496 % 2048 = 2047 then (if N % 4503599627370496 = 0 then .inf (FP.Core.fieldS FP.Core.b64 N) else .nan) else if N / 4503599627370496 % 2048 = 0 then .fin (FP.Core.fieldS FP.Core.b64 N) (N % 4503599627370496) (-1074) else .fin (FP.Core.fieldS FP.Core.b64 N) (4503599627370496 + N % 4503599627370496) (-1074 + (((N / 4503599627370496 % 2048 : Nat) : Int) - 1)) := rfl
  rw [e, if_neg h]
  split
  · exact ⟨_, _, _, rfl, fun h => by omega⟩
  · exact ⟨_, _, _, rfl, fun h => by omega⟩
