/-! ===== a deque of 17 places: its elements in order ===== -/
def ps (hd i : Int) : Int := if hd + i < 17 then hd + i else hd + i - 17
/-- the deque's elements are L 0 .. L (n - 1) -/
def DQ (f : Int → Option Nat) (hd tl n : Int) (L : Int → Nat) : Prop := (0 ≤ hd ∧ hd < 17) ∧ (0 ≤ n ∧ n ≤ 16) ∧ tl = ps hd n ∧ ∀ i, 0 ≤ i → i < n → f (ps hd i) = some (L i)
theorem DQ.r {f : Int → Option Nat} {hd tl n : Int} {L : Int → Nat} (h : DQ f hd tl n L) : (0 ≤ hd ∧ hd < 17) ∧ (0 ≤ tl ∧ tl < 17) := by
  obtain ⟨a, b, c, d⟩ := h
  refine ⟨a, ?_⟩
  rw [c]
  unfold ps
  split <;> omega
theorem DQ.emp {f : Int → Option Nat} {hd tl n : Int} {L : Int → Nat} (h : DQ f hd tl n L) : hd = tl ↔ n = 0 := by
  obtain ⟨a, b, c, d⟩ := h
  rw [c]
  unfold ps
  split <;> omega
theorem DQ.size {f : Int → Option Nat} {hd tl n : Int} {L : Int → Nat} (h : DQ f hd tl n L) : (if tl - hd < 0 then tl - hd + 17 else tl - hd) = n := by
  obtain ⟨a, b, c, d⟩ := h
  rw [c]
  unfold ps
  split <;> split <;> omega
theorem DQ.full {f : Int → Option Nat} {hd tl n : Int} {L : Int → Nat} (h : DQ f hd tl n L) (hn : n < 16) : ¬ hd = (if tl + 1 < 17 then tl + 1 else 0) := by
  obtain ⟨a, b, c, d⟩ := h
  rw [c]
  unfold ps
  split <;> split <;> omega
theorem DQ.first {f : Int → Option Nat} {hd tl n : Int} {L : Int → Nat} (h : DQ f hd tl n L) (hn : 0 < n) : f hd = some (L 0) := by
  have := h.2.2.2 0 (Int.le_refl 0) hn
  have e : ps hd 0 = hd := by have := h.1; unfold ps; split <;> omega
  rw [e] at this
  exact this
theorem DQ.last {f : Int → Option Nat} {hd tl n : Int} {L : Int → Nat} (h : DQ f hd tl n L) (hn : 0 < n) : f (if tl - 1 < 0 then 17 - 1 else tl - 1) = some (L (n - 1)) := by
  have q := h.2.2.2 (n - 1) (by omega) (by omega)
  obtain ⟨a, b, c, d⟩ := h
  have e : (if tl - 1 < 0 then (17 : Int) - 1 else tl - 1) = ps hd (n - 1) := by
    rw [c]; unfold ps; split <;> split <;> split <;> omega
  rw [e]
  exact q
theorem DQ.pollFirst {f : Int → Option Nat} {hd tl n : Int} {L : Int → Nat} (h : DQ f hd tl n L) (hn : 0 < n) : DQ (uq f hd none) (if hd + 1 < 17 then hd + 1 else 0) tl (n - 1) (fun i => L (i + 1)) := by
  obtain ⟨a, b, c, d⟩ := h
  refine ⟨by split <;> omega, by omega, ?_, fun i h1 h2 => ?_⟩
  · rw [c]; unfold ps; split <;> split <;> split <;> omega
  · have q := d (i + 1) (by omega) (by omega)
    have e : ps (if hd + 1 < 17 then hd + 1 else 0) i = ps hd (i + 1) := by unfold ps; split <;> split <;> split <;> omega
    rw [e, uq_n (by unfold ps; split <;> omega)]
    exact q
theorem DQ.pollLast {f : Int → Option Nat} {hd tl n : Int} {L : Int → Nat} (h : DQ f hd tl n L) (hn : 0 < n) : DQ (uq f (if tl - 1 < 0 then 17 - 1 else tl - 1) none) hd (if tl - 1 < 0 then 17 - 1 else tl - 1) (n - 1) L := by
  obtain ⟨a, b, c, d⟩ := h
  have e : (if tl - 1 < 0 then (17 : Int) - 1 else tl - 1) = ps hd (n - 1) := by
    rw [c]; unfold ps; split <;> split <;> split <;> omega
  rw [e]
  refine ⟨a, by omega, rfl, fun i h1 h2 => ?_⟩
  rw [uq_n (by unfold ps; split <;> split <;> omega)]
  exact d i h1 (by omega)
theorem DQ.add {f : Int → Option Nat} {hd tl n : Int} {L : Int → Nat} (h : DQ f hd tl n L) (hn : n < 16) (q : Nat) : DQ (uq f tl (some q)) hd (if tl + 1 < 17 then tl + 1 else 0) (n + 1) (fun i => if i = n then q else L i) := by
  obtain ⟨a, b, c, d⟩ := h
  refine ⟨a, by omega, ?_, fun i h1 h2 => ?_⟩
  · rw [c]; unfold ps; split <;> split <;> split <;> omega
  · by_cases hi : i = n
    · show _ = some (if i = n then q else L i)
      rw [if_pos hi, hi, ← c]; exact uq_s
    · show _ = some (if i = n then q else L i)
      rw [if_neg hi, uq_n (by rw [c]; unfold ps; split <;> split <;> omega)]
      exact d i h1 (by omega)
theorem DQ.new {L : Int → Nat} : DQ (fun _ => none) 0 0 0 L := ⟨by decide, by decide, by decide, fun i h1 h2 => by omega⟩
