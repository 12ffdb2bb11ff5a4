/-! ===== the reference in plain words: g is its row of numbers ===== -/
theorem ui_b {f : Int → Int} {i v : Int} (h : ∀ x, 0 ≤ f x ∧ f x < 2147483648) (hv : 0 ≤ v ∧ v < 2147483648) : ∀ x, 0 ≤ ui f i v x ∧ ui f i v x < 2147483648 := by
  intro x
  unfold ui
  split
  · exact hv
  · exact h x
theorem ua_b {ar : Nat → Int → Int} (k : Nat) {f : Int → Int} (h : ∀ j x, 0 ≤ ar j x ∧ ar j x < 2147483648) (hf : ∀ x, 0 ≤ f x ∧ f x < 2147483648) : ∀ j x, 0 ≤ ua ar k f j x ∧ ua ar k f j x < 2147483648 := by
  intro j x
  unfold ua
  cases Nat.beq j k with
  | true => exact hf x
  | false => exact h j x
def m_of (g : Int → Int) (t w : Int) : Int := g (5 + 7 * t + w)
def m_has (g : Int → Int) (t : Int) : Bool := decide (¬ m_of g t 0 = 0)
def m_need (g : Int → Int) (t k : Int) : Int := m_of g t (3 + k) % 8
def m_dir (g : Int → Int) (t k : Int) : Bool := decide (m_of g t (3 + k) < 8)
def m_stN (g : Int → Int) : Nat → Int → Int
  | 0, t => t
  | n + 1, t => if 0 < m_of g t 6 then m_stN g n (m_of g t 6 - 1) else t
theorem em (p : Prop) : p ∨ ¬ p := Classical.em p
/-- how many swaps lead to the end -/
noncomputable def m_len (g : Int → Int) (t : Int) : Nat := @dite Nat (∃ n, m_of g (m_stN g n t) 6 = 0) (Classical.propDecidable _) (fun h => Classical.choose h) (fun _ => 0)
/-- what stands for a tool -/
noncomputable def m_stands (g : Int → Int) (t : Int) : Int := m_stN g (m_len g t) t
/-- the swaps end: every tool has its stand-in -/
def SwOK (g : Int → Int) : Prop := ∀ t, 0 ≤ t → t < 8 → 0 ≤ m_of g t 6 ∧ m_of g t 6 ≤ 8 ∧ m_of g (m_stands g t) 6 = 0
theorem m_stands_end {g : Int → Int} {t : Int} (h : ∃ n, m_of g (m_stN g n t) 6 = 0) : m_of g (m_stands g t) 6 = 0 := by
  unfold m_stands m_len
  rw [dif_pos h]
  exact Classical.choose_spec h
theorem m_stN_end {g : Int → Int} {n : Nat} {t : Int} (h : m_of g t 6 ≤ 0) : m_stN g n t = t := by
  cases n with
  | zero => rfl
  | succ n => simp only [m_stN]; rw [if_neg (by omega)]
theorem m_stN_step {g : Int → Int} {n : Nat} {t : Int} (h : 0 < m_of g t 6) (h2 : m_of g (m_stN g n t) 6 = 0) : ∃ k, n = k + 1 ∧ m_stN g n t = m_stN g k (m_of g t 6 - 1) := by
  cases n with
  | zero => exact absurd h2 (by show ¬ m_of g t 6 = 0; omega)
  | succ k => exact ⟨k, rfl, by simp only [m_stN]; rw [if_pos h]⟩
theorem m_stN_r {g : Int → Int} (h : SwOK g) : ∀ (n : Nat) (t : Int), 0 ≤ t → t < 8 → 0 ≤ m_stN g n t ∧ m_stN g n t < 8 := by
  intro n
  induction n with
  | zero => intro t h1 h2; exact ⟨h1, h2⟩
  | succ n ih =>
    intro t h1 h2
    simp only [m_stN]
    split
    · have := h t h1 h2
      exact ih _ (by omega) (by omega)
    · exact ⟨h1, h2⟩
theorem m_stands_r {g : Int → Int} (h : SwOK g) {t : Int} (h1 : 0 ≤ t ∧ t < 8) : 0 ≤ m_stands g t ∧ m_stands g t < 8 := m_stN_r h _ t h1.1 h1.2
def m_recipes (g : Int → Int) : Int := sumI (fun k => b2 (m_has g k)) 8
theorem m_stN_uniq {g : Int → Int} : ∀ (n k : Nat) (t : Int), m_of g (m_stN g n t) 6 = 0 → m_of g (m_stN g k t) 6 = 0 → m_stN g n t = m_stN g k t := by
  intro n
  induction n with
  | zero =>
    intro k t h1 h2
    have h1 : m_of g t 6 = 0 := h1
    rw [m_stN_end (g := g) (n := k) (t := t) (by omega)]
    rfl
  | succ n ih =>
    intro k t h1 h2
    by_cases h : 0 < m_of g t 6
    · obtain ⟨j, rfl, hj⟩ := m_stN_step h h2
      rw [hj] at h2
      rw [hj]
      simp only [m_stN] at h1 ⊢
      rw [if_pos h] at h1 ⊢
      exact ih j _ h1 h2
    · rw [m_stN_end (g := g) (n := k) (t := t) (by omega), m_stN_end (g := g) (n := n + 1) (t := t) (by omega)]
theorem m_stands_of {g : Int → Int} {n : Nat} {t : Int} (h : m_of g (m_stN g n t) 6 = 0) : m_stands g t = m_stN g n t := m_stN_uniq _ n t (m_stands_end ⟨n, h⟩) h
theorem m_stands_step {g : Int → Int} (hs : SwOK g) {t : Int} (ht : 0 ≤ t ∧ t < 8) (h : 0 < m_of g t 6) : m_stands g t = m_stands g (m_of g t 6 - 1) := by
  have h1 := hs t ht.1 ht.2
  have h2 := hs (m_of g t 6 - 1) (by omega) (by omega)
  have h3 : m_stN g (m_len g (m_of g t 6 - 1) + 1) t = m_stands g (m_of g t 6 - 1) := by
    simp only [m_stN]
    rw [if_pos h]
    rfl
  rw [← h3]
  exact m_stands_of (by rw [h3]; exact h2.2.2)
theorem m_stands_self {g : Int → Int} {t : Int} (h : m_of g t 6 = 0) : m_stands g t = t := m_stands_of (n := 0) h
