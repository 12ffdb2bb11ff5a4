/-! ===== the reference in plain words, 4: longest ways, what would be made ===== -/
def maxN (f : Int → Int) : Nat → Int
  | 0 => 0
  | n + 1 => max (maxN f n) (f n)
def maxI (f : Int → Int) (n : Int) : Int := maxN f n.toNat
theorem maxI_s {f : Int → Int} {n : Int} (h : 0 ≤ n) : maxI f (n + 1) = max (maxI f n) (f n) := by
  obtain ⟨k, rfl⟩ := Int.eq_ofNat_of_zero_le h
  rfl
theorem maxN_b {f : Int → Int} {hi : Int} (n : Nat) (h0 : 0 ≤ hi) (h : ∀ k : Int, 0 ≤ k → k < n → f k ≤ hi) : 0 ≤ maxN f n ∧ maxN f n ≤ hi := by
  induction n with
  | zero => exact ⟨Int.le_refl 0, h0⟩
  | succ n ih =>
    have h1 := ih (fun k a b => h k a (by omega))
    have h2 := h n (by omega) (by omega)
    simp only [maxN]
    omega
theorem maxI_b {f : Int → Int} {hi n : Int} (hn : 0 ≤ n) (h0 : 0 ≤ hi) (h : ∀ k : Int, 0 ≤ k → k < n → f k ≤ hi) : 0 ≤ maxI f n ∧ maxI f n ≤ hi := maxN_b n.toNat h0 (fun k a b => h k a (by omega))
noncomputable def m_lng (g : Int → Int) : Nat → Int → Int
  | 0, _ => 0
  | d + 1, t => maxI (fun k => if m_dir g t k = true then m_lng g d (m_stands g (m_need g t k)) else 0) (m_of g t 2) + m_of g t 1
/-- direct needs fall in r -/
def RK (g : Int → Int) (r : Int → Nat) : Prop := ∀ t k, 0 ≤ t → t < 8 → 0 ≤ k → k < m_of g t 2 → m_dir g t k = true → r (m_stands g (m_need g t k)) < r t
def TM (g : Int → Int) : Prop := ∀ t, 0 ≤ t → t < 8 → 0 ≤ m_of g t 1 ∧ m_of g t 1 ≤ 20
theorem m_need_r (g : Int → Int) (t k : Int) : 0 ≤ m_need g t k ∧ m_need g t k < 8 := ⟨Int.emod_nonneg _ (by decide), Int.emod_lt_of_pos _ (by decide)⟩
theorem m_lng_r {g : Int → Int} (htw : TW g) (hsw : SwOK g) (htm : TM g) : ∀ (d : Nat) (t : Int), 0 ≤ t → t < 8 → 0 ≤ m_lng g d t ∧ m_lng g d t ≤ 20 * d := by
  intro d
  induction d with
  | zero => intro t h1 h2; exact ⟨Int.le_refl 0, Int.le_refl 0⟩
  | succ d ih =>
    intro t h1 h2
    have a1 := htw t h1 h2
    have a2 := htm t h1 h2
    have a3 := maxI_b (f := fun k => if m_dir g t k = true then m_lng g d (m_stands g (m_need g t k)) else 0) (hi := 20 * d) a1.1 (by omega) (fun k b1 b2 => by
      have b3 := m_stands_r hsw (m_need_r g t k)
      have b4 := ih _ b3.1 b3.2
      show (if m_dir g t k = true then m_lng g d (m_stands g (m_need g t k)) else 0) ≤ 20 * (d : Int)
      split <;> omega)
    simp only [m_lng]
    omega
/-- the code of a longest way: is a tool that it may reach without a recipe? -/
noncomputable def c_way (g : Int → Int) (t : Int) : Int := if 0 < c_none g t then c_none g t else if exB (fun k => m_reach g false (t - 97) k && !(m_has g k)) 8 = true then 2 else 0
theorem c_way_r (g : Int → Int) (t : Int) : 0 ≤ c_way g t ∧ c_way g t ≤ 2 := by
  have := c_none_r g t
  unfold c_way
  repeat' split
  all_goals omega
def c_two (b : Bool) : Int := if b = true then 2 else 0
theorem c_two_r (b : Bool) : 0 ≤ c_two b ∧ c_two b ≤ 2 := by unfold c_two; split <;> omega
theorem c_two_no {b : Bool} (h : ¬ 0 < c_two b) : b = false ∧ c_two b = 0 := by
  cases b with
  | false => exact ⟨rfl, rfl⟩
  | true => exact absurd (show (0 : Int) < 2 by decide) h
theorem c_two_yes {b : Bool} (h : 0 < c_two b) : b = true ∧ c_two b = 2 := by
  cases b with
  | false => exact absurd h (by decide)
  | true => exact ⟨rfl, rfl⟩
theorem c_way_2 {g : Int → Int} {t k : Int} (h1 : ¬ 0 < c_none g t) (hk : 0 ≤ k ∧ k < 8) (h2 : (m_reach g false (t - 97) k && !(m_has g k)) = true) : c_way g t = 2 := by
  unfold c_way
  rw [if_neg h1, if_pos (exB_iff.mpr ⟨k, hk.1, hk.2, h2⟩)]
theorem c_way_0 {g : Int → Int} {t : Int} (h1 : ¬ 0 < c_none g t) (h2 : exB (fun k => m_reach g false (t - 97) k && !(m_has g k)) 8 = false) : c_way g t = 0 := by
  unfold c_way
  rw [if_neg h1, h2, if_neg (by decide)]
