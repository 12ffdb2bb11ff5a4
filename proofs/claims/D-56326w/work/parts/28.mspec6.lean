/-! ===== commands: what each does to the row g, as one value for both sides ===== -/
/-- .inl c: it fails with the code c; .inr (.inl (n, d)): a refusal n with the detail d; .inr (.inr (v, g')): it answers v, the row is g' -/
abbrev Res : Type := Int ⊕ ((Int × Int) ⊕ (Int × (Int → Int)))
def rs_code (pl : Int) : Res → Int | .inl c => c | .inr (.inl _) => pl | .inr (.inr _) => 0
def rs_ref : Res → Int | .inl _ => 0 | .inr (.inl _) => 1 | .inr (.inr _) => 0
def rs_val (dv : Int) : Res → Int | .inl _ => dv | .inr (.inl _) => dv | .inr (.inr q) => q.1
def rs_why (w : Int) : Res → Int | .inl _ => w | .inr (.inl q) => q.1 | .inr (.inr _) => w
def rs_det (w : Int) : Res → Int | .inl _ => w | .inr (.inl q) => q.2 | .inr (.inr _) => w
def rs_cau (w : Int) : Res → Int | .inl _ => w | .inr (.inl _) => 0 | .inr (.inr _) => w
def rs_g (g : Int → Int) : Res → Int → Int | .inl _ => g | .inr (.inl _) => g | .inr (.inr q) => q.2
def rs_kw (w : Int) (h row : Int → Int) (c : Int) : Res → Int → Int | .inl _ => h | .inr (.inl _) => h | .inr (.inr _) => k_kw w h row c
def rs_cw (w c : Int) : Res → Int | .inl _ => c | .inr (.inl _) => c | .inr (.inr _) => k_cw w c
/-- the unused needs are 0 -/
def ZN (g : Int → Int) : Prop := ∀ t k, 0 ≤ t → t < 8 → m_of g t 2 ≤ k → k < 3 → m_of g t (3 + k) = 0
/-- the row with one number of a tool changed -/
def m_set (g : Int → Int) (t w v : Int) : Int → Int := ui g (5 + 7 * t + w) v
theorem m_set_s (g : Int → Int) (t w v : Int) : m_of (m_set g t w v) t w = v := ui_s
theorem m_set_n {g : Int → Int} {t w v t2 w2 : Int} (h : 0 ≤ w ∧ w < 7) (h2 : 0 ≤ w2 ∧ w2 < 7) (hn : t2 ≠ t ∨ w2 ≠ w) : m_of (m_set g t w v) t2 w2 = m_of g t2 w2 := ui_n (by omega)
theorem m_stN_congr {g g2 : Int → Int} (h : ∀ t, 0 ≤ t → t < 8 → m_of g2 t 6 = m_of g t 6) (hs : SwOK g) : ∀ (n : Nat) (t : Int), 0 ≤ t → t < 8 → m_stN g2 n t = m_stN g n t := by
  intro n
  induction n with
  | zero => intro t _ _; rfl
  | succ n ih =>
    intro t h1 h2
    simp only [m_stN]
    rw [h t h1 h2]
    split
    · have := hs t h1 h2
      exact ih _ (by omega) (by omega)
    · rfl
theorem SwOK_congr {g g2 : Int → Int} (h : ∀ t, 0 ≤ t → t < 8 → m_of g2 t 6 = m_of g t 6) (hs : SwOK g) : SwOK g2 := by
  intro t h1 h2
  have a := hs t h1 h2
  have b : 0 ≤ m_stN g (m_len g t) t ∧ m_stN g (m_len g t) t < 8 := m_stands_r hs ⟨h1, h2⟩
  have c := m_stN_congr h hs (m_len g t) t h1 h2
  rw [h t h1 h2]
  refine ⟨a.1, a.2.1, m_stands_end ⟨m_len g t, ?_⟩⟩
  rw [c, h _ b.1 b.2]
  exact a.2.2
theorem m_stands_congr {g g2 : Int → Int} (h : ∀ t, 0 ≤ t → t < 8 → m_of g2 t 6 = m_of g t 6) (hs : SwOK g) {t : Int} (ht : 0 ≤ t ∧ t < 8) : m_stands g2 t = m_stands g t := by
  have a := hs t ht.1 ht.2
  have b : 0 ≤ m_stN g (m_len g t) t ∧ m_stN g (m_len g t) t < 8 := m_stands_r hs ht
  have c := m_stN_congr h hs (m_len g t) t ht.1 ht.2
  have d : m_of g2 (m_stN g2 (m_len g t) t) 6 = 0 := by
    rw [c, h _ b.1 b.2]
    exact a.2.2
  rw [m_stands_of d, c]
  rfl
def c_def (g : Int → Int) (t s mn : Int) : Int := if (97 ≤ t ∧ t ≤ 104) ∧ (s = 115 ∨ s = 116 ∨ s = 101) ∧ (1 ≤ mn ∧ mn ≤ 20) then (if m_has g (t - 97) = true then 2 else 0) else 1
theorem c_def_r (g : Int → Int) (t s mn : Int) : 0 ≤ c_def g t s mn ∧ c_def g t s mn ≤ 2 := by unfold c_def; repeat' split <;> omega
theorem c_def_ok {g : Int → Int} {t s mn : Int} (h : ¬ 0 < c_def g t s mn) : (97 ≤ t ∧ t ≤ 104) ∧ (s = 115 ∨ s = 116 ∨ s = 101) ∧ 1 ≤ mn ∧ mn ≤ 20 := by
  unfold c_def at h
  split at h
  · assumption
  · omega
def s_def (g : Int → Int) (t s mn : Int) : Int → Int := m_set (m_set (m_set g t 0 s) t 1 mn) t 2 0
def A_def (g : Int → Int) (t s mn : Int) : Res := if 0 < c_def g t s mn then .inl (c_def g t s mn) else .inr (.inr (m_recipes (s_def g (t - 97) s mn), s_def g (t - 97) s mn))
theorem cpy_b {f h : Int → Int} {a b : Int} (hf : ∀ x, 0 ≤ f x ∧ f x < 2147483648) (hh : ∀ x, 0 ≤ h x ∧ h x < 2147483648) : ∀ x, 0 ≤ cpy f h a b x ∧ cpy f h a b x < 2147483648 := by
  intro x
  unfold cpy
  split
  · exact hf _
  · exact hh _
theorem k_kw_b {w c : Int} {h row : Int → Int} (hh : ∀ x, 0 ≤ h x ∧ h x < 2147483648) (hr : ∀ x, 0 ≤ row x ∧ row x < 2147483648) : ∀ x, 0 ≤ k_kw w h row c x ∧ k_kw w h row c x < 2147483648 := by
  intro x
  unfold k_kw k_kept
  split
  · refine cpy_b hr ?_ x
    intro y
    split
    · unfold k_shift
      split
      · exact hh _
      · exact hh _
    · exact hh y
  · exact hh x
