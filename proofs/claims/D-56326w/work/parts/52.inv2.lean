/-! ===== what holds of the recipes in every row ===== -/
def SC (g : Int → Int) : Prop := ∀ t, 0 ≤ t → t < 8 → m_of g t 0 = 0 ∨ m_of g t 0 = 115 ∨ m_of g t 0 = 116 ∨ m_of g t 0 = 101
def TI (g : Int → Int) : Prop := (∃ r, RK g r ∧ ∀ t, 0 ≤ t → t < 8 → r t < 8) ∧ TW g ∧ SwOK g ∧ TM g ∧ ZN g ∧ HN g ∧ SC g
theorem def_of {g : Int → Int} {t s mn u w : Int} (hw : 0 ≤ w ∧ w < 7) : m_of (s_def g t s mn) u w = if u = t then (if w = 0 then s else if w = 1 then mn else if w = 2 then 0 else m_of g u w) else m_of g u w := by
  unfold s_def m_set m_of ui
  repeat' split
  all_goals first | rfl | omega
theorem drop_of {g : Int → Int} {t u w : Int} (hw : 0 ≤ w ∧ w < 7) : m_of (s_drop g t) u w = if u = t ∧ w < 6 then 0 else m_of g u w := by
  unfold m_of s_drop
  repeat' split
  all_goals first | rfl | omega
theorem add_of {g : Int → Int} {t n : Int} {z : Bool} {u w : Int} (h : 0 ≤ m_of g t 2 ∧ m_of g t 2 ≤ 2) (hw : 0 ≤ w ∧ w < 7) : m_of (s_add g t n z) u w = if u = t then (if w = 2 then m_of g t 2 + 1 else if w = 3 + m_of g t 2 then n + c_if 8 z else m_of g u w) else m_of g u w := by
  unfold s_add
  generalize m_of g t 2 = q at h ⊢
  unfold m_set m_of ui
  repeat' split
  all_goals first | rfl | omega
theorem rem_of {g : Int → Int} {t q u w : Int} (h : 0 ≤ q ∧ q < m_of g t 2 ∧ m_of g t 2 ≤ 3) (hw : 0 ≤ w ∧ w < 7) : m_of (s_rem g t q) u w = if u = t then (if w = 2 then m_of g t 2 - 1 else if 3 + q ≤ w ∧ w < 2 + m_of g t 2 then m_of g u (w + 1) else if w = 2 + m_of g t 2 then 0 else m_of g u w) else m_of g u w := by
  have e : m_of (s_rem g t q) u w = (s_rem g t q) (5 + 7 * u + w) := rfl
  rw [e]
  unfold s_rem
  generalize m_of g t 2 = k at h ⊢
  unfold m_of
  repeat' split
  all_goals first | rfl | omega | (congr 1; omega)
theorem sw_of {g : Int → Int} {t v u w : Int} (hw : 0 ≤ w ∧ w < 7) : m_of (m_set g t 6 v) u w = if u = t ∧ w = 6 then v else m_of g u w := by
  unfold m_set m_of ui
  repeat' split
  all_goals first | rfl | omega
theorem need_congr {g g2 : Int → Int} {t k : Int} (h : m_of g2 t (3 + k) = m_of g t (3 + k)) : m_need g2 t k = m_need g t k ∧ m_dir g2 t k = m_dir g t k := by
  unfold m_need m_dir
  rw [h]
  exact ⟨rfl, rfl⟩
theorem TI_congr {g g2 : Int → Int} (h : ∀ t w, 0 ≤ t → t < 8 → 0 ≤ w → w < 7 → m_of g2 t w = m_of g t w) (hi : TI g) : TI g2 := by
  obtain ⟨⟨r, hr, hr8⟩, htw, hsw, htm, hzn, hhn, hsc⟩ := hi
  refine ⟨⟨r, ?_, hr8⟩, ?_, SwOK_congr (fun t a b => h t 6 a b (by decide) (by decide)) hsw, ?_, ?_, ?_, ?_⟩
  · intro t k a b h0 h1 h2
    rw [h t 2 a b (by decide) (by decide)] at h1
    have := htw t a b
    obtain ⟨e1, e2⟩ := need_congr (h t (3 + k) a b (by omega) (by omega))
    rw [e1, m_stands_congr (fun t a b => h t 6 a b (by decide) (by decide)) hsw (m_need_r g t k)]
    exact hr t k a b h0 h1 (by rw [← e2]; exact h2)
  · intro t a b
    rw [h t 2 a b (by decide) (by decide)]
    exact htw t a b
  · intro t a b
    rw [h t 1 a b (by decide) (by decide)]
    exact htm t a b
  · intro t k a b h0 h1
    have := htw t a b
    rw [h t 2 a b (by decide) (by decide)] at h0
    rw [h t (3 + k) a b (by omega) (by omega)]
    exact hzn t k a b h0 h1
  · intro t a b h0
    rw [h t 0 a b (by decide) (by decide)] at h0
    rw [h t 2 a b (by decide) (by decide)]
    exact hhn t a b h0
  · intro t a b
    rw [h t 0 a b (by decide) (by decide)]
    exact hsc t a b
theorem TI_te {g g2 : Int → Int} (h : TE g g2) (hi : TI g) : TI g2 := TI_congr (fun t w a b c d => te_of h ⟨a, b⟩ ⟨c, d⟩) hi
/-- rows with the same swaps and no more direct needs -/
theorem RK_sub {g g2 : Int → Int} {r : Int → Nat} (hsw : SwOK g) (h6 : ∀ t, 0 ≤ t → t < 8 → m_of g2 t 6 = m_of g t 6) (hr : RK g r) (h : ∀ t k, 0 ≤ t → t < 8 → 0 ≤ k → k < m_of g2 t 2 → m_dir g2 t k = true → ∃ k2, 0 ≤ k2 ∧ k2 < m_of g t 2 ∧ m_of g t (3 + k2) = m_of g2 t (3 + k)) : RK g2 r := by
  intro t k a b h0 h1 h2
  obtain ⟨k2, b0, b1, b2⟩ := h t k a b h0 h1 h2
  have e1 : m_need g2 t k = m_need g t k2 := by unfold m_need; rw [b2]
  have e2 : m_dir g t k2 = m_dir g2 t k := by unfold m_dir; rw [b2]
  rw [e1, m_stands_congr h6 hsw (m_need_r g t k2)]
  exact hr t k2 a b b0 b1 (by rw [e2]; exact h2)
theorem TI_def {g : Int → Int} {t s mn : Int} (ht : 0 ≤ t ∧ t < 8) (hs : s = 115 ∨ s = 116 ∨ s = 101) (hm : 1 ≤ mn ∧ mn ≤ 20) (hno : m_of g t 0 = 0) (hi : TI g) : TI (s_def g t s mn) := by
  obtain ⟨⟨r, hr, hr8⟩, htw, hsw, htm, hzn, hhn, hsc⟩ := hi
  have h2 := hhn t ht.1 ht.2 hno
  have h6 : ∀ u, 0 ≤ u → u < 8 → m_of (s_def g t s mn) u 6 = m_of g u 6 := fun u _ _ => by rw [def_of (by decide)]; split <;> rfl
  refine ⟨⟨r, RK_sub hsw h6 hr ?_, hr8⟩, ?_, SwOK_congr h6 hsw, ?_, ?_, ?_, ?_⟩
  · intro u k a b h0 h1 _
    rw [def_of (by decide)] at h1
    by_cases hu : u = t
    · rw [if_pos hu] at h1
      simp at h1
      omega
    · rw [if_neg hu] at h1
      have := htw u a b
      exact ⟨k, h0, h1, by rw [def_of (by omega), if_neg hu]⟩
  · intro u a b
    rw [def_of (by decide)]
    have := htw u a b
    split
    · simp
    · exact this
  · intro u a b
    rw [def_of (by decide)]
    have := htm u a b
    split
    · simp
      omega
    · exact this
  · intro u k a b h0 h1
    have hk : 0 ≤ k := by
      rw [def_of (by decide)] at h0
      have := htw u a b
      split at h0
      · simp at h0; exact h0
      · omega
    rw [def_of (by omega)]
    rw [def_of (by decide)] at h0
    split
    · next hu =>
      rw [if_neg (by omega), if_neg (by omega), if_neg (by omega)]
      subst hu
      exact hzn u k a b (by omega) h1
    · next hu =>
      rw [if_neg hu] at h0
      exact hzn u k a b h0 h1
  · intro u a b h0
    rw [def_of (by decide)] at h0 ⊢
    split
    · simp
    · next hu =>
      rw [if_neg hu] at h0
      exact hhn u a b h0
  · intro u a b
    rw [def_of (by decide)]
    split
    · simp
      omega
    · exact hsc u a b
theorem TI_drop {g : Int → Int} {t : Int} (hi : TI g) : TI (s_drop g t) := by
  obtain ⟨⟨r, hr, hr8⟩, htw, hsw, htm, hzn, hhn, hsc⟩ := hi
  have h6 : ∀ u, 0 ≤ u → u < 8 → m_of (s_drop g t) u 6 = m_of g u 6 := fun u _ _ => by rw [drop_of (by decide), if_neg (by omega)]
  refine ⟨⟨r, RK_sub hsw h6 hr ?_, hr8⟩, ?_, SwOK_congr h6 hsw, ?_, ?_, ?_, ?_⟩
  · intro u k a b h0 h1 _
    rw [drop_of (by decide)] at h1
    by_cases hu : u = t
    · rw [if_pos (by omega)] at h1
      omega
    · rw [if_neg (by omega)] at h1
      have := htw u a b
      exact ⟨k, h0, h1, by rw [drop_of (by omega), if_neg (by omega)]⟩
  · intro u a b
    rw [drop_of (by decide)]
    have := htw u a b
    split <;> omega
  · intro u a b
    rw [drop_of (by decide)]
    have := htm u a b
    split <;> omega
  · intro u k a b h0 h1
    rw [drop_of (by decide)] at h0
    have := htw u a b
    have hk : 0 ≤ k := by split at h0 <;> omega
    rw [drop_of (by omega)]
    split
    · rfl
    · next hu =>
      rw [if_neg (by omega)] at h0
      exact hzn u k a b h0 h1
  · intro u a b h0
    rw [drop_of (by decide)] at h0 ⊢
    split
    · rfl
    · next hu =>
      rw [if_neg (by omega)] at h0
      exact hhn u a b h0
  · intro u a b
    rw [drop_of (by decide)]
    split
    · exact Or.inl rfl
    · exact hsc u a b
