theorem TI_add {g : Int → Int} {t n : Int} {z : Bool} (ht : 0 ≤ t ∧ t < 8) (hn : 0 ≤ n ∧ n < 8) (h3 : m_of g t 2 ≤ 2) (hh : m_of g t 0 ≠ 0) (hc : c_cir (s_add g t n z) z = 0) (hi : TI g) : TI (s_add g t n z) := by
  obtain ⟨⟨r, hr, hr8⟩, htw, hsw, htm, hzn, hhn, hsc⟩ := hi
  have hq : 0 ≤ m_of g t 2 ∧ m_of g t 2 ≤ 2 := ⟨(htw t ht.1 ht.2).1, h3⟩
  have hsw2 := s_add_sw (n := n) (z := z) hsw hq
  have h6 : ∀ u, 0 ≤ u → u < 8 → m_of (s_add g t n z) u 6 = m_of g u 6 := fun u _ _ => s_add_of hq (by decide) (Or.inr (by omega))
  have hhn2 : HN (s_add g t n z) := by
    intro u a b h0
    rw [s_add_of hq (by decide) (Or.inr (by omega))] at h0
    have : u ≠ t := fun e => hh (by rw [← e]; exact h0)
    rw [s_add_of hq (by decide) (Or.inl this)]
    exact hhn u a b h0
  have hrk : ∃ r, RK (s_add g t n z) r ∧ ∀ t, 0 ≤ t → t < 8 → r t < 8 := by
    cases z with
    | false => exact ⟨rkf (s_add g t n false), circ_rank hsw2 hhn2 hc, fun u _ _ => rkf_r _ u⟩
    | true =>
      refine ⟨r, RK_sub hsw h6 hr ?_, hr8⟩
      intro u k a b h0 h1 h2
      have hw := htw u a b
      by_cases hu : u = t
      · subst hu
        rw [add_of hq (by decide), if_pos rfl, if_pos rfl] at h1
        by_cases hk : k = m_of g u 2
        · exfalso
          unfold m_dir at h2
          rw [hk, s_add_at hq] at h2
          have := of_decide_eq_true h2
          have e : c_if 8 true = 8 := rfl
          omega
        · exact ⟨k, h0, by omega, by rw [s_add_of hq (by omega) (Or.inr (by omega))]⟩
      · rw [s_add_of hq (by decide) (Or.inl hu)] at h1
        exact ⟨k, h0, h1, by rw [s_add_of hq (by omega) (Or.inl hu)]⟩
  refine ⟨hrk, s_add_tw htw hq, hsw2, ?_, ?_, hhn2, ?_⟩
  · intro u a b
    rw [s_add_of hq (by decide) (Or.inr (by omega))]
    exact htm u a b
  · intro u k a b h0 h1
    have hw := htw u a b
    by_cases hu : u = t
    · subst hu
      rw [add_of hq (by decide), if_pos rfl, if_pos rfl] at h0
      rw [s_add_of hq (by omega) (Or.inr (by omega))]
      exact hzn u k a b (by omega) h1
    · rw [s_add_of hq (by decide) (Or.inl hu)] at h0
      rw [s_add_of hq (by omega) (Or.inl hu)]
      exact hzn u k a b h0 h1
  · intro u a b
    rw [s_add_of hq (by decide) (Or.inr (by omega))]
    exact hsc u a b
theorem TI_rem {g : Int → Int} {t q : Int} (ht : 0 ≤ t ∧ t < 8) (hq : 0 ≤ q ∧ q < m_of g t 2) (hi : TI g) : TI (s_rem g t q) := by
  obtain ⟨⟨r, hr, hr8⟩, htw, hsw, htm, hzn, hhn, hsc⟩ := hi
  have hp : 0 ≤ q ∧ q < m_of g t 2 ∧ m_of g t 2 ≤ 3 := ⟨hq.1, hq.2, (htw t ht.1 ht.2).2⟩
  have ho : ∀ {u w : Int}, 0 ≤ w ∧ w < 7 → (u ≠ t ∨ w < 2 ∨ w = 6) → m_of (s_rem g t q) u w = m_of g u w := by
    intro u w hw hu
    rw [rem_of hp hw]
    by_cases h : u = t
    · rw [if_pos h, if_neg (by omega), if_neg (by omega), if_neg (by omega)]
    · rw [if_neg h]
  have h6 : ∀ u, 0 ≤ u → u < 8 → m_of (s_rem g t q) u 6 = m_of g u 6 := fun u _ _ => ho (by decide) (Or.inr (Or.inr rfl))
  refine ⟨⟨r, RK_sub hsw h6 hr ?_, hr8⟩, ?_, SwOK_congr h6 hsw, ?_, ?_, ?_, ?_⟩
  · intro u k a b h0 h1 _
    have hw := htw u a b
    by_cases hu : u = t
    · subst hu
      rw [rem_of hp (by decide), if_pos rfl, if_pos rfl] at h1
      by_cases hk : q ≤ k
      · refine ⟨k + 1, by omega, by omega, ?_⟩
        rw [rem_of hp (by omega), if_pos rfl, if_neg (by omega), if_pos (by omega)]
        congr 1
        omega
      · refine ⟨k, h0, by omega, ?_⟩
        rw [rem_of hp (by omega), if_pos rfl, if_neg (by omega), if_neg (by omega), if_neg (by omega)]
    · rw [ho (by decide) (Or.inl hu)] at h1
      exact ⟨k, h0, h1, by rw [ho (by omega) (Or.inl hu)]⟩
  · intro u a b
    have hw := htw u a b
    by_cases hu : u = t
    · subst hu
      rw [rem_of hp (by decide), if_pos rfl, if_pos rfl]
      omega
    · rw [ho (by decide) (Or.inl hu)]
      exact hw
  · intro u a b
    rw [ho (by decide) (Or.inr (Or.inl (by decide)))]
    exact htm u a b
  · intro u k a b h0 h1
    have hw := htw u a b
    by_cases hu : u = t
    · subst hu
      rw [rem_of hp (by decide), if_pos rfl, if_pos rfl] at h0
      rw [rem_of hp (by omega), if_pos rfl, if_neg (by omega), if_neg (by omega)]
      split
      · rfl
      · exact hzn u k a b (by omega) h1
    · rw [ho (by decide) (Or.inl hu)] at h0
      rw [ho (by omega) (Or.inl hu)]
      exact hzn u k a b h0 h1
  · intro u a b h0
    rw [ho (by decide) (Or.inr (Or.inl (by decide)))] at h0
    have h2 := hhn u a b h0
    by_cases hu : u = t
    · subst hu
      omega
    · rw [ho (by decide) (Or.inl hu)]
      exact h2
  · intro u a b
    rw [ho (by decide) (Or.inr (Or.inl (by decide)))]
    exact hsc u a b
theorem TI_swap {g : Int → Int} {t v : Int} (hsw2 : SwOK (m_set g t 6 v)) (hc : m_circ (m_set g t 6 v) = 0) (hi : TI g) : TI (m_set g t 6 v) := by
  obtain ⟨_, htw, hsw, htm, hzn, hhn, hsc⟩ := hi
  have ho : ∀ {u w : Int}, 0 ≤ w ∧ w < 6 → m_of (m_set g t 6 v) u w = m_of g u w := fun hw => by rw [sw_of (by omega), if_neg (by omega)]
  have hhn2 : HN (m_set g t 6 v) := by
    intro u a b h0
    rw [ho (by decide)] at h0 ⊢
    exact hhn u a b h0
  refine ⟨⟨rkf (m_set g t 6 v), circ_rank hsw2 hhn2 hc, fun u _ _ => rkf_r _ u⟩, set_tw htw, hsw2, ?_, ?_, hhn2, ?_⟩
  · intro u a b
    rw [ho (by decide)]
    exact htm u a b
  · intro u k a b h0 h1
    have hw := htw u a b
    rw [ho (by decide)] at h0
    rw [ho (by omega)]
    exact hzn u k a b h0 h1
  · intro u a b
    rw [ho (by decide)]
    exact hsc u a b
