/-! ===== the tailor's readers: codes ===== -/
theorem cx_k {K k : Int} {nm : Int → String} {En : String} (h : K = k) (hk : 0 < k) (he : En = nm k) : 0 < K ∧ En = nm K := by
  subst h
  exact ⟨hk, he⟩
theorem c_tool_1 {t : Int} (h : ¬ (97 ≤ t ∧ t ≤ 104)) : c_tool t = 1 := by unfold c_tool; rw [if_neg h]
theorem c_tool_0 {t : Int} (h : 97 ≤ t ∧ t ≤ 104) : c_tool t = 0 := by unfold c_tool; rw [if_pos h]
theorem c_none_1 {g : Int → Int} {t : Int} (h : ¬ (97 ≤ t ∧ t ≤ 104)) : c_none g t = 1 := by unfold c_none; rw [if_neg h]
theorem c_none_2 {g : Int → Int} {t : Int} (h : 97 ≤ t ∧ t ≤ 104) (h2 : m_has g (t - 97) = false) : c_none g t = 2 := by unfold c_none; rw [if_pos h, if_neg (by rw [h2]; decide)]
theorem c_none_0 {g : Int → Int} {t : Int} (h : 97 ≤ t ∧ t ≤ 104) (h2 : m_has g (t - 97) = true) : c_none g t = 0 := by unfold c_none; rw [if_pos h, if_pos h2]
theorem c_need_a {g : Int → Int} {t p : Int} (h : 0 < c_none g t) : c_need g t p = c_none g t := by unfold c_need; rw [if_pos h]
theorem c_need_3 {g : Int → Int} {t p : Int} (h : c_none g t = 0) (h2 : ¬ (0 ≤ p ∧ p ≤ m_of g (t - 97) 2 - 1)) : c_need g t p = 3 := by unfold c_need; rw [if_neg (by omega), if_neg h2]
theorem c_need_0 {g : Int → Int} {t p : Int} (h : c_none g t = 0) (h2 : 0 ≤ p ∧ p ≤ m_of g (t - 97) 2 - 1) : c_need g t p = 0 := by unfold c_need; rw [if_neg (by omega), if_pos h2]
theorem c_op_1 {g : Int → Int} {t th : Int} (h : ¬ (97 ≤ t ∧ t ≤ 104)) : c_op g t th = 1 := by unfold c_op; rw [if_neg h]
theorem c_op_2 {g : Int → Int} {t th : Int} (h : 97 ≤ t ∧ t ≤ 104) (h2 : m_opened g th = false) : c_op g t th = 2 := by unfold c_op; rw [if_pos h, if_neg (by rw [h2]; decide)]
theorem c_op_0 {g : Int → Int} {t th : Int} (h : 97 ≤ t ∧ t ≤ 104) (h2 : m_opened g th = true) : c_op g t th = 0 := by unfold c_op; rw [if_pos h, if_pos h2]
theorem m_op_r {g : Int → Int} {th : Int} (h : m_opened g th = true) : 0 ≤ th ∧ th ≤ 3 := by
  unfold m_opened at h
  exact of_decide_eq_true (Bool.and_eq_true_iff.mp h).1
theorem way_cases {g : Int → Int} {r : Int → Nat} (htw : TW g) (hsw : SwOK g) (htm : TM g) (hrk : RK g r) (hr8 : ∀ t, 0 ≤ t → t < 8 → r t < 8) {t : Int} (ht : 97 ≤ t ∧ t ≤ 104) : (c_way g t = 0 ∧ k_lng g 8 (t - 97) = m_lng g 8 (t - 97) ∧ 0 ≤ k_lng g 8 (t - 97)) ∨ (c_way g t = 2 ∧ k_lng g 8 (t - 97) = -1) := by
  have h1 := k_lng_eq htw hsw htm hrk 8 (t - 97) (by omega) (hr8 _ (by omega) (by omega))
  have h2 := OKT_way (g := g) (t := t - 97)
  rw [show t - 97 + 97 = t by omega] at h2
  by_cases hc : c_way g t = 0
  · have h3 := h1.1 (h2.1 hc).2.2
    have h4 := m_lng_r htw hsw htm 8 (t - 97) (by omega) (by omega)
    exact Or.inl ⟨hc, h3, by omega⟩
  · obtain ⟨h3, h4⟩ := h2.2 (by omega) hc
    exact Or.inr ⟨h3, h1.2 h4⟩
theorem c_wd_1 {g : Int → Int} {t th : Int} (h : 0 < c_op g t th) : c_wd g t th = c_op g t th := by unfold c_wd; rw [if_pos h]
theorem c_wd_3 {g : Int → Int} {t th : Int} (h : c_op g t th = 0) (h2 : ¬ (m_dues g (t - 97) th).2.2 < 0) : c_wd g t th = 3 := by unfold c_wd; rw [if_neg (by omega), if_pos (by omega)]
theorem c_wd_0 {g : Int → Int} {t th : Int} (h : c_op g t th = 0) (h2 : (m_dues g (t - 97) th).2.2 < 0) : c_wd g t th = 0 := by unfold c_wd; rw [if_neg (by omega), if_neg (by omega)]
theorem c_in_k {v lo hi k : Int} (h : ¬ (lo ≤ v ∧ v ≤ hi)) : c_in v lo hi k = k := by unfold c_in; rw [if_neg h]
theorem c_in_0 {v lo hi k : Int} (h : lo ≤ v ∧ v ≤ hi) : c_in v lo hi k = 0 := by unfold c_in; rw [if_pos h]
theorem c_obj_1 {g : Int → Int} {k : Int} (h : m_isobj g k = false) : c_obj g k = 1 := by unfold c_obj; rw [if_neg (by rw [h]; decide)]
theorem c_obj_0 {g : Int → Int} {k : Int} (h : m_isobj g k = true) : c_obj g k = 0 := by unfold c_obj; rw [if_pos h]
theorem c_fill_1 {g : Int → Int} {k p : Int} (h : m_noneed g k p = true) : c_fill g k p = 1 := by unfold c_fill; rw [if_pos h]
theorem c_fill_2 {g : Int → Int} {k p : Int} (h : m_noneed g k p = false) (h2 : m_thing g k (7 + p) = 0) : c_fill g k p = 2 := by unfold c_fill; rw [if_neg (by rw [h]; decide), if_pos h2]
theorem c_fill_0 {g : Int → Int} {k p : Int} (h : m_noneed g k p = false) (h2 : ¬ m_thing g k (7 + p) = 0) : c_fill g k p = 0 := by unfold c_fill; rw [if_neg (by rw [h]; decide), if_neg h2]
theorem c_way_1 {g : Int → Int} {t : Int} (h : ¬ (97 ≤ t ∧ t ≤ 104)) : c_way g t = 1 := by
  have h1 := c_none_1 (g := g) h
  unfold c_way
  rw [if_pos (by omega), h1]
