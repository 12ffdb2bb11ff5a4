/-! ===== commands, 4: making and touching ===== -/
def c_op (g : Int → Int) (t th : Int) : Int := if 97 ≤ t ∧ t ≤ 104 then (if m_opened g th = true then 0 else 2) else 1
theorem c_op_r (g : Int → Int) (t th : Int) : 0 ≤ c_op g t th ∧ c_op g t th ≤ 2 := by unfold c_op; repeat' split <;> omega
theorem m_opened_r {g : Int → Int} {th : Int} (h : m_opened g th = true) : 0 ≤ th ∧ th ≤ 3 := by
  unfold m_opened at h
  rw [Bool.and_eq_true] at h
  exact of_decide_eq_true h.1
theorem c_op_ok {g : Int → Int} {t th : Int} (h : ¬ 0 < c_op g t th) : (97 ≤ t ∧ t ≤ 104) ∧ m_opened g th = true ∧ 0 ≤ th ∧ th ≤ 3 := by
  unfold c_op at h
  split at h
  · rename_i h1
    split at h
    · rename_i h2; exact ⟨h1, h2, m_opened_r h2⟩
    · omega
  · omega
/-- why what would be got is refused: the number and the detail; 0: it isn't -/
noncomputable def m_den (g : Int → Int) (t th : Int) : Int × Int := if 0 ≤ (m_dues g t th).2.2 then (5, (m_dues g t th).2.2) else if 60 < g 1 + (m_dues g t th).1 then (6, 60) else (0, 0)
theorem m_den_0 {g : Int → Int} {t th : Int} (h : ¬ 0 < (m_den g t th).1) : (m_dues g t th).2.2 < 0 ∧ g 1 + (m_dues g t th).1 ≤ 60 := by
  unfold m_den at h
  split at h
  · exact absurd (show (0 : Int) < 5 by decide) h
  · split at h
    · exact absurd (show (0 : Int) < 6 by decide) h
    · omega
theorem m_den_r {g : Int → Int} (htw : TW g) (hsw : SwOK g) {t th : Int} (h : 0 ≤ t ∧ t < 8) : (0 ≤ (m_den g t th).1 ∧ (m_den g t th).1 ≤ 6) ∧ 0 ≤ (m_den g t th).2 ∧ (m_den g t th).2 ≤ 60 := by
  have := m_dues_r htw hsw (th := th) h
  unfold m_den
  repeat' split
  all_goals simp
  all_goals omega
def dn (x : Int × Int) (a b : Int) : Int := if 0 < x.1 then a else b
noncomputable def A_make (g fl : Int → Int) (t th : Int) : Res := if 0 < c_op g t th then .inl (c_op g t th) else if 0 < (m_den g (t - 97) th).1 then .inr (.inl (m_den g (t - 97) th)) else .inr (.inr ((m_get g th 8 (t - 97) 0 (g, fl)).1, (m_get g th 8 (t - 97) 0 (g, fl)).2.1))
def rs_fl (f f2 : Int → Int) : Res → Int → Int | .inl _ => f | .inr (.inl _) => f | .inr (.inr _) => f2
def rs_nw (a b : Int) : Res → Int | .inl _ => a | .inr (.inl _) => b | .inr (.inr _) => b
noncomputable def c_wd (g : Int → Int) (t th : Int) : Int := if 0 < c_op g t th then c_op g t th else if 0 ≤ (m_dues g (t - 97) th).2.2 then 3 else 0
def c_tch (g : Int → Int) (o p th : Int) : Int := if m_noneed g o p = true ∨ m_opened g th = false then 1 else 0
theorem c_tch_r (g : Int → Int) (o p th : Int) : 0 ≤ c_tch g o p th ∧ c_tch g o p th ≤ 1 := by unfold c_tch; split <;> omega
theorem c_tch_ok {g : Int → Int} {o p th : Int} (h : ¬ 0 < c_tch g o p th) : m_noneed g o p = false ∧ m_opened g th = true ∧ 0 ≤ th ∧ th ≤ 3 := by
  unfold c_tch at h
  split at h
  · omega
  · rename_i h1
    have h2 : m_noneed g o p = false := by
      cases hq : m_noneed g o p with
      | false => rfl
      | true => exact absurd (Or.inl hq) h1
    have h3 : m_opened g th = true := by
      cases hq : m_opened g th with
      | true => rfl
      | false => exact absurd (Or.inr hq) h1
    exact ⟨h2, h3, m_opened_r h3⟩
noncomputable def A_tch (g fl : Int → Int) (o p th : Int) : Res := if 0 < c_tch g o p th then .inl (c_tch g o p th) else if 0 < m_thing g o (7 + p) then .inr (.inl (7, m_thing g o (7 + p) - 1))
  else if 0 < (m_den g (m_thing g o (4 + p)) th).1 then .inr (.inl (m_den g (m_thing g o (4 + p)) th))
  else .inr (.inr ((m_get g th 8 (m_thing g o (4 + p)) 0 (g, fl)).1, ui (m_get g th 8 (m_thing g o (4 + p)) 0 (g, fl)).2.1 (61 + 10 * o + (7 + p)) ((m_get g th 8 (m_thing g o (4 + p)) 0 (g, fl)).1 + 1)))
