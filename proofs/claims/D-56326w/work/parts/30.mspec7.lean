/-! ===== commands, 2 ===== -/
def c_if (k : Int) (b : Bool) : Int := if b = true then k else 0
theorem c_if_r {k : Int} (hk : 0 ≤ k ∧ k ≤ 9) (b : Bool) : 0 ≤ c_if k b ∧ c_if k b ≤ 9 := by unfold c_if; split <;> omega
theorem c_if_no {k : Int} {b : Bool} (hk : 0 < k) (h : ¬ 0 < c_if k b) : b = false ∧ c_if k b = 0 := by
  cases b with
  | false => exact ⟨rfl, rfl⟩
  | true => exact absurd (show 0 < k from hk) h
theorem c_if_yes {k : Int} {b : Bool} (h : 0 < c_if k b) : b = true ∧ c_if k b = k := by
  cases b with
  | false => exact absurd (show (0 : Int) < 0 from h) (by decide)
  | true => exact ⟨rfl, rfl⟩
/-! drop -/
def m_hasobj (g : Int → Int) (t : Int) : Bool := exB (fun k => m_here g k && decide (m_thing g k 0 = t)) (g 1)
def s_drop (g : Int → Int) (t : Int) : Int → Int := fun x => if 5 + 7 * t ≤ x ∧ x < 5 + 7 * t + 6 then 0 else g x
def A_drop (g : Int → Int) (t : Int) : Res := if 0 < c_none g t then .inl (c_none g t) else if m_hasobj g (t - 97) = true then .inl 3 else .inr (.inr (m_recipes (s_drop g (t - 97)), s_drop g (t - 97)))
/-! needs -/
def s_add (g : Int → Int) (t n : Int) (z : Bool) : Int → Int := m_set (m_set g t (3 + m_of g t 2) (n + c_if 8 z)) t 2 (m_of g t 2 + 1)
def c_add (g : Int → Int) (t n : Int) : Int := if (97 ≤ t ∧ t ≤ 104) ∧ (97 ≤ n ∧ n ≤ 104) then (if m_has g (t - 97) = true then 0 else 2) else 1
theorem c_add_r (g : Int → Int) (t n : Int) : 0 ≤ c_add g t n ∧ c_add g t n ≤ 2 := by unfold c_add; repeat' split <;> omega
theorem c_add_ok {g : Int → Int} {t n : Int} (h : ¬ 0 < c_add g t n) : (97 ≤ t ∧ t ≤ 104) ∧ (97 ≤ n ∧ n ≤ 104) ∧ m_has g (t - 97) = true := by
  unfold c_add at h
  split at h
  · rename_i h1
    split at h
    · rename_i h2; exact ⟨h1.1, h1.2, h2⟩
    · omega
  · omega
noncomputable def c_cir (g : Int → Int) (z : Bool) : Int := if z = true then 0 else m_circ g
theorem c_cir_r (g : Int → Int) (z : Bool) : 0 ≤ c_cir g z ∧ c_cir g z ≤ 8 := by
  have := m_circ_r g
  unfold c_cir
  split <;> omega
noncomputable def A_add (g : Int → Int) (t n : Int) (z : Bool) : Res := if 0 < c_add g t n then .inl (c_add g t n)
  else if 0 ≤ m_place g (t - 97) (n - 97) then .inr (.inl (1, m_place g (t - 97) (n - 97)))
  else if m_of g (t - 97) 2 = 3 then .inr (.inl (2, 3))
  else if 0 < c_cir (s_add g (t - 97) (n - 97) z) z then .inr (.inl (3, c_cir (s_add g (t - 97) (n - 97) z) z))
  else .inr (.inr (m_of g (t - 97) 2, s_add g (t - 97) (n - 97) z))
theorem s_add_at {g : Int → Int} {t n : Int} {z : Bool} (h : 0 ≤ m_of g t 2 ∧ m_of g t 2 ≤ 2) : m_of (s_add g t n z) t (3 + m_of g t 2) = n + c_if 8 z := by
  unfold s_add
  rw [m_set_n (by omega) (by omega) (by omega), m_set_s]
theorem s_add_of {g : Int → Int} {t n : Int} {z : Bool} {u w : Int} (h : 0 ≤ m_of g t 2 ∧ m_of g t 2 ≤ 2) (hw : 0 ≤ w ∧ w < 7) (hn : u ≠ t ∨ (w ≠ 2 ∧ w ≠ 3 + m_of g t 2)) : m_of (s_add g t n z) u w = m_of g u w := by
  unfold s_add
  rw [m_set_n (by omega) hw (by omega), m_set_n (by omega) hw (by omega)]
theorem s_add_tw {g : Int → Int} {t n : Int} {z : Bool} (htw : TW g) (h : 0 ≤ m_of g t 2 ∧ m_of g t 2 ≤ 2) : TW (s_add g t n z) := by
  intro u h1 h2
  by_cases hu : u = t
  · subst hu
    have e : m_of (s_add g u n z) u 2 = m_of g u 2 + 1 := m_set_s _ _ _ _
    rw [e]
    omega
  · rw [s_add_of h (by omega) (Or.inl hu)]
    exact htw u h1 h2
theorem s_add_sw {g : Int → Int} {t n : Int} {z : Bool} (hsw : SwOK g) (h : 0 ≤ m_of g t 2 ∧ m_of g t 2 ≤ 2) : SwOK (s_add g t n z) := SwOK_congr (fun u _ _ => s_add_of h (by omega) (Or.inr (by omega))) hsw
theorem m_restore {g g1 g2 : Int → Int} {t k v w : Int} (hz : m_of g t (3 + k) = 0) (hk : m_of g t 2 = k) (e : g1 = ui (ui g (5 + 7 * t + (3 + k)) v) (5 + 7 * t + 2) w) (e2 : g2 = ui (ui g1 (5 + 7 * t + 2) k) (5 + 7 * t + (3 + k)) 0) : g2 = g := by
  funext x
  rw [e2, e]
  unfold ui
  split
  · rename_i h; rw [h]; exact hz.symm
  · split
    · rename_i h; rw [h]; exact hk.symm
    · rfl
/-! cut -/
def c_rem (g : Int → Int) (t n : Int) : Int := if (97 ≤ t ∧ t ≤ 104) ∧ (97 ≤ n ∧ n ≤ 104) then (if m_has g (t - 97) = true ∧ 0 ≤ m_place g (t - 97) (n - 97) then 0 else 2) else 1
theorem c_rem_r (g : Int → Int) (t n : Int) : 0 ≤ c_rem g t n ∧ c_rem g t n ≤ 2 := by unfold c_rem; repeat' split <;> omega
theorem c_rem_ok {g : Int → Int} {t n : Int} (h : ¬ 0 < c_rem g t n) : (97 ≤ t ∧ t ≤ 104) ∧ (97 ≤ n ∧ n ≤ 104) ∧ m_has g (t - 97) = true ∧ 0 ≤ m_place g (t - 97) (n - 97) := by
  unfold c_rem at h
  split at h
  · rename_i h1
    split at h
    · rename_i h2; exact ⟨h1.1, h1.2, h2.1, h2.2⟩
    · omega
  · omega
def s_rem (g : Int → Int) (t p : Int) : Int → Int := fun x => if x = 5 + 7 * t + 2 then m_of g t 2 - 1 else if 5 + 7 * t + 3 + p ≤ x ∧ x < 5 + 7 * t + 2 + m_of g t 2 then g (x + 1) else if x = 5 + 7 * t + 2 + m_of g t 2 then 0 else g x
def A_rem (g : Int → Int) (t n : Int) : Res := if 0 < c_rem g t n then .inl (c_rem g t n) else .inr (.inr (m_place g (t - 97) (n - 97), s_rem g (t - 97) (m_place g (t - 97) (n - 97))))
theorem m_place_ok {g : Int → Int} (htw : TW g) {t n : Int} (h : 0 ≤ t ∧ t < 8) (h0 : 0 ≤ m_place g t n) : m_place g t n < m_of g t 2 ∧ m_need g t (m_place g t n) = n := by
  have h1 := htw t h.1 h.2
  have h2 := fnd_spec (fun k => decide (m_need g t k = n)) (n := m_of g t 2) (by omega)
  unfold m_place at h0 ⊢
  rcases h2 with ⟨e, _⟩ | ⟨_, e2, e3, _⟩
  · omega
  · exact ⟨e2, of_decide_eq_true e3⟩
