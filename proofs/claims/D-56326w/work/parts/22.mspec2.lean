/-! ===== the reference in plain words, 2: ways, objects ===== -/
theorem m_recipes_r (g : Int → Int) : 0 ≤ m_recipes g ∧ m_recipes g ≤ 8 := by
  have := sumN_b (f := fun k => b2 (m_has g k)) (lo := 0) (hi := 1) 8 (fun k _ _ => b2_r _)
  unfold m_recipes sumI
  show 0 ≤ sumN (fun k => b2 (m_has g k)) 8 ∧ sumN (fun k => b2 (m_has g k)) 8 ≤ 8
  omega
/-- the numbers of needs are in their range -/
def TW (g : Int → Int) : Prop := ∀ t, 0 ≤ t → t < 8 → 0 ≤ m_of g t 2 ∧ m_of g t 2 ≤ 3
/-- a code: is it a tool; has it a recipe -/
def c_tool (t : Int) : Int := if 97 ≤ t ∧ t ≤ 104 then 0 else 1
def c_none (g : Int → Int) (t : Int) : Int := if 97 ≤ t ∧ t ≤ 104 then (if m_has g (t - 97) = true then 0 else 2) else 1
def c_in (v lo hi k : Int) : Int := if lo ≤ v ∧ v ≤ hi then 0 else k
def c_need (g : Int → Int) (t p : Int) : Int := if 0 < c_none g t then c_none g t else if 0 ≤ p ∧ p ≤ m_of g (t - 97) 2 - 1 then 0 else 3
theorem c_tool_r (t : Int) : 0 ≤ c_tool t ∧ c_tool t ≤ 1 := by unfold c_tool; split <;> omega
theorem c_none_r (g : Int → Int) (t : Int) : 0 ≤ c_none g t ∧ c_none g t ≤ 2 := by unfold c_none; repeat' split <;> omega
theorem c_in_r {v lo hi k : Int} (hk : 0 ≤ k ∧ k ≤ 9) : 0 ≤ c_in v lo hi k ∧ c_in v lo hi k ≤ 9 := by unfold c_in; split <;> omega
theorem c_need_r (g : Int → Int) (t p : Int) : 0 ≤ c_need g t p ∧ c_need g t p ≤ 3 := by
  have := c_none_r g t
  unfold c_need
  repeat' split
  all_goals omega
theorem c_tool_ok {t : Int} (h : ¬ 0 < c_tool t) : 97 ≤ t ∧ t ≤ 104 := by
  unfold c_tool at h
  split at h <;> omega
theorem c_none_ok {g : Int → Int} {t : Int} (h : ¬ 0 < c_none g t) : (97 ≤ t ∧ t ≤ 104) ∧ m_has g (t - 97) = true := by
  unfold c_none at h
  split at h
  · split at h
    · rename_i h1 h2; exact ⟨h1, h2⟩
    · omega
  · omega
theorem c_in_ok {v lo hi k : Int} (hk : 0 < k) (h : ¬ 0 < c_in v lo hi k) : lo ≤ v ∧ v ≤ hi := by
  unfold c_in at h
  split at h <;> omega
theorem c_need_ok {g : Int → Int} {t p : Int} (h : ¬ 0 < c_need g t p) : (97 ≤ t ∧ t ≤ 104) ∧ m_has g (t - 97) = true ∧ 0 ≤ p ∧ p ≤ m_of g (t - 97) 2 - 1 := by
  unfold c_need at h
  split at h
  · omega
  · rename_i h1
    obtain ⟨h2, h3⟩ := c_none_ok h1
    split at h
    · rename_i h4; exact ⟨h2, h3, h4.1, h4.2⟩
    · omega
/-- the place of a need -/
def m_place (g : Int → Int) (t n : Int) : Int := fnd (fun k => decide (m_need g t k = n)) (m_of g t 2)
/-- t leads at once to u -/
noncomputable def m_edge (g : Int → Int) (a : Bool) (t u : Int) : Bool := m_has g t && exB (fun k => (a || m_dir g t k) && decide (m_stands g (m_need g t k) = u)) (m_of g t 2)
noncomputable def m_nextOf (g : Int → Int) (f : Int → Bool) (a : Bool) (u : Int) : Bool := exB (fun k => f k && m_edge g a k u) 8
/-- objects -/
def m_thing (g : Int → Int) (k w : Int) : Int := g (61 + 10 * k + w)
def m_here (g : Int → Int) (k : Int) : Bool := decide (m_thing g k 2 = 0)
def m_isobj (g : Int → Int) (k : Int) : Bool := decide (0 ≤ k ∧ k ≤ g 1 - 1) && m_here g k
def m_opened (g : Int → Int) (th : Int) : Bool := decide (0 ≤ th ∧ th ≤ 3) && decide (shr (g 0) th % 2 = 1)
/-- the numbers of objects are in their range -/
def OW (g : Int → Int) : Prop := 0 ≤ g 1 ∧ g 1 ≤ 60 ∧ ∀ k, 0 ≤ k → k < g 1 → (0 ≤ m_thing g k 0 ∧ m_thing g k 0 < 8) ∧ (0 ≤ m_thing g k 3 ∧ m_thing g k 3 ≤ 3) ∧ ∀ j, 0 ≤ j → j < 3 → (0 ≤ m_thing g k (4 + j) ∧ m_thing g k (4 + j) < 8) ∧ 0 ≤ m_thing g k (7 + j) ∧ m_thing g k (7 + j) ≤ g 1
def m_exist (g : Int → Int) (t th : Int) : Int := if m_of g t 0 = 101 then -1 else fnd (fun k => m_here g k && (decide (m_thing g k 0 = t) && (decide (m_of g t 0 = 115) || decide (m_thing g k 1 = th)))) (g 1)
def m_noneed (g : Int → Int) (k p : Int) : Bool := !(m_isobj g k) || !(decide (0 ≤ p ∧ p ≤ m_thing g k 3 - 1))
noncomputable def m_capt (g : Int → Int) : Int := sumI (fun t => if m_of g t 0 = 115 then sumI (fun k => b2 (m_dir g t k && decide (m_of g (m_stands g (m_need g t k)) 0 = 116))) (m_of g t 2) else 0) 8
def m_dang (g : Int → Int) : Int := sumI (fun o => b2 (exB (fun k => decide (0 < m_thing g o (7 + k)) && !(m_here g (m_thing g o (7 + k) - 1))) (m_thing g o 3) && m_here g o)) (g 1)
def c_fill (g : Int → Int) (o p : Int) : Int := if m_noneed g o p = true then 1 else if m_thing g o (7 + p) = 0 then 2 else 0
theorem c_fill_r (g : Int → Int) (o p : Int) : 0 ≤ c_fill g o p ∧ c_fill g o p ≤ 2 := by unfold c_fill; repeat' split <;> omega
def c_obj (g : Int → Int) (o : Int) : Int := if m_isobj g o = true then 0 else 1
theorem c_obj_r (g : Int → Int) (o : Int) : 0 ≤ c_obj g o ∧ c_obj g o ≤ 1 := by unfold c_obj; split <;> omega
theorem m_isobj_ok {g : Int → Int} {k : Int} (h : m_isobj g k = true) : 0 ≤ k ∧ k ≤ g 1 - 1 := by
  unfold m_isobj at h
  rw [Bool.and_eq_true] at h
  exact of_decide_eq_true h.1
theorem c_obj_ok {g : Int → Int} {k : Int} (h : ¬ 0 < c_obj g k) : m_isobj g k = true ∧ 0 ≤ k ∧ k ≤ g 1 - 1 := by
  unfold c_obj at h
  split at h
  · rename_i h1; exact ⟨h1, m_isobj_ok h1⟩
  · omega
theorem m_noneed_ok {g : Int → Int} {k p : Int} (h : m_noneed g k p = false) : m_isobj g k = true ∧ (0 ≤ k ∧ k ≤ g 1 - 1) ∧ 0 ≤ p ∧ p ≤ m_thing g k 3 - 1 := by
  unfold m_noneed at h
  rw [Bool.or_eq_false_iff] at h
  have h1 : m_isobj g k = true := by simpa using h.1
  have h2 : 0 ≤ p ∧ p ≤ m_thing g k 3 - 1 := by simpa using h.2
  exact ⟨h1, m_isobj_ok h1, h2⟩
theorem fndN_spec (f : Int → Bool) (n : Nat) : fndN f n = -1 ∧ (∀ k : Int, 0 ≤ k → k < n → f k = false) ∨ (0 ≤ fndN f n ∧ fndN f n < n ∧ f (fndN f n) = true ∧ ∀ k : Int, 0 ≤ k → k < fndN f n → f k = false) := by
  induction n with
  | zero => left; exact ⟨rfl, fun k h1 h2 => by omega⟩
  | succ n ih =>
    unfold fndN
    rcases ih with ⟨h1, h2⟩ | ⟨h1, h2, h3, h4⟩
    · rw [h1, if_neg (by omega)]
      split
      · rename_i hf
        right
        exact ⟨by omega, by omega, hf, fun k a b => h2 k a b⟩
      · rename_i hf
        left
        refine ⟨rfl, fun k a b => ?_⟩
        by_cases hk : k = n
        · rw [hk]
          cases hq : f n with
          | true => exact absurd hq hf
          | false => rfl
        · exact h2 k a (by omega)
    · right
      rw [if_pos h1]
      exact ⟨h1, by omega, h3, h4⟩
theorem fnd_spec (f : Int → Bool) {n : Int} (h : 0 ≤ n) : fnd f n = -1 ∧ (∀ k : Int, 0 ≤ k → k < n → f k = false) ∨ (0 ≤ fnd f n ∧ fnd f n < n ∧ f (fnd f n) = true ∧ ∀ k : Int, 0 ≤ k → k < fnd f n → f k = false) := by
  obtain ⟨j, rfl⟩ := Int.eq_ofNat_of_zero_le h
  exact fndN_spec f j
theorem m_place_r {g : Int → Int} (htw : TW g) {t n : Int} (h : 0 ≤ t ∧ t < 8) : -1 ≤ m_place g t n ∧ m_place g t n < 3 := by
  have h1 := htw t h.1 h.2
  have h2 := fnd_spec (fun k => decide (m_need g t k = n)) (n := m_of g t 2) (by omega)
  unfold m_place
  omega
theorem m_exist_r {g : Int → Int} (how : 0 ≤ g 1 ∧ g 1 ≤ 60) (t th : Int) : -1 ≤ m_exist g t th ∧ m_exist g t th < 60 := by
  have h1 := how.1
  have h2 := how.2
  unfold m_exist
  split
  · omega
  · have h3 := fnd_spec (fun k => m_here g k && (decide (m_thing g k 0 = t) && (decide (m_of g t 0 = 115) || decide (m_thing g k 1 = th)))) (n := g 1) (by omega)
    omega
theorem c_fill_ok {g : Int → Int} {o p : Int} (h : ¬ 0 < c_fill g o p) : m_noneed g o p = false := by
  unfold c_fill at h
  cases hq : m_noneed g o p with
  | false => rfl
  | true => rw [hq, if_pos rfl] at h; omega
def c_zero (x : Int) : Int := if x = 0 then 1 else 0
theorem c_zero_r (x : Int) : 0 ≤ c_zero x ∧ c_zero x ≤ 1 := by unfold c_zero; split <;> omega
def c_neg (x : Int) : Int := if x < 0 then 1 else 0
theorem c_neg_r (x : Int) : 0 ≤ c_neg x ∧ c_neg x ≤ 1 := by unfold c_neg; split <;> omega
