/-! ===== the reference in plain words, 3: reach, circles, copies ===== -/
noncomputable def dP (p : Prop) : Bool := @decide p (Classical.propDecidable p)
theorem dP_iff {p : Prop} : dP p = true ↔ p := @decide_eq_true_iff p (Classical.propDecidable p)
theorem dP_t {p : Prop} (h : p) : dP p = true := dP_iff.mpr h
theorem dP_f {p : Prop} (h : ¬ p) : dP p = false := by
  cases hq : dP p with
  | false => rfl
  | true => exact absurd (dP_iff.mp hq) h
theorem sumN_le {f h : Int → Int} (n : Nat) (e : ∀ k : Int, 0 ≤ k → k < n → f k ≤ h k) : sumN f n ≤ sumN h n := by
  induction n with
  | zero => exact Int.le_refl 0
  | succ n ih =>
    have h1 := ih (fun k a b => e k a (by omega))
    have h2 := e n (by omega) (by omega)
    simp only [sumN]
    omega
theorem sumN_lt {f h : Int → Int} (n : Nat) (e : ∀ k : Int, 0 ≤ k → k < n → f k ≤ h k) {k : Int} (hk : 0 ≤ k ∧ k < n) (hs : f k < h k) : sumN f n < sumN h n := by
  induction n with
  | zero => omega
  | succ n ih =>
    have h2 := e n (by omega) (by omega)
    simp only [sumN]
    by_cases hn : k = n
    · have h1 := sumN_le (f := f) (h := h) n (fun k a b => e k a (by omega))
      subst hn
      omega
    · have h1 := ih (fun k a b => e k a (by omega)) (by omega)
      omega
/-- how many tools are missing in a set -/
def miss (f : Int → Bool) : Int := sumN (fun k => b2 (!(f k))) 8
theorem miss_r (f : Int → Bool) : 0 ≤ miss f ∧ miss f ≤ 8 := by
  have := sumN_b (f := fun k => b2 (!(f k))) (lo := 0) (hi := 1) 8 (fun k _ _ => b2_r _)
  unfold miss
  omega
theorem miss_le {f h : Int → Bool} (e : ∀ k, 0 ≤ k → k < 8 → f k = true → h k = true) : miss h ≤ miss f ∧ (bsI h ≠ bsI f → miss h < miss f) := by
  have h1 : ∀ k : Int, 0 ≤ k → k < (8 : Nat) → b2 (!(h k)) ≤ b2 (!(f k)) := by
    intro k a b
    have := e k a b
    cases hf : f k <;> cases hh : h k <;> first | decide | (rw [hf, hh] at this; exact absurd (this rfl) (by decide))
  refine ⟨sumN_le 8 h1, fun hne => ?_⟩
  apply Classical.byContradiction
  intro hlt
  apply hne
  refine bsI_ext (fun k a b => ?_)
  apply Classical.byContradiction
  intro hk
  apply hlt
  refine sumN_lt 8 h1 (k := k) ⟨a, b⟩ ?_
  have := e k a b
  cases hf : f k <;> cases hh : h k <;> rw [hf, hh] at this hk <;> first | exact absurd rfl hk | exact absurd (this rfl) (by decide) | decide
/-- t leads at once to u, both tools -/
def ED (g : Int → Int) (a : Bool) (x y : Int) : Prop := (0 ≤ x ∧ x < 8) ∧ (0 ≤ y ∧ y < 8) ∧ m_edge g a x y = true
noncomputable def m_reach (g : Int → Int) (a : Bool) (t u : Int) : Bool := dP (Relation.TransGen (ED g a) t u)
theorem m_nextOf_iff {g : Int → Int} {f : Int → Bool} {a : Bool} {u : Int} : m_nextOf g f a u = true ↔ ∃ k, 0 ≤ k ∧ k < 8 ∧ f k = true ∧ m_edge g a k u = true := by
  unfold m_nextOf
  rw [exB_iff]
  simp only [Bool.and_eq_true]
theorem m_reach_fin {g : Int → Int} {a : Bool} {t x4 : Int} {f : Int → Bool} (ht : 0 ≤ t ∧ t < 8) (h1 : ∀ u, 0 ≤ u → u < 8 → m_edge g a t u = true → f u = true) (h2 : ∀ u, 0 ≤ u → u < 8 → f u = true → Relation.TransGen (ED g a) t u)
    (h3 : x4 = -1 ∨ ∃ h : Int → Bool, x4 = bsI h ∧ ∀ u, 0 ≤ u → u < 8 → f u = (h u || m_nextOf g h a u)) (h4 : bsI f = x4) : bsI f = bsI (m_reach g a t) := by
  have hr := bsI_r f
  rcases h3 with h3 | ⟨h, e, h3⟩
  · omega
  · rw [← h4] at e
    have he := bsI_inj e
    have hc : ∀ u v, ED g a u v → f u = true → f v = true := by
      intro u v huv hu
      obtain ⟨b1, b2, b3⟩ := huv
      rw [h3 v b2.1 b2.2, Bool.or_eq_true]
      right
      exact m_nextOf_iff.mpr ⟨u, b1.1, b1.2, by rw [← he u b1.1 b1.2]; exact hu, b3⟩
    have hin : ∀ u, Relation.TransGen (ED g a) t u → f u = true := by
      intro u hu
      induction hu with
      | single h => exact h1 _ h.2.1.1 h.2.1.2 h.2.2
      | tail _ h ih => exact hc _ _ h ih
    refine bsI_ext (fun k b1 b2 => ?_)
    cases hf : f k with
    | true => exact (dP_t (h2 k b1 b2 hf)).symm
    | false => exact (dP_f (fun hu => by rw [hin k hu] at hf; cases hf)).symm
theorem reach_step {g : Int → Int} {a : Bool} {t : Int} {f : Int → Bool} (h2 : ∀ u, 0 ≤ u → u < 8 → f u = true → Relation.TransGen (ED g a) t u) : ∀ u, 0 ≤ u → u < 8 → (f u || m_nextOf g f a u) = true → Relation.TransGen (ED g a) t u := by
  intro u b1 b2 h
  rw [Bool.or_eq_true] at h
  rcases h with h | h
  · exact h2 u b1 b2 h
  · obtain ⟨k, c1, c2, c3, c4⟩ := m_nextOf_iff.mp h
    exact Relation.TransGen.tail (h2 k c1 c2 c3) ⟨⟨c1, c2⟩, ⟨b1, b2⟩, c4⟩
theorem reach_mu {f h : Int → Bool} {x4 : Int} (e : ∀ k, 0 ≤ k → k < 8 → f k = true → h k = true) (hn : ¬ bsI f = x4) : 2 * miss h + (if bsI h = bsI f then 0 else 1) < 2 * miss f + (if bsI f = x4 then 0 else 1) := by
  have h1 := miss_le e
  rw [if_neg hn]
  split
  · omega
  · rename_i h2
    have := h1.2 h2
    omega
/-- exactly n direct steps lead from k to u -/
noncomputable def wkN (g : Int → Int) : Nat → Int → Int → Bool
  | 0, k, u => decide (u = k)
  | n + 1, k, u => m_nextOf g (wkN g n k) false u
noncomputable def m_hit (g : Int → Int) (n k : Int) : Bool := wkN g n.toNat k k
/-- the least number of tools of a direct circle, 0: there is none -/
noncomputable def m_circ (g : Int → Int) : Int := fnd (fun n => exB (fun k => m_hit g (n + 1) k) 8) 8 + 1
theorem m_circ_r (g : Int → Int) : 0 ≤ m_circ g ∧ m_circ g ≤ 8 := by
  have := fnd_spec (fun n => exB (fun k => m_hit g (n + 1) k) 8) (n := 8) (by decide)
  unfold m_circ
  omega
def CB (g : Int → Int) (b : Int) : Prop := b = 0 ∨ (1 ≤ b ∧ b ≤ 8 ∧ ∃ k, 0 ≤ k ∧ k < 8 ∧ m_hit g b k = true)
theorem m_circ_fin {g : Int → Int} {b : Int} (h1 : CB g b) (h2 : ∀ k n, 0 ≤ k → k < 8 → 1 ≤ n → n ≤ 8 → m_hit g n k = true → b ≠ 0 ∧ b ≤ n) : b = m_circ g := by
  have hs := fnd_spec (fun n => exB (fun k => m_hit g (n + 1) k) 8) (n := 8) (by decide)
  unfold m_circ
  rcases hs with ⟨e, h⟩ | ⟨e1, e2, e3, e4⟩
  · rcases h1 with h1 | ⟨h1, h3, k, h4, h5, h6⟩
    · omega
    · have := h (b - 1) (by omega) (by omega)
      simp only [Int.sub_add_cancel] at this
      rw [exB_iff.mpr ⟨k, h4, h5, h6⟩] at this
      cases this
  · obtain ⟨k, h4, h5, h6⟩ := exB_iff.mp e3
    have h7 := h2 k _ h4 h5 (by omega) (by omega) h6
    rcases h1 with h1 | ⟨h1, h3, k2, h8, h9, h10⟩
    · exact absurd h1 h7.1
    · apply Classical.byContradiction
      intro hne
      have := e4 (b - 1) (by omega) (by omega)
      simp only [Int.sub_add_cancel] at this
      rw [exB_iff.mpr ⟨k2, h8, h9, h10⟩] at this
      cases this
theorem m_hit_s {g : Int → Int} {n k : Int} (hn : 1 ≤ n) : m_hit g n k = m_nextOf g (wkN g (n - 1).toNat k) false k := by
  unfold m_hit
  obtain ⟨j, rfl⟩ : ∃ j : Nat, n = ((j + 1 : Nat) : Int) := ⟨(n - 1).toNat, by omega⟩
  have e : (((j + 1 : Nat) : Int) - 1).toNat = j := by omega
  rw [e]
  rfl
theorem wkN_s {g : Int → Int} {n k : Int} (hn : 1 ≤ n) : wkN g n.toNat k = m_nextOf g (wkN g (n - 1).toNat k) false := by
  obtain ⟨j, rfl⟩ : ∃ j : Nat, n = ((j + 1 : Nat) : Int) := ⟨(n - 1).toNat, by omega⟩
  have e : (((j + 1 : Nat) : Int) - 1).toNat = j := by omega
  rw [e]
  rfl
/-! copies -/
def cpy (f h : Int → Int) (a b : Int) : Int → Int := fun x => if b ≤ x ∧ x < b + 661 then f (a + (x - b)) else h x
def k_shift (h : Int → Int) : Int → Int := fun x => if 0 ≤ x ∧ x < 4627 then h (x + 661) else h x
def k_ch (c : Int) : Int := if c = 8 then 7 else c
def k_kept (h row : Int → Int) (c : Int) : Int → Int := cpy row (if c = 8 then k_shift h else h) 0 (661 * k_ch c)
/-- what is kept behind a change (w: not 0 within a text) -/
def k_kw (w : Int) (h row : Int → Int) (c : Int) : Int → Int := if w = 0 then k_kept h row c else h
def k_cw (w c : Int) : Int := if w = 0 then k_ch c + 1 else c
