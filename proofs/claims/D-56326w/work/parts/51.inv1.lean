/-! ===== no direct circle: a rank ===== -/
theorem pigeon : ∀ (n : Nat) (f : Nat → Nat), (∀ i, i ≤ n → f i < n) → ∃ i j, i < j ∧ j ≤ n ∧ f i = f j := by
  intro n
  induction n with
  | zero => intro f h; exact absurd (h 0 (Nat.le_refl 0)) (Nat.not_lt_zero _)
  | succ n ih =>
    intro f h
    by_cases he : ∃ i, i ≤ n ∧ f i = f (n + 1)
    · obtain ⟨i, h1, h2⟩ := he
      exact ⟨i, n + 1, by omega, Nat.le_refl _, h2⟩
    · have hne : ∀ i, i ≤ n → f i ≠ f (n + 1) := fun i hi e => he ⟨i, hi, e⟩
      obtain ⟨i, j, h1, h2, h3⟩ := ih (fun i => if f i = n then f (n + 1) else f i) (fun i hi => by
        have h4 := h i (by omega)
        have h5 := h (n + 1) (Nat.le_refl _)
        have h6 := hne i hi
        show (if f i = n then f (n + 1) else f i) < n
        split <;> omega)
      refine ⟨i, j, h1, by omega, ?_⟩
      have h6 := hne i (by omega)
      have h7 := hne j h2
      (try simp only at h3)
      split at h3 <;> split at h3 <;> omega
theorem wkN_of {g : Int → Int} (w : Nat → Int) : ∀ (n : Nat), (∀ i, i < n → ED g false (w i) (w (i + 1))) → wkN g n (w 0) (w n) = true := by
  intro n
  induction n with
  | zero => intro _; exact decide_eq_true rfl
  | succ n ih =>
    intro h
    have h1 := h n (Nat.lt_succ_self n)
    exact m_nextOf_iff.mpr ⟨w n, h1.1.1, h1.1.2, ih (fun i hi => h i (by omega)), h1.2.2⟩
theorem circ_no {g : Int → Int} (hc : m_circ g = 0) {n : Nat} {k : Int} (hn : 1 ≤ n ∧ n ≤ 8) (hk : 0 ≤ k ∧ k < 8) : wkN g n k k = false := by
  have hs := fnd_spec (fun n => exB (fun k => m_hit g (n + 1) k) 8) (n := 8) (by decide)
  unfold m_circ at hc
  rcases hs with ⟨e, h⟩ | ⟨e1, _⟩
  · cases hw : wkN g n k k with
    | false => rfl
    | true =>
      have h1 := h ((n : Int) - 1) (by omega) (by omega)
      simp only [Int.sub_add_cancel] at h1
      rw [exB_iff.mpr ⟨k, hk.1, hk.2, by unfold m_hit; rw [Int.toNat_natCast]; exact hw⟩] at h1
      cases h1
  · omega
/-- a direct walk of n steps begins at t -/
def HWK (g : Int → Int) (n : Nat) (t : Int) : Prop := ∃ w : Nat → Int, w 0 = t ∧ ∀ i, i < n → ED g false (w i) (w (i + 1))
theorem HWK_8 {g : Int → Int} (hc : m_circ g = 0) (t : Int) : ¬ HWK g 8 t := by
  rintro ⟨w, _, h⟩
  have hr : ∀ i, i ≤ 8 → 0 ≤ w i ∧ w i < 8 := by
    intro i hi
    by_cases h8 : i < 8
    · exact (h i h8).1
    · obtain rfl : i = 8 := by omega
      exact (h 7 (by decide)).2.1
  obtain ⟨i, j, h1, h2, h3⟩ := pigeon 8 (fun i => (w i).toNat) (fun i hi => by have := hr i hi; show (w i).toNat < 8; omega)
  have hi := hr i (by omega)
  have hj := hr j h2
  (try simp only at h3)
  have h4 : w i = w j := by omega
  have h5 := wkN_of (g := g) (fun k => w (i + k)) (j - i) (fun k hk => h (i + k) (by omega))
  simp only [Nat.add_zero] at h5
  rw [show i + (j - i) = j by omega, ← h4, circ_no hc (by omega) hi] at h5
  cases h5
theorem HWK_e {g : Int → Int} {n : Nat} {t u : Int} (he : ED g false t u) (h : HWK g n u) : HWK g (n + 1) t := by
  obtain ⟨w, h0, h1⟩ := h
  refine ⟨fun i => match i with | 0 => t | i + 1 => w i, rfl, fun i hi => ?_⟩
  cases i with
  | zero => show ED g false t (w 0); rw [h0]; exact he
  | succ i => exact h1 i (by omega)
noncomputable def hwp (g : Int → Int) (n : Nat) (t : Int) : Nat := if dP (HWK g n t) = true then 1 else 0
theorem hwp_le {g : Int → Int} {n k : Nat} {t u : Int} (h : HWK g n u → HWK g k t) : hwp g n u ≤ hwp g k t := by
  unfold hwp
  by_cases h1 : HWK g n u
  · rw [dP_t h1, dP_t (h h1)]
    exact Nat.le_refl _
  · rw [dP_f h1]
    simp
noncomputable def rkf (g : Int → Int) (t : Int) : Nat := hwp g 1 t + hwp g 2 t + hwp g 3 t + hwp g 4 t + hwp g 5 t + hwp g 6 t + hwp g 7 t
theorem hwp_1 (g : Int → Int) (n : Nat) (t : Int) : hwp g n t ≤ 1 := by
  unfold hwp
  split <;> omega
theorem rkf_r (g : Int → Int) (t : Int) : rkf g t < 8 := by
  have h1 := hwp_1 g 1 t
  have h2 := hwp_1 g 2 t
  have h3 := hwp_1 g 3 t
  have h4 := hwp_1 g 4 t
  have h5 := hwp_1 g 5 t
  have h6 := hwp_1 g 6 t
  have h7 := hwp_1 g 7 t
  unfold rkf
  omega
theorem rkf_lt {g : Int → Int} (hc : m_circ g = 0) {t u : Int} (he : ED g false t u) : rkf g u < rkf g t := by
  have h0 : hwp g 1 t = 1 := by
    unfold hwp
    rw [dP_t (HWK_e he ⟨fun _ => u, rfl, fun i hi => absurd hi (Nat.not_lt_zero _)⟩)]
    rfl
  have h1 := hwp_le (HWK_e (n := 1) he)
  have h2 := hwp_le (HWK_e (n := 2) he)
  have h3 := hwp_le (HWK_e (n := 3) he)
  have h4 := hwp_le (HWK_e (n := 4) he)
  have h5 := hwp_le (HWK_e (n := 5) he)
  have h6 := hwp_le (HWK_e (n := 6) he)
  have h7 : hwp g 7 u = 0 := by
    unfold hwp
    rw [dP_f (fun h => HWK_8 hc t (HWK_e he h))]
    rfl
  unfold rkf
  simp only [Nat.reduceAdd] at h1 h2 h3 h4 h5 h6
  omega
/-- a tool without a recipe has no needs -/
def HN (g : Int → Int) : Prop := ∀ t, 0 ≤ t → t < 8 → m_of g t 0 = 0 → m_of g t 2 = 0
theorem circ_rank {g : Int → Int} (hsw : SwOK g) (hn : HN g) (hc : m_circ g = 0) : RK g (rkf g) := by
  intro t k h1 h2 h3 h4 h5
  have hu := m_stands_r hsw (t := m_need g t k) (m_need_r g t k)
  refine rkf_lt hc ⟨⟨h1, h2⟩, hu, ?_⟩
  unfold m_edge
  rw [Bool.and_eq_true]
  refine ⟨decide_eq_true (fun e => by have := hn t h1 h2 e; omega), exB_iff.mpr ⟨k, h3, h4, ?_⟩⟩
  rw [h5]
  simp
