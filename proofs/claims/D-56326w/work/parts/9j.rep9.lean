/-! ===== states: needs added, tools swapped ===== -/
section SRY
variable {g : Int → Int} {sc : Nat → Int} {ar : Nat → Int → Int}
theorem SR_add (h : SR g sc ar) {t n : Int} {z : Bool} (ht : 0 ≤ t ∧ t < 8) (hn : 0 ≤ n ∧ n < 8) (hc : 0 ≤ m_of g t 2 ∧ m_of g t 2 ≤ 2) : SR (s_add g t n z) sc (ua (ua (ua ar 5 (ui (ar 5) t (m_of g t 2 + 1))) 6 (ui (ar 6) (3 * t + m_of g t 2) n)) 7 (ui (ar 7) (3 * t + m_of g t 2) (b2 z))) := by
  obtain ⟨hb, hy, ho, hd⟩ := h
  refine ⟨fun u u0 u8 => ?_, ⟨hy.1, fun x x0 x1 => ?_⟩, OJ_congr ho (fun x hx => ?_) (fun k hk => ?_), hd⟩
  · obtain ⟨b1, b2_, b3⟩ := hb u u0 u8
    show ar 2 u = b2 (m_has (s_add g t n z) u) ∧ ar 8 u = m_of (s_add g t n z) u 6 - 1 ∧ (m_has (s_add g t n z) u = true → ar 3 u = m_of (s_add g t n z) u 0 ∧ ar 4 u = m_of (s_add g t n z) u 1 ∧ ui (ar 5) t (m_of g t 2 + 1) u = m_of (s_add g t n z) u 2 ∧ ∀ k, 0 ≤ k → k < 3 → k < m_of (s_add g t n z) u 2 → ui (ar 6) (3 * t + m_of g t 2) n (3 * u + k) = m_need (s_add g t n z) u k ∧ ui (ar 7) (3 * t + m_of g t 2) (b2 z) (3 * u + k) = b2 (!(m_dir (s_add g t n z) u k)))
    have e0 : ∀ w, 0 ≤ w → w < 7 → w ≠ 2 → (u ≠ t ∨ w ≠ 3 + m_of g t 2) → m_of (s_add g t n z) u w = m_of g u w := fun w a b c d => by
      rw [add_of hc ⟨a, b⟩]
      split
      · rw [if_neg (by omega)]
      · rfl
    have eh : m_has (s_add g t n z) u = m_has g u := by unfold m_has; rw [e0 0 (by decide) (by decide) (by decide) (by omega)]
    rw [eh, e0 6 (by decide) (by decide) (by decide) (by omega), e0 0 (by decide) (by decide) (by decide) (by omega), e0 1 (by decide) (by decide) (by decide) (by omega)]
    refine ⟨b1, b2_, fun hh => ?_⟩
    obtain ⟨c1, c2, c3, c4⟩ := b3 hh
    refine ⟨c1, c2, ?_, fun k k0 k3 k1 => ?_⟩
    · rw [add_of hc (by decide)]
      by_cases hu : u = t
      · rw [hu, ui_s, if_pos rfl, if_pos rfl]
      · rw [ui_n hu, if_neg hu]; exact c3
    · rw [add_of hc (by decide)] at k1
      unfold m_need m_dir
      by_cases hu : u = t
      · rw [if_pos hu, if_pos rfl] at k1
        subst hu
        by_cases hk : k = m_of g u 2
        · rw [hk, ui_s, ui_s, add_of hc (by omega), if_pos rfl, if_neg (by omega), if_pos rfl]
          cases z
          · refine ⟨by show n = (n + 0) % 8; omega, ?_⟩
            rw [show c_if 8 false = 0 from rfl, decide_eq_true (show n + 0 < 8 by omega)]; rfl
          · refine ⟨by show n = (n + 8) % 8; omega, ?_⟩
            rw [show c_if 8 true = 8 from rfl, decide_eq_false (show ¬ n + 8 < 8 by omega)]; rfl
        · rw [ui_n (by omega), ui_n (by omega), e0 (3 + k) (by omega) (by omega) (by omega) (by omega)]
          exact c4 k k0 k3 (by omega)
      · rw [if_neg hu] at k1
        rw [ui_n (by omega), ui_n (by omega), e0 (3 + k) (by omega) (by omega) (by omega) (by omega)]
        exact c4 k k0 k3 k1
  · show 0 ≤ ui (ar 7) (3 * t + m_of g t 2) (b2 z) x ∧ ui (ar 7) (3 * t + m_of g t 2) (b2 z) x ≤ 1
    unfold ui
    split
    · exact b2_r z
    · exact hy.2 x x0 x1
  · unfold s_add m_set
    rw [ui_n (by omega), ui_n (by omega)]
  · rw [ua_n (by omega), ua_n (by omega), ua_n (by omega)]
theorem SR_sw (h : SR g sc ar) {t v : Int} (ht : 0 ≤ t ∧ t < 8) : SR (m_set g t 6 (v + 1)) sc (ua ar 8 (ui (ar 8) t v)) := by
  obtain ⟨hb, hy, ho, hd⟩ := h
  refine ⟨fun u u0 u8 => ?_, hy, OJ_congr ho (fun x hx => ?_) (fun k hk => ?_), hd⟩
  · obtain ⟨b1, b2_, b3⟩ := hb u u0 u8
    show ar 2 u = b2 (m_has (m_set g t 6 (v + 1)) u) ∧ ui (ar 8) t v u = m_of (m_set g t 6 (v + 1)) u 6 - 1 ∧ (m_has (m_set g t 6 (v + 1)) u = true → ar 3 u = m_of (m_set g t 6 (v + 1)) u 0 ∧ ar 4 u = m_of (m_set g t 6 (v + 1)) u 1 ∧ ar 5 u = m_of (m_set g t 6 (v + 1)) u 2 ∧ ∀ k, 0 ≤ k → k < 3 → k < m_of (m_set g t 6 (v + 1)) u 2 → ar 6 (3 * u + k) = m_need (m_set g t 6 (v + 1)) u k ∧ ar 7 (3 * u + k) = b2 (!(m_dir (m_set g t 6 (v + 1)) u k)))
    have e0 : ∀ w, 0 ≤ w → w < 6 → m_of (m_set g t 6 (v + 1)) u w = m_of g u w := fun w a b => by rw [sw_of (by omega), if_neg (by omega)]
    have eh : m_has (m_set g t 6 (v + 1)) u = m_has g u := by unfold m_has; rw [e0 0 (by decide) (by decide)]
    rw [eh, e0 0 (by decide) (by decide), e0 1 (by decide) (by decide), e0 2 (by decide) (by decide)]
    refine ⟨b1, ?_, fun hh => ?_⟩
    · rw [sw_of (by decide)]
      by_cases hu : u = t
      · rw [hu, ui_s, if_pos ⟨rfl, rfl⟩]; omega
      · rw [ui_n hu, if_neg (by omega)]; exact b2_
    · obtain ⟨c1, c2, c3, c4⟩ := b3 hh
      refine ⟨c1, c2, c3, fun k k0 k3 k1 => ?_⟩
      unfold m_need m_dir
      rw [e0 (3 + k) (by omega) (by omega)]
      exact c4 k k0 k3 k1
  · unfold m_set
    rw [ui_n (by omega)]
  · rw [ua_n (by omega)]
end SRY
/-- a rank: no circle -/
theorem rk_wk {g : Int → Int} {r : Int → Nat} (hrk : RK g r) {k : Int} (hk : 0 ≤ k ∧ k < 8) : ∀ (n : Nat) (u : Int), 0 ≤ u ∧ u < 8 → wkN g (n + 1) k u = true → r u < r k := by
  intro n
  induction n with
  | zero =>
    intro u hu h
    obtain ⟨v, h1, h2, h3, h4⟩ := m_nextOf_iff.mp h
    have h3 : v = k := of_decide_eq_true h3
    subst h3
    obtain ⟨_, j, j1, j2, j3, j4⟩ := kid_ED h4
    have := hrk v j h1 h2 j1 j2 j3
    rw [j4] at this
    exact this
  | succ n ih =>
    intro u hu h
    obtain ⟨v, h1, h2, h3, h4⟩ := m_nextOf_iff.mp h
    have h5 := ih v ⟨h1, h2⟩ h3
    obtain ⟨_, j, j1, j2, j3, j4⟩ := kid_ED h4
    have := hrk v j h1 h2 j1 j2 j3
    rw [j4] at this
    omega
theorem rk_circ {g : Int → Int} {r : Int → Nat} (hrk : RK g r) : m_circ g = 0 := by
  unfold m_circ
  rcases fnd_spec (fun n => exB (fun k => m_hit g (n + 1) k) 8) (n := 8) (by decide) with ⟨e, _⟩ | ⟨e1, e2, e3, e4⟩
  · rw [e]; rfl
  · obtain ⟨k, k1, k2, k3⟩ := exB_iff.mp e3
    have key : ∀ F : Int, 0 ≤ F → m_hit g (F + 1) k = true → False := fun F hF hh => by
      unfold m_hit at hh
      rw [show (F + 1).toNat = F.toNat + 1 by omega] at hh
      exact absurd (rk_wk hrk ⟨k1, k2⟩ _ k ⟨k1, k2⟩ hh) (Nat.lt_irrefl _)
    exact (key _ e1 k3).elim
/-- a lazy need makes no circle -/
theorem RK_lazy {g : Int → Int} {r : Int → Nat} (hrk : RK g r) (htw : TW g) (hsw : SwOK g) {t n : Int} (ht : 0 ≤ t ∧ t < 8) (hn : 0 ≤ n ∧ n < 8) (hc : m_of g t 2 ≤ 2) : RK (s_add g t n true) r := by
  have hc2 : 0 ≤ m_of g t 2 ∧ m_of g t 2 ≤ 2 := ⟨(htw t ht.1 ht.2).1, hc⟩
  intro u k u0 u8 k0 k1 hd
  have h4 := htw u u0 u8
  rw [add_of hc2 (by decide)] at k1
  have hst : ∀ v, 0 ≤ v ∧ v < 8 → m_stands (s_add g t n true) v = m_stands g v := fun v hv => m_stands_congr (fun a b c => s_add_of hc2 (by omega) (Or.inr (by omega))) hsw hv
  by_cases hu : u = t
  · rw [if_pos hu, if_pos rfl] at k1
    by_cases hk : k = m_of g t 2
    · unfold m_dir at hd
      rw [add_of hc2 (by omega), if_pos hu, if_neg (by omega), if_pos (by omega), show c_if 8 true = 8 from rfl] at hd
      have := of_decide_eq_true hd
      omega
    · have e : m_of (s_add g t n true) u (3 + k) = m_of g u (3 + k) := by rw [add_of hc2 (by omega), if_pos hu, if_neg (by omega), if_neg (by omega)]
      obtain ⟨e1, e2⟩ := need_congr e
      rw [e1, hst _ (m_need_r g u k)]
      exact hrk u k u0 u8 k0 (by rw [hu]; omega) (by rw [← e2]; exact hd)
  · rw [if_neg hu] at k1
    have e : m_of (s_add g t n true) u (3 + k) = m_of g u (3 + k) := by rw [add_of hc2 (by omega), if_neg hu]
    obtain ⟨e1, e2⟩ := need_congr e
    rw [e1, hst _ (m_need_r g u k)]
    exact hrk u k u0 u8 k0 k1 (by rw [← e2]; exact hd)
theorem add_circ {g : Int → Int} {r : Int → Nat} (hrk : RK g r) (htw : TW g) (hsw : SwOK g) {t n : Int} {z : Bool} (ht : 0 ≤ t ∧ t < 8) (hn : 0 ≤ n ∧ n < 8) (hc : m_of g t 2 ≤ 2) : c_cir (s_add g t n z) z = m_circ (s_add g t n z) := by
  unfold c_cir
  cases z
  · rfl
  · rw [if_pos rfl, rk_circ (RK_lazy hrk htw hsw ht hn hc)]
theorem HN_add {g : Int → Int} (h : HN g) {t n : Int} {z : Bool} (hc : 0 ≤ m_of g t 2 ∧ m_of g t 2 ≤ 2) (hh : m_has g t = true) : HN (s_add g t n z) := by
  intro u u0 u8 h0
  rw [add_of hc (by decide)] at h0 ⊢
  by_cases hu : u = t
  · rw [if_pos hu, if_neg (by decide), if_neg (by omega)] at h0
    rw [hu] at h0
    exact absurd h0 (m_has_1 hh)
  · rw [if_neg hu] at h0 ⊢
    exact h u u0 u8 h0
theorem HN_sw {g : Int → Int} (h : HN g) {t v : Int} : HN (m_set g t 6 v) := by
  intro u u0 u8 h0
  rw [sw_of (by decide), if_neg (by omega)] at h0 ⊢
  exact h u u0 u8 h0
theorem TW_sw {g : Int → Int} (h : TW g) {t v : Int} : TW (m_set g t 6 v) := by
  intro u u0 u8
  rw [sw_of (by decide), if_neg (by omega)]
  exact h u u0 u8
theorem pl_pos {x : Int} (h : -1 ≤ x ∧ x < 3) (h2 : (!(decide (x = -1))) = true) : 0 ≤ x := by
  have : ¬ x = -1 := by simpa using h2
  omega
/-! the chain of swaps is short -/
theorem stN_add (g : Int → Int) : ∀ (i m : Nat) (k : Int), m_stN g (i + m) k = m_stN g m (m_stN g i k) := by
  intro i
  induction i with
  | zero => intro m k; rw [Nat.zero_add]; rfl
  | succ i ih =>
    intro m k
    rw [show i + 1 + m = (i + m) + 1 by omega]
    by_cases h : 0 < m_of g k 6
    · show (if 0 < m_of g k 6 then m_stN g (i + m) (m_of g k 6 - 1) else k) = m_stN g m (if 0 < m_of g k 6 then m_stN g i (m_of g k 6 - 1) else k)
      rw [if_pos h, if_pos h]
      exact ih m _
    · rw [m_stN_end (n := i + m + 1) (by omega), m_stN_end (n := i + 1) (by omega), m_stN_end (n := m) (by omega)]
theorem chN_at {g : Int → Int} : ∀ (n : Nat) (k t : Int), 0 < chN g n k t → ∃ j : Nat, chN g n k t = j + 1 ∧ m_stN g j k = t ∧ ∀ i, i < j → m_stN g i k ≠ t := by
  intro n
  induction n with
  | zero => intro k t h; exact absurd h (by show ¬ (0 : Int) < 0; decide)
  | succ n ih =>
    intro k t h
    simp only [chN] at h ⊢
    by_cases hk : k = t
    · rw [if_pos hk]
      exact ⟨0, rfl, hk, fun i hi => absurd hi (Nat.not_lt_zero _)⟩
    · rw [if_neg hk] at h ⊢
      by_cases h6 : 0 < m_of g k 6
      · rw [if_pos h6] at h ⊢
        by_cases h0 : chN g n (m_of g k 6 - 1) t = 0
        · rw [if_pos h0] at h; omega
        · rw [if_neg h0]
          have hr := chN_r g n (m_of g k 6 - 1) t
          obtain ⟨j, e1, e2, e3⟩ := ih (m_of g k 6 - 1) t (by omega)
          refine ⟨j + 1, by rw [e1]; rfl, ?_, fun i hi => ?_⟩
          · simp only [m_stN]; rw [if_pos h6]; exact e2
          · cases i with
            | zero => exact hk
            | succ i => simp only [m_stN]; rw [if_pos h6]; exact e3 i (by omega)
      · rw [if_neg h6] at h; omega
theorem chain_8 {g : Int → Int} (hsw : SwOK g) {b t : Int} (hb : 0 ≤ b ∧ b < 8) : 0 ≤ m_chain g b t ∧ m_chain g b t ≤ 8 := by
  have h0 : 0 ≤ m_chain g b t := chN_r g _ _ _
  refine ⟨h0, ?_⟩
  by_cases hp : 0 < m_chain g b t
  · obtain ⟨j, e1, e2, e3⟩ := chN_at _ b t hp
    have e1 : m_chain g b t = j + 1 := e1
    apply Classical.byContradiction
    intro hno
    have hw : ∀ i, 0 ≤ m_stN g i b ∧ m_stN g i b < 8 := fun i => m_stN_r hsw i b hb.1 hb.2
    obtain ⟨x, y, h1, h2, h3⟩ := pigeon 8 (fun i => (m_stN g i b).toNat) (fun i _ => by have := hw i; show (m_stN g i b).toNat < 8; omega)
    have hx := hw x
    have hy := hw y
    have h4 : m_stN g x b = m_stN g y b := by
      have h3 : (m_stN g x b).toNat = (m_stN g y b).toNat := h3
      omega
    have h5 : m_stN g (x + (j - y)) b = t := by
      rw [stN_add, h4, ← stN_add, show y + (j - y) = j by omega]
      exact e2
    exact e3 (x + (j - y)) (by omega) h5
  · omega
