/-! ===== what holds in every row besides: no minutes without a recipe, needs differ, here-objects' tools have recipes, single tools are single ===== -/
def DN (g : Int → Int) : Prop := ∀ t j k, 0 ≤ t → t < 8 → 0 ≤ j → j < k → k < m_of g t 2 → m_need g t j ≠ m_need g t k
def CI (g : Int → Int) : Prop := HM g ∧ DN g ∧ HH g ∧ SI g
theorem need_of {g g2 : Int → Int} {t k : Int} (h : m_of g2 t (3 + k) = m_of g t (3 + k)) : m_need g2 t k = m_need g t k := (need_congr h).1
/-- the same tools; the objects may go -/
theorem CI_objs {g g2 : Int → Int} (hT : TE g g2) (htw : TW g) (hx : OX g) (h1 : g2 1 = g 1) (h0 : ∀ k, 0 ≤ k → k < g 1 → m_thing g2 k 0 = m_thing g k 0 ∧ (m_here g2 k = true → m_here g k = true)) (hi : CI g) : CI g2 := by
  obtain ⟨a, b, c, d⟩ := hi
  have e : ∀ t w, 0 ≤ t → t < 8 → 0 ≤ w → w < 7 → m_of g2 t w = m_of g t w := fun t w p q r s => te_of hT ⟨p, q⟩ ⟨r, s⟩
  refine ⟨fun t p q h => ?_, fun t j k p q r s u => ?_, fun k p q h => ?_, fun j k p q r hj hk hs => ?_⟩
  · rw [e t 0 p q (by decide) (by decide)] at h
    rw [e t 1 p q (by decide) (by decide)]
    exact a t p q h
  · rw [e t 2 p q (by decide) (by decide)] at u
    have h3 := htw t p q
    rw [need_of (e t (3 + j) p q (by omega) (by omega)), need_of (e t (3 + k) p q (by omega) (by omega))]
    exact b t j k p q r s u
  · rw [h1] at q
    have hh := h0 k p q
    rw [hh.1, te_has hT (hx.2.1 k p q).1]
    exact c k p q (hh.2 h)
  · rw [h1] at r
    have hhj := h0 j p (by omega)
    have hhk := h0 k (by omega) r
    have hk8 := (hx.2.1 k (by omega) r).1
    rw [hhk.1, e _ 0 hk8.1 hk8.2 (by decide) (by decide)]
    exact d j k p q r (hhj.2 hj) (hhk.2 hk) (by rw [← hhj.1, ← hhk.1]; exact hs)
/-- other tools, the same objects -/
theorem CI_tab {g g2 : Int → Int} (_ : OX g) (hl : ∀ x, x < 5 ∨ 61 ≤ x → g2 x = g x) (hM : HM g2) (hD : DN g2) (hH : ∀ k, 0 ≤ k → k < g 1 → m_here g k = true → m_has g2 (m_thing g k 0) = true) (hS : ∀ k, 0 ≤ k → k < g 1 → m_here g k = true → m_of g2 (m_thing g k 0) 0 = 115 → m_of g (m_thing g k 0) 0 = 115) (hi : CI g) : CI g2 := by
  have h1 : g2 1 = g 1 := hl 1 (by omega)
  have e : ∀ k w, 0 ≤ k → 0 ≤ w → m_thing g2 k w = m_thing g k w := fun k w p q => hl _ (by omega)
  have eh : ∀ k, 0 ≤ k → m_here g2 k = m_here g k := fun k p => by unfold m_here; rw [e k 2 p (by decide)]
  refine ⟨hM, hD, fun k p q h => ?_, fun j k p q r hj hk hs h9 => ?_⟩
  · rw [h1] at q
    rw [eh k p] at h
    rw [e k 0 p (by decide)]
    exact hH k p q h
  · rw [h1] at r
    rw [eh j p] at hj
    rw [eh k (by omega)] at hk
    rw [e j 0 p (by decide), e k 0 (by omega) (by decide)] at hs
    rw [e k 0 (by omega) (by decide)] at h9
    exact hi.2.2.2 j k p q r hj hk hs (hS k (by omega) r hk h9)
theorem ci_def {N : Int} {g : Int → Int} (hr : RIV N g) (hi : CI g) (t s mn : Int) : CI (rs_g g (A_def g t s mn)) := by
  unfold A_def
  split
  · exact hi
  · next hno =>
    have hz := c_def_ok hno
    have h0 := c_def_no hno
    have htw := hr.1.2.1
    refine CI_tab hr.2.1 (fun x hx => ?_) (fun u p q h => ?_) (fun u j k p q r s9 u9 => ?_) (fun k p q h => ?_) (fun k p q h h9 => ?_) hi
    · show s_def g (t - 97) s mn x = g x
      unfold s_def m_set
      rw [ui_n (by omega), ui_n (by omega), ui_n (by omega)]
    · change m_of (s_def g (t - 97) s mn) u 0 = 0 at h
      show m_of (s_def g (t - 97) s mn) u 1 = 0
      rw [def_of (by decide)] at h ⊢
      split at h
      · rw [if_pos rfl] at h; omega
      · next hu => rw [if_neg hu]; exact hi.1 u p q h
    · change k < m_of (s_def g (t - 97) s mn) u 2 at u9
      show m_need (s_def g (t - 97) s mn) u j ≠ m_need (s_def g (t - 97) s mn) u k
      rw [def_of (by decide)] at u9
      split at u9
      · rw [if_neg (by decide), if_neg (by decide), if_pos rfl] at u9; omega
      · next hu =>
        have h3 := htw u p q
        rw [need_of (g := g) (k := j) (by rw [def_of (by omega), if_neg hu]), need_of (g := g) (k := k) (by rw [def_of (by omega), if_neg hu])]
        exact hi.2.1 u j k p q r s9 u9
    · have h2 := hi.2.2.1 k p q h
      have h8 := (hr.2.1.2.1 k p q).1
      show m_has (s_def g (t - 97) s mn) (m_thing g k 0) = true
      unfold m_has
      rw [def_of (by decide)]
      split
      · rw [if_pos rfl]; exact decide_eq_true (by omega)
      · exact h2
    · have h2 := hi.2.2.1 k p q h
      change m_of (s_def g (t - 97) s mn) (m_thing g k 0) 0 = 115 at h9
      rw [def_of (by decide)] at h9
      split at h9
      · next hu =>
        rw [hu] at h2
        exact absurd h0 (of_decide_eq_true h2)
      · exact h9
theorem ci_drop {N : Int} {g : Int → Int} (hr : RIV N g) (hi : CI g) (t : Int) : CI (rs_g g (A_drop g t)) := by
  unfold A_drop
  split
  · exact hi
  · next hno =>
    split
    · exact hi
    · next hob =>
      have hz := c_none_ok hno
      have htw := hr.1.2.1
      refine CI_tab hr.2.1 (fun x hx => ?_) (fun u p q h => ?_) (fun u j k p q r s9 u9 => ?_) (fun k p q h => ?_) (fun k p q h h9 => ?_) hi
      · show s_drop g (t - 97) x = g x
        unfold s_drop
        rw [if_neg (by omega)]
      · change m_of (s_drop g (t - 97)) u 0 = 0 at h
        show m_of (s_drop g (t - 97)) u 1 = 0
        rw [drop_of (by decide)] at h ⊢
        by_cases hu : u = t - 97
        · rw [if_pos ⟨hu, by decide⟩]
        · rw [if_neg (by omega)] at h ⊢; exact hi.1 u p q h
      · change k < m_of (s_drop g (t - 97)) u 2 at u9
        show m_need (s_drop g (t - 97)) u j ≠ m_need (s_drop g (t - 97)) u k
        rw [drop_of (by decide)] at u9
        by_cases hu : u = t - 97
        · rw [if_pos ⟨hu, by decide⟩] at u9; omega
        · rw [if_neg (by omega)] at u9
          have h3 := htw u p q
          rw [need_of (g := g) (k := j) (by rw [drop_of (by omega), if_neg (by omega)]), need_of (g := g) (k := k) (by rw [drop_of (by omega), if_neg (by omega)])]
          exact hi.2.1 u j k p q r s9 u9
      · have h2 := hi.2.2.1 k p q h
        show m_has (s_drop g (t - 97)) (m_thing g k 0) = true
        unfold m_has
        rw [drop_of (by decide), if_neg]
        · exact h2
        · rintro ⟨hu, _⟩
          exact hob (exB_iff.mpr ⟨k, p, q, by rw [h, Bool.true_and]; exact decide_eq_true hu⟩)
      · change m_of (s_drop g (t - 97)) (m_thing g k 0) 0 = 115 at h9
        rw [drop_of (by decide)] at h9
        split at h9
        · omega
        · exact h9
theorem m_place_no {g : Int → Int} {t n : Int} (hn : 0 ≤ m_of g t 2) (h : ¬ 0 ≤ m_place g t n) : ∀ k, 0 ≤ k → k < m_of g t 2 → m_need g t k ≠ n := by
  intro k a b e
  unfold m_place at h
  rcases fnd_spec (fun k => decide (m_need g t k = n)) hn with ⟨_, h2⟩ | ⟨h2, _⟩
  · have := h2 k a b
    rw [decide_eq_true e] at this
    cases this
  · exact h h2
theorem ci_add {N : Int} {g : Int → Int} (hr : RIV N g) (hi : CI g) (t n : Int) (z : Bool) : CI (rs_g g (A_add g t n z)) := by
  unfold A_add
  split
  · exact hi
  · next hno =>
    split
    · exact hi
    · next hpl =>
      split
      · exact hi
      · next h3 =>
        split
        · exact hi
        · next hc =>
          have hz := c_add_ok hno
          have htw := hr.1.2.1
          have hw := htw (t - 97) (by omega) (by omega)
          have hm := m_place_no (g := g) (t := t - 97) (n := n - 97) hw.1 hpl
          have hw2 : 0 ≤ m_of g (t - 97) 2 ∧ m_of g (t - 97) 2 ≤ 2 := by omega
          have hif : c_if 8 z = 0 ∨ c_if 8 z = 8 := by cases z; exact Or.inl rfl; exact Or.inr rfl
          have e0 : ∀ u, m_of (s_add g (t - 97) (n - 97) z) u 0 = m_of g u 0 := fun u => by rw [add_of hw2 (by decide)]; split; rw [if_neg (by decide), if_neg (by omega)]; rfl
          refine CI_tab hr.2.1 (fun x hx => ?_) (fun u p q h => ?_) (fun u j k p q r s9 u9 => ?_) (fun k p q h => ?_) (fun k p q h h9 => ?_) hi
          · show s_add g (t - 97) (n - 97) z x = g x
            unfold s_add m_set
            rw [ui_n (by omega), ui_n (by omega)]
          · change m_of (s_add g (t - 97) (n - 97) z) u 0 = 0 at h
            show m_of (s_add g (t - 97) (n - 97) z) u 1 = 0
            rw [e0] at h
            rw [add_of hw2 (by decide)]
            have := hi.1 u p q h
            split
            · rw [if_neg (by decide), if_neg (by omega)]; exact this
            · exact this
          · change k < m_of (s_add g (t - 97) (n - 97) z) u 2 at u9
            show m_need (s_add g (t - 97) (n - 97) z) u j ≠ m_need (s_add g (t - 97) (n - 97) z) u k
            have h4 := htw u p q
            rw [add_of hw2 (by decide)] at u9
            by_cases hu : u = t - 97
            · rw [if_pos hu, if_pos rfl] at u9
              have ej : m_need (s_add g (t - 97) (n - 97) z) u j = m_need g u j := need_of (g := g) (by rw [add_of hw2 (by omega), if_pos hu, if_neg (by omega), if_neg (by omega)])
              rw [ej]
              by_cases hk : k = m_of g (t - 97) 2
              · have ek : m_need (s_add g (t - 97) (n - 97) z) u k = n - 97 := by
                  unfold m_need
                  rw [add_of hw2 (by omega), if_pos hu, if_neg (by omega), if_pos (by omega)]
                  omega
                rw [ek, hu]
                exact hm j r (by omega)
              · rw [need_of (g := g) (k := k) (by rw [add_of hw2 (by omega), if_pos hu, if_neg (by omega), if_neg (by omega)])]
                rw [hu]
                exact hi.2.1 (t - 97) j k (by omega) (by omega) r s9 (by omega)
            · rw [if_neg hu] at u9
              rw [need_of (g := g) (k := j) (by rw [add_of hw2 (by omega), if_neg hu]), need_of (g := g) (k := k) (by rw [add_of hw2 (by omega), if_neg hu])]
              exact hi.2.1 u j k p q r s9 u9
          · have h2 := hi.2.2.1 k p q h
            show m_has (s_add g (t - 97) (n - 97) z) (m_thing g k 0) = true
            unfold m_has
            rw [e0]; exact h2
          · change m_of (s_add g (t - 97) (n - 97) z) (m_thing g k 0) 0 = 115 at h9
            rw [e0] at h9; exact h9
theorem ci_rem {N : Int} {g : Int → Int} (hr : RIV N g) (hi : CI g) (t n : Int) : CI (rs_g g (A_rem g t n)) := by
  unfold A_rem
  split
  · exact hi
  · next hno =>
    have hz := c_rem_ok hno
    have htw := hr.1.2.1
    have hw := htw (t - 97) (by omega) (by omega)
    have hp := m_place_ok htw (t := t - 97) (n := n - 97) (by omega) hz.2.2.2
    have hq : 0 ≤ m_place g (t - 97) (n - 97) ∧ m_place g (t - 97) (n - 97) < m_of g (t - 97) 2 ∧ m_of g (t - 97) 2 ≤ 3 := ⟨hz.2.2.2, hp.1, hw.2⟩
    generalize m_place g (t - 97) (n - 97) = q at hq ⊢
    have e0 : ∀ u w, 0 ≤ w → w < 2 → m_of (s_rem g (t - 97) q) u w = m_of g u w := fun u w a b => by rw [rem_of hq (by omega)]; split; rw [if_neg (by omega), if_neg (by omega), if_neg (by omega)]; rfl
    refine CI_tab hr.2.1 (fun x hx => ?_) (fun u p q9 h => ?_) (fun u j k p q9 r s9 u9 => ?_) (fun k p q9 h => ?_) (fun k p q9 h h9 => ?_) hi
    · show s_rem g (t - 97) q x = g x
      unfold s_rem
      rw [if_neg (by omega), if_neg (by omega), if_neg (by omega)]
    · change m_of (s_rem g (t - 97) q) u 0 = 0 at h
      show m_of (s_rem g (t - 97) q) u 1 = 0
      rw [e0 u 0 (by decide) (by decide)] at h
      rw [e0 u 1 (by decide) (by decide)]
      exact hi.1 u p q9 h
    · change k < m_of (s_rem g (t - 97) q) u 2 at u9
      show m_need (s_rem g (t - 97) q) u j ≠ m_need (s_rem g (t - 97) q) u k
      have h4 := htw u p q9
      rw [rem_of hq (by decide)] at u9
      by_cases hu : u = t - 97
      · rw [if_pos hu, if_pos rfl] at u9
        have e1 : ∀ i, 0 ≤ i → i < m_of g (t - 97) 2 - 1 → m_need (s_rem g (t - 97) q) u i = m_need g u (if q ≤ i then i + 1 else i) := by
          intro i a b
          unfold m_need
          rw [rem_of hq (by omega), if_pos hu, if_neg (by omega)]
          by_cases hi9 : q ≤ i
          · rw [if_pos (by omega), if_pos hi9, show 3 + i + 1 = 3 + (i + 1) by omega]
          · rw [if_neg (by omega), if_neg (by omega), if_neg hi9]
        rw [e1 j r (by omega), e1 k (by omega) (by omega)]
        refine hi.2.1 u _ _ p q9 ?_ ?_ ?_ <;> (try rw [hu]) <;> repeat' split
        all_goals omega
      · rw [if_neg hu] at u9
        rw [need_of (g := g) (k := j) (by rw [rem_of hq (by omega), if_neg hu]), need_of (g := g) (k := k) (by rw [rem_of hq (by omega), if_neg hu])]
        exact hi.2.1 u j k p q9 r s9 u9
    · have h2 := hi.2.2.1 k p q9 h
      show m_has (s_rem g (t - 97) q) (m_thing g k 0) = true
      unfold m_has
      rw [e0 _ 0 (by decide) (by decide)]; exact h2
    · change m_of (s_rem g (t - 97) q) (m_thing g k 0) 0 = 115 at h9
      rw [e0 _ 0 (by decide) (by decide)] at h9; exact h9
theorem ci_swap {N : Int} {g : Int → Int} (hr : RIV N g) (hi : CI g) {t v : Int} (ht : 0 ≤ t ∧ t < 8) : CI (m_set g t 6 v) := by
  have htw := hr.1.2.1
  have e : ∀ u w, 0 ≤ w → w < 6 → m_of (m_set g t 6 v) u w = m_of g u w := fun u w a b => by rw [sw_of (by omega), if_neg (by omega)]
  refine CI_tab hr.2.1 (fun x hx => ?_) (fun u p q h => ?_) (fun u j k p q r s9 u9 => ?_) (fun k p q h => ?_) (fun k p q h h9 => ?_) hi
  · unfold m_set
    rw [ui_n (by omega)]
  · rw [e u 0 (by decide) (by decide)] at h
    rw [e u 1 (by decide) (by decide)]
    exact hi.1 u p q h
  · rw [e u 2 (by decide) (by decide)] at u9
    have h4 := htw u p q
    rw [need_of (e u (3 + j) (by omega) (by omega)), need_of (e u (3 + k) (by omega) (by omega))]
    exact hi.2.1 u j k p q r s9 u9
  · unfold m_has
    rw [e _ 0 (by decide) (by decide)]; exact hi.2.2.1 k p q h
  · rw [e _ 0 (by decide) (by decide)] at h9; exact h9
theorem ci_repl {N : Int} {g : Int → Int} (hr : RIV N g) (hi : CI g) (t b : Int) : CI (rs_g g (A_repl g t b)) := by
  unfold A_repl
  split
  · exact hi
  · next hno =>
    split
    · exact hi
    · split
      · exact hi
      · have hz := c_repl_ok hno
        exact ci_swap hr hi (by omega)
theorem ci_back {N : Int} {g : Int → Int} (hr : RIV N g) (hi : CI g) (t : Int) : CI (rs_g g (A_back g t)) := by
  unfold A_back
  split
  · exact hi
  · next hno =>
    split
    · exact hi
    · have hz := c_back_ok hno
      exact ci_swap hr hi (by omega)
theorem ci_open {N : Int} {g : Int → Int} (hr : RIV N g) (hi : CI g) : CI (rs_g g (A_open g)) := by
  unfold A_open
  split
  · exact hi
  · refine CI_objs (te_ui (TE_rf _) (by decide)) hr.1.2.1 hr.2.1 (show ui g 0 (bor (g 0) (pw (m_free g))) 1 = g 1 from ui_n (by decide)) (fun k p q => ?_) hi
    have e : ∀ w, 0 ≤ w → m_thing (ui g 0 (bor (g 0) (pw (m_free g)))) k w = m_thing g k w := fun w hw => ui_n (by omega)
    refine ⟨e 0 (by decide), fun h => ?_⟩
    change m_here (ui g 0 (bor (g 0) (pw (m_free g)))) k = true at h
    unfold m_here at h ⊢
    rw [e 2 (by decide)] at h
    exact h
theorem ci_close {N : Int} {g : Int → Int} (hr : RIV N g) (hi : CI g) (th : Int) : CI (rs_g g (A_close g th)) := by
  unfold A_close
  split
  · have hk : ∀ x, x ≠ 0 → s_close g th x = g x ∨ (s_close g th x = 1 ∧ ∃ k, 0 ≤ k ∧ k < g 1 ∧ x = 63 + 10 * k) := by
      intro x h0
      unfold s_close
      rw [if_neg h0]
      split
      · next he =>
        obtain ⟨k, k0, k1, k2⟩ := exB_iff.mp he
        rw [Bool.and_eq_true] at k2
        exact Or.inr ⟨rfl, k, k0, k1, of_decide_eq_true k2.1⟩
      · exact Or.inl rfl
    have hlow : ∀ x, 0 < x → x < 61 → s_close g th x = g x := by
      intro x h0 h1
      rcases hk x (by omega) with h | ⟨_, k, k0, _, k2⟩
      · exact h
      · omega
    refine CI_objs (fun x a b => hlow x (by omega) b) hr.1.2.1 hr.2.1 (hlow 1 (by decide) (by decide)) (fun k p q => ⟨?_, fun h => ?_⟩) hi
    · rcases hk (61 + 10 * k + 0) (by omega) with h | ⟨_, j, _, _, h⟩
      · exact h
      · omega
    · change m_here (s_close g th) k = true at h
      unfold m_here m_thing at h ⊢
      rcases hk (61 + 10 * k + 2) (by omega) with h9 | ⟨h9, _⟩
      · rw [h9] at h; exact h
      · rw [h9] at h; exact absurd (of_decide_eq_true h) (by decide)
  · exact hi

/-! ===== the same behind a tool got; every command ===== -/
def SIG (G g : Int → Int) : Prop := ∀ j k, 0 ≤ j → j < k → k < g 1 → m_here g j = true → m_here g k = true → m_thing g j 0 = m_thing g k 0 → ¬ m_of G (m_thing g k 0) 0 = 115
/-- the row g2 has g's objects and new ones, of tools with recipes of rank at most b -/
def NW (G : Int → Int) (r : Int → Nat) (b : Nat) (g g2 : Int → Int) : Prop := g 1 ≤ g2 1 ∧ (∀ k w, 0 ≤ k → k < g 1 → 0 ≤ w → w < 10 → m_thing g2 k w = m_thing g k w) ∧ (∀ k, g 1 ≤ k → k < g2 1 → (0 ≤ m_thing g2 k 0 ∧ m_thing g2 k 0 < 8) ∧ m_has G (m_thing g2 k 0) = true ∧ r (m_thing g2 k 0) < b) ∧ (SIG G g → SIG G g2)
theorem NW_rf {G : Int → Int} {r : Int → Nat} {b : Nat} {g : Int → Int} : NW G r b g g := ⟨Int.le_refl _, fun _ _ _ _ _ _ => rfl, fun k h1 h2 => by omega, id⟩
theorem NW_tr {G : Int → Int} {r : Int → Nat} {b c : Nat} {g g2 g3 : Int → Int} (h0 : 0 ≤ g 1) (h1 : NW G r c g g2) (h2 : NW G r b g2 g3) (hc : c ≤ b) : NW G r b g g3 := by
  obtain ⟨a1, a2, a3, a4⟩ := h1
  obtain ⟨b1, b2, b3, b4⟩ := h2
  refine ⟨by omega, fun k w p q u v => (b2 k w p (by omega) u v).trans (a2 k w p q u v), fun k p q => ?_, fun h => b4 (a4 h)⟩
  by_cases hk : k < g2 1
  · have := a3 k p hk
    rw [b2 k 0 (by omega) hk (by decide) (by decide)]
    exact ⟨this.1, this.2.1, by omega⟩
  · exact b3 k (by omega) q
theorem NW_ui {G : Int → Int} {r : Int → Nat} {b : Nat} {g : Int → Int} {i v : Int} (hi : i < 61 ∧ i ≠ 1) : NW G r b g (ui g i v) := by
  have e1 : ui g i v 1 = g 1 := ui_n (by omega)
  have e : ∀ k w, 0 ≤ k → 0 ≤ w → m_thing (ui g i v) k w = m_thing g k w := fun k w p q => ui_n (by omega)
  have eh : ∀ k, 0 ≤ k → m_here (ui g i v) k = m_here g k := fun k p => by unfold m_here; rw [e k 2 p (by decide)]
  refine ⟨by omega, fun k w p _ q _ => e k w p q, fun k p q => by omega, fun h j k p q s hj hk hs => ?_⟩
  rw [e1] at s
  rw [eh j p] at hj
  rw [eh k (by omega)] at hk
  rw [e j 0 p (by decide), e k 0 (by omega) (by decide)] at hs
  rw [e k 0 (by omega) (by decide)]
  exact h j k p q s hj hk hs
theorem get_nw {G : Int → Int} {th : Int} {r : Int → Nat} (hr : RK G r) (htw : TW G) (hsw : SwOK G) (hth : 0 ≤ th ∧ th ≤ 3) : ∀ (d : Nat) (t dp : Int) (s : (Int → Int) × (Int → Int)) (nf : Int → Bool), 0 ≤ t → t < 8 → 0 ≤ dp → r (m_stands G t) < d → OY s.1 → RF G th nf s.1 → (m_cnt G th d t (nf, -1)).2.2 < 0 → (m_get G th d t dp s).2.1 1 ≤ 160 →
    NW G r (r (m_stands G t) + 1) s.1 (m_get G th d t dp s).2.1 := by
  intro d
  induction d with
  | zero => intro t dp s nf _ _ _ h; exact absurd h (Nat.not_lt_zero _)
  | succ d ih =>
    intro t dp s nf t1 t2 hdp hrk ho hR hno hfit
    have hu := m_stands_r hsw ⟨t1, t2⟩
    rw [m_get_c] at hfit ⊢
    generalize hU : m_stands G t = u at *
    have hR1 : RF G th nf (ui s.1 2 (s.1 2 + 1)) := RF_ui (Or.inl rfl) hR
    have ho1 : OY (ui s.1 2 (s.1 2 + 1)) := OY_ui (by decide) ho
    have n1 : NW G r (r u + 1) s.1 (ui s.1 2 (s.1 2 + 1)) := NW_ui (by decide)
    split
    · exact NW_tr ho.1 n1 (NW_ui (by decide)) (Nat.le_refl _)
    · rename_i hex
      rw [if_neg hex] at hfit
      have hha : m_has G u = true := by
        cases hq : m_has G u with
        | true => rfl
        | false =>
          rw [cnt_no (by rw [hU]; exact hq), hU] at hno
          exact absurd (show u < 0 from hno) (by omega)
      have hn2 : ¬ (0 ≤ m_exist G u th ∨ nf u = true) := fun h => hex ((hR1.2.2.1 u hu.1 hu.2).mpr h)
      rw [cnt_go (by rw [hU]; exact hha) (by rw [hU]; exact hn2), hU] at hno
      have hfit1 : (GZ G th d u dp (ui s.1 2 (s.1 2 + 1), s.2) (m_of G u 2)).1 1 ≤ 159 := by
        have h9 : m_put G u th dp (GZ G th d u dp (ui s.1 2 (s.1 2 + 1), s.2) (m_of G u 2)).1 (GZ G th d u dp (ui s.1 2 (s.1 2 + 1), s.2) (m_of G u 2)).2 1 ≤ 160 := hfit
        rw [m_put_1] at h9
        omega
      have hgz := gz_inv (f := s.2) hr htw hsw hth hu hdp hrk ho1 hR1 hno hfit1
      have hn := htw u hu.1 hu.2
      have key : ∀ k : Nat, (k : Int) ≤ m_of G u 2 → NW G r (r u) (ui s.1 2 (s.1 2 + 1)) (GZ G th d u dp (ui s.1 2 (s.1 2 + 1), s.2) k).1 := by
        intro k
        induction k with
        | zero => intro _; exact NW_rf
        | succ k ihk =>
          intro hk
          have h1 := ihk (by omega)
          obtain ⟨g1, g2, g3, g4⟩ := hgz k (by omega) (by omega)
          have e2 : GZ G th d u dp (ui s.1 2 (s.1 2 + 1), s.2) ((k + 1 : Nat) : Int) = m_getF G th d u dp (k : Int) (GZ G th d u dp (ui s.1 2 (s.1 2 + 1), s.2) (k : Int)) := rfl
          rw [e2]
          by_cases hdir : m_dir G u (k : Int) = true
          · rw [getF_pos hdir]
            obtain ⟨p1, p2, p3⟩ := g4 (by omega) hdir
            have hnr := m_need_r G u (k : Int)
            have hrk2 := hr u k hu.1 hu.2 (by omega) (by omega) hdir
            exact NW_tr ho1.1 h1 (by
              have q := ih (m_need G u k) (dp + 1) (GZ G th d u dp (ui s.1 2 (s.1 2 + 1), s.2) (k : Int)) _ hnr.1 hnr.2 (by omega) p3 g1 g2 p1 p2
              exact ⟨q.1, q.2.1, fun i a b => ⟨(q.2.2.1 i a b).1, (q.2.2.1 i a b).2.1, Nat.lt_of_lt_of_le (q.2.2.1 i a b).2.2 (by omega)⟩, q.2.2.2⟩) (Nat.le_refl _)
          · rw [getF_neg hdir]; exact h1
      have hkk := key (m_of G u 2).toNat (by omega)
      rw [show (((m_of G u 2).toNat : Nat) : Int) = m_of G u 2 by omega] at hkk
      have hoz := (hgz (m_of G u 2) hn.1 (Int.le_refl _)).1
      unfold m_cre
      show NW G r (r u + 1) s.1 (m_put G u th dp (GZ G th d u dp (ui s.1 2 (s.1 2 + 1), s.2) (m_of G u 2)).1 (GZ G th d u dp (ui s.1 2 (s.1 2 + 1), s.2) (m_of G u 2)).2)
      generalize GZ G th d u dp (ui s.1 2 (s.1 2 + 1), s.2) (m_of G u 2) = Z at hkk hoz ⊢
      have e1 : m_put G u th dp Z.1 Z.2 1 = Z.1 1 + 1 := m_put_1
      have et : m_thing (m_put G u th dp Z.1 Z.2) (Z.1 1) 0 = u := by
        rw [putx_of hn hoz.1 (by decide), if_neg (by omega), if_neg (by omega), if_neg (by decide), if_neg (by decide), if_neg (by decide), if_pos rfl]
      have eo : ∀ k w, 0 ≤ k → k < Z.1 1 → 0 ≤ w → w < 10 → m_thing (m_put G u th dp Z.1 Z.2) k w = m_thing Z.1 k w := fun k w p q a b => put_thing hoz.1 ⟨p, q⟩ ⟨a, b⟩
      have eh : ∀ k, 0 ≤ k → k < Z.1 1 → m_here (m_put G u th dp Z.1 Z.2) k = m_here Z.1 k := fun k p q => by unfold m_here; rw [eo k 2 p q (by decide) (by decide)]
      refine NW_tr ho.1 n1 ⟨by have := hkk.1; omega, fun k w p q a b => ?_, fun k p q => ?_, fun hS j k p q s9 hj hk hs => ?_⟩ (Nat.le_refl _)
      · rw [eo k w p (by have := hkk.1; omega) a b]; exact hkk.2.1 k w p q a b
      · by_cases hk : k = Z.1 1
        · rw [hk, et]; exact ⟨hu, hha, by omega⟩
        · have hq : k < Z.1 1 := by omega
          have h00 := ho1.1
          rw [eo k 0 (by omega) hq (by decide) (by decide)]
          have := hkk.2.2.1 k p hq
          exact ⟨this.1, this.2.1, by omega⟩
      · have hjz : j < Z.1 1 := by omega
        rw [eh j p hjz] at hj
        rw [eo j 0 p hjz (by decide) (by decide)] at hs
        by_cases hkz : k = Z.1 1
        · subst hkz
          rw [et] at hs ⊢
          intro h115
          by_cases hjo : j < ui s.1 2 (s.1 2 + 1) 1
          · rw [hkk.2.1 j 0 p hjo (by decide) (by decide)] at hs
            have hj2 : m_here (ui s.1 2 (s.1 2 + 1)) j = true := by
              unfold m_here at hj ⊢
              rw [hkk.2.1 j 2 p hjo (by decide) (by decide)] at hj
              exact hj
            apply hex
            have e115 : m_of (ui s.1 2 (s.1 2 + 1)) u 0 = 115 := by rw [te_of hR1.1 hu (by decide)]; exact h115
            unfold m_exist
            rw [if_neg (by omega)]
            rcases fnd_spec (fun k => m_here (ui s.1 2 (s.1 2 + 1)) k && (decide (m_thing (ui s.1 2 (s.1 2 + 1)) k 0 = u) && (decide (m_of (ui s.1 2 (s.1 2 + 1)) u 0 = 115) || decide (m_thing (ui s.1 2 (s.1 2 + 1)) k 1 = th)))) ho1.1 with ⟨_, h2⟩ | ⟨h2, _⟩
            · have := h2 j p hjo
              rw [hj2, hs, e115] at this
              simp at this
            · exact h2
          · have := (hkk.2.2.1 j (by omega) hjz).2.2
            rw [hs] at this
            omega
        · have hkz2 : k < Z.1 1 := by omega
          rw [eh k (by omega) hkz2] at hk
          rw [eo k 0 (by omega) hkz2 (by decide) (by decide)] at hs ⊢
          exact hkk.2.2.2 hS j k p q hkz2 hj hk hs
theorem ci_get {N : Int} {g fl : Int → Int} (hi : RIV N g) (hc : CI g) {t th : Int} (ht : 0 ≤ t ∧ t < 8) (hth : 0 ≤ th ∧ th ≤ 3) (hden : ¬ 0 < (m_den g t th).1) : CI (m_get g th 8 t 0 (g, fl)).2.1 ∧ TE g (m_get g th 8 t 0 (g, fl)).2.1 := by
  obtain ⟨⟨⟨r, hr, hr8⟩, htw, hsw, htm, hzn, hhn, hsc⟩, hox, hgi⟩ := id hi
  have hd0 := m_den_0 hden
  have hur := m_stands_r hsw ht
  have h60c : (m_get g th 8 t 0 (g, fl)).2.1 1 ≤ 60 := by rw [get_made htw hsw hox.1 ht hd0.1]; exact hd0.2
  have hg60 := hgi.2.1
  have hoy : OY g := OX_OY hox (by omega) hgi.2.2.1
  have q := get_nw hr htw hsw hth 8 t 0 (g, fl) (fun _ => false) ht.1 ht.2 (by decide) (hr8 _ hur.1 hur.2) hoy (RF_rf hox.1) hd0.1 (by omega)
  have hT := get_te (fl := fl) htw hsw hox.1 ht hd0.1
  generalize m_get g th 8 t 0 (g, fl) = Z at q hT ⊢
  replace q : NW g r (r (m_stands g t) + 1) g Z.2.1 := q
  obtain ⟨q1, q2, q3, q4⟩ := q
  obtain ⟨a, b, c, d⟩ := hc
  have e : ∀ t w, 0 ≤ t → t < 8 → 0 ≤ w → w < 7 → m_of Z.2.1 t w = m_of g t w := fun t w p q r s => te_of hT ⟨p, q⟩ ⟨r, s⟩
  have h8 : ∀ k, 0 ≤ k → k < Z.2.1 1 → 0 ≤ m_thing Z.2.1 k 0 ∧ m_thing Z.2.1 k 0 < 8 := fun k k0 k1 => by
    by_cases hk : k < g 1
    · rw [q2 k 0 k0 hk (by decide) (by decide)]; exact (hox.2.1 k k0 hk).1
    · exact (q3 k (by omega) k1).1
  refine ⟨⟨fun t p q h => ?_, fun t j k p q r s u => ?_, fun k p q h => ?_, fun j k p q9 r9 hj hk hs => ?_⟩, hT⟩
  · rw [e t 0 p q (by decide) (by decide)] at h
    rw [e t 1 p q (by decide) (by decide)]
    exact a t p q h
  · rw [e t 2 p q (by decide) (by decide)] at u
    have h3 := htw t p q
    rw [need_of (g := g) (k := j) (e t (3 + j) p q (by omega) (by omega)), need_of (g := g) (k := k) (e t (3 + k) p q (by omega) (by omega))]
    exact b t j k p q r s u
  · rw [te_has hT (h8 k p q)]
    by_cases hk : k < g 1
    · have hh : m_here g k = true := by
        unfold m_here at h ⊢
        rw [q2 k 2 p hk (by decide) (by decide)] at h
        exact h
      rw [q2 k 0 p hk (by decide) (by decide)]
      exact c k p hk hh
    · exact (q3 k (by omega) q).2.1
  · have := h8 k (by omega) r9
    rw [e _ 0 this.1 this.2 (by decide) (by decide)]
    exact q4 d j k p q9 r9 hj hk hs
theorem ci_make {N : Int} {g fl : Int → Int} (hr : RIV N g) (hi : CI g) (t th : Int) : CI (rs_g g (A_make g fl t th)) := by
  unfold A_make
  split
  · exact hi
  · next hno =>
    split
    · exact hi
    · next hden =>
      have hz := c_op_ok hno
      exact (ci_get hr hi (by omega) hz.2.2 hden).1
theorem ci_touch {N : Int} {g fl : Int → Int} (hr : RIV (400000 + N) g) (hN : 0 ≤ N) (hf : ∀ x, 0 ≤ fl x ∧ fl x < 2147483648) (hi : CI g) (o q th : Int) : CI (rs_g g (A_tch g fl o q th)) := by
  unfold A_tch
  split
  · exact hi
  · next hno =>
    split
    · exact hi
    · split
      · exact hi
      · next hden =>
        have hz := c_tch_ok hno
        have hy := m_noneed_ok hz.1
        have hob := hr.2.1.2.1 o (by omega) (by omega)
        have hq3 : q < 3 := by have := hob.2.1; omega
        have hk := hob.2.2 q hy.2.2.1 hq3
        have h1 := ci_get (fl := fl) hr hi hk.1 hz.2.2 hden
        have h2 := riv_get hr hN hf hk.1 hz.2.2 hden
        generalize m_get g th 8 (m_thing g o (4 + q)) 0 (g, fl) = Z at h1 h2 ⊢
        have e : ∀ x, x ≠ 61 + 10 * o + (7 + q) → ui Z.2.1 (61 + 10 * o + (7 + q)) (Z.1 + 1) x = Z.2.1 x := fun x hx => ui_n hx
        refine CI_objs (fun x a b => e x (by omega)) h2.1.1.2.1 h2.1.2.1 (e 1 (by omega)) (fun k p q => ⟨e _ (by omega), fun h => ?_⟩) h1.1
        unfold m_here m_thing at h ⊢
        change decide (ui Z.2.1 _ _ (61 + 10 * k + 2) = 0) = true at h
        rw [e _ (by omega)] at h
        exact h
/-- every command keeps it -/
theorem ci_res {N : Int} {g fl : Int → Int} (hr : RIV (400000 + N) g) (hN : 0 ≤ N) (hf : ∀ x, 0 ≤ fl x ∧ fl x < 2147483648) (hi : CI g) (k a b c : Int) : CI (rs_g g (D_res g fl k a b c)) := by
  unfold D_res
  repeat' split
  · exact ci_def hr hi a b c
  · exact ci_drop hr hi a
  · exact ci_add hr hi a b false
  · exact ci_add hr hi a b true
  · exact ci_rem hr hi a b
  · exact ci_repl hr hi a b
  · exact ci_back hr hi a
  · exact ci_open hr hi
  · exact ci_close hr hi a
  · exact ci_make hr hi a b
  · exact ci_touch hr hN hf hi a b c

/-! ===== at most 96 objects are due for a tool ===== -/
/-- the size of the tree of direct needs -/
noncomputable def m_tr (g : Int → Int) : Nat → Int → Int
  | 0, _ => 0
  | d + 1, t => 1 + sumI (fun k => if m_dir g (m_stands g t) k = true then m_tr g d (m_need g (m_stands g t) k) else 0) (m_of g (m_stands g t) 2)
theorem sumN_0 {f : Int → Int} (n : Nat) (h : ∀ k : Int, 0 ≤ k → k < n → 0 ≤ f k) : 0 ≤ sumN f n := by
  have := sumN_le (f := fun _ => 0) (h := f) n h
  have e : ∀ n : Nat, sumN (fun _ : Int => (0 : Int)) n = 0 := fun n => by
    induction n with
    | zero => rfl
    | succ n ih => simp only [sumN]; omega
  rw [e] at this
  exact this
theorem m_tr_0 (g : Int → Int) : ∀ (d : Nat) (t : Int), 0 ≤ m_tr g d t := by
  intro d
  induction d with
  | zero => intro t; exact Int.le_refl 0
  | succ d ih =>
    intro t
    have := sumN_0 (f := fun k => if m_dir g (m_stands g t) k = true then m_tr g d (m_need g (m_stands g t) k) else 0) (m_of g (m_stands g t) 2).toNat (fun k _ _ => by split; exact ih _; exact Int.le_refl 0)
    simp only [m_tr, sumI]
    omega
theorem cnt_tr {g : Int → Int} {th : Int} (htw : TW g) (hsw : SwOK g) : ∀ (d : Nat) (t : Int) (s : (Int → Bool) × Int), 0 ≤ t → t < 8 → (m_cnt g th d t s).1 ≤ m_tr g d t := by
  intro d
  induction d with
  | zero => intro t s _ _; exact Int.le_refl 0
  | succ d ih =>
    intro t s t1 t2
    have hu := m_stands_r hsw ⟨t1, t2⟩
    have hn := htw _ hu.1 hu.2
    rw [m_cnt_s]
    have h0 := m_tr_0 g (d + 1) t
    split
    · exact h0
    · split
      · exact h0
      · simp only [m_tr]
        generalize m_stands g t = u at *
        have key : ∀ k : Nat, (k : Int) ≤ m_of g u 2 → (itI (m_cntF g th d u) (k : Int) (1, s)).1 ≤ 1 + sumI (fun k => if m_dir g u k = true then m_tr g d (m_need g u k) else 0) (k : Int) := by
          intro k
          induction k with
          | zero => intro _; show (1 : Int) ≤ 1 + 0; decide
          | succ k ihk =>
            intro hk
            have h1 := ihk (by omega)
            have e1 : itI (m_cntF g th d u) ((k + 1 : Nat) : Int) (1, s) = m_cntF g th d u (k : Int) (itI (m_cntF g th d u) (k : Int) (1, s)) := rfl
            have e2 : sumI (fun k => if m_dir g u k = true then m_tr g d (m_need g u k) else 0) ((k + 1 : Nat) : Int) = sumI (fun k => if m_dir g u k = true then m_tr g d (m_need g u k) else 0) (k : Int) + (if m_dir g u (k : Int) = true then m_tr g d (m_need g u (k : Int)) else 0) := rfl
            rw [e1, e2]
            unfold m_cntF
            by_cases hdir : m_dir g u (k : Int) = true
            · rw [if_pos hdir, if_pos hdir]
              have hnr := m_need_r g u (k : Int)
              have h3 := ih (m_need g u (k : Int)) (itI (m_cntF g th d u) (k : Int) (1, s)).2 hnr.1 hnr.2
              unfold m_cntF at h1 h3
              show _ + _ ≤ _
              omega
            · rw [if_neg hdir, if_neg hdir]
              unfold m_cntF at h1
              omega
        have := key (m_of g u 2).toNat (by omega)
        rw [show (((m_of g u 2).toNat : Nat) : Int) = m_of g u 2 by omega] at this
        exact this
theorem tr_st {g : Int → Int} {r : Int → Nat} (hr : RK g r) (hsw : SwOK g) : ∀ (d : Nat) (t : Int), 0 ≤ t → t < 8 → r (m_stands g t) < d → m_tr g (d + 1) t = m_tr g d t := by
  intro d
  induction d with
  | zero => intro t _ _ h; omega
  | succ d ih =>
    intro t t1 t2 hd
    have hu := m_stands_r hsw ⟨t1, t2⟩
    show 1 + sumN (fun k => if m_dir g (m_stands g t) k = true then m_tr g (d + 1) (m_need g (m_stands g t) k) else 0) _ = 1 + sumN (fun k => if m_dir g (m_stands g t) k = true then m_tr g d (m_need g (m_stands g t) k) else 0) _
    have e : ∀ n : Nat, (n : Int) ≤ m_of g (m_stands g t) 2 → sumN (fun k => if m_dir g (m_stands g t) k = true then m_tr g (d + 1) (m_need g (m_stands g t) k) else 0) n = sumN (fun k => if m_dir g (m_stands g t) k = true then m_tr g d (m_need g (m_stands g t) k) else 0) n := by
      intro n
      induction n with
      | zero => intro _; rfl
      | succ n ihn =>
        intro hn
        have h1 := ihn (by omega)
        simp only [sumN]
        rw [h1]
        congr 1
        by_cases hdir : m_dir g (m_stands g t) (n : Int) = true
        · rw [if_pos hdir, if_pos hdir]
          have hnr := m_need_r g (m_stands g t) (n : Int)
          have := hr (m_stands g t) n hu.1 hu.2 (by omega) (by omega) hdir
          exact ih _ hnr.1 hnr.2 (by omega)
        · rw [if_neg hdir, if_neg hdir]
    by_cases hz : 0 ≤ m_of g (m_stands g t) 2
    · rw [e _ (by omega)]
    · rw [show (m_of g (m_stands g t) 2).toNat = 0 by omega]; rfl
def tb (n : Int) : Int := if n ≤ 0 then 1 else if n = 1 then 2 else if n = 2 then 4 else if n = 3 then 8 else if n = 4 then 15 else if n = 5 then 28 else if n = 6 then 52 else 96
/-- how many letters have less than l -/
noncomputable def cless (V : Int → Int) (l : Int) : Int := sumI (fun j => b2 (decide (V j < V l))) 8
theorem cless_r (V : Int → Int) {l : Int} (hl : 0 ≤ l ∧ l < 8) : 0 ≤ cless V l ∧ cless V l ≤ 7 := by
  have h1 := sumN_b (f := fun j => b2 (decide (V j < V l))) (lo := 0) (hi := 1) 8 (fun k _ _ => b2_r _)
  have h2 := sumN_lt (f := fun j => b2 (decide (V j < V l))) (h := fun _ => 1) 8 (fun k _ _ => (b2_r _).2) (k := l) ⟨hl.1, by omega⟩ (by show b2 (decide (V l < V l)) < 1; rw [decide_eq_false (by omega)]; decide)
  have e2 : sumN (fun _ => 1) 8 = 8 := by decide
  have e : cless V l = sumN (fun j => b2 (decide (V j < V l))) 8 := rfl
  omega
theorem cless_1 {V : Int → Int} {l a : Int} (ha : 0 ≤ a ∧ a < 8) (h : V a < V l) : cless V a + 1 ≤ cless V l := by
  have h2 := sumN_lt (f := fun j => b2 (decide (V j < V a))) (h := fun j => b2 (decide (V j < V l))) 8 (fun k _ _ => by
    show b2 (decide (V k < V a)) ≤ b2 (decide (V k < V l))
    by_cases hk : V k < V a
    · rw [b2_pos hk, b2_pos (by omega)]; exact Int.le_refl _
    · rw [b2_neg hk]; exact (b2_r _).1) (k := a) ⟨ha.1, by omega⟩ (by show b2 (decide (V a < V a)) < b2 (decide (V a < V l)); rw [b2_neg (by omega), b2_pos h]; decide)
  exact h2
theorem cless_2 {V : Int → Int} {l a b : Int} (ha : 0 ≤ a ∧ a < 8) (hb : 0 ≤ b ∧ b < 8) (hab : a ≠ b) (h : V a < V l) (h2 : V b ≤ V a) : cless V b + 2 ≤ cless V l := by
  have e1 := sumN_ui (f := fun j => b2 (decide (V j < V b))) (h := fun j => if j = a then 1 else b2 (decide (V j < V b))) (x := a) (d := 1) 8 ⟨ha.1, by omega⟩ (fun k hk => if_neg hk) (by rw [if_pos rfl, b2_neg (by omega)]; rfl)
  have h3 := sumN_lt (f := fun j => if j = a then 1 else b2 (decide (V j < V b))) (h := fun j => b2 (decide (V j < V l))) 8 (fun k _ _ => by
    show (if k = a then 1 else b2 (decide (V k < V b))) ≤ b2 (decide (V k < V l))
    by_cases hk : k = a
    · rw [if_pos hk, hk, b2_pos h]; exact Int.le_refl _
    · rw [if_neg hk]
      by_cases hk2 : V k < V b
      · rw [b2_pos hk2, b2_pos (by omega)]; exact Int.le_refl _
      · rw [b2_neg hk2]; exact (b2_r _).1) (k := b) ⟨hb.1, by omega⟩ (by show (if b = a then 1 else b2 (decide (V b < V b))) < b2 (decide (V b < V l)); rw [if_neg (fun e => hab e.symm), b2_neg (by omega), b2_pos (by omega)]; decide)
  have f1 : cless V b = sumN (fun j => b2 (decide (V j < V b))) 8 := rfl
  have f2 : cless V l = sumN (fun j => b2 (decide (V j < V l))) 8 := rfl
  omega
theorem cless_3 {V : Int → Int} {l a b c : Int} (ha : 0 ≤ a ∧ a < 8) (hb : 0 ≤ b ∧ b < 8) (hc : 0 ≤ c ∧ c < 8) (hab : a ≠ b) (hac : a ≠ c) (hbc : b ≠ c) (h : V a < V l) (h0 : V b < V l) (h2 : V c ≤ V a) (h3 : V c ≤ V b) : cless V c + 3 ≤ cless V l := by
  have e1 := sumN_ui (f := fun j => b2 (decide (V j < V c))) (h := fun j => if j = a then 1 else b2 (decide (V j < V c))) (x := a) (d := 1) 8 ⟨ha.1, by omega⟩ (fun k hk => if_neg hk) (by rw [if_pos rfl, b2_neg (by omega)]; rfl)
  have e2 := sumN_ui (f := fun j => if j = a then 1 else b2 (decide (V j < V c))) (h := fun j => if j = b then 1 else if j = a then 1 else b2 (decide (V j < V c))) (x := b) (d := 1) 8 ⟨hb.1, by omega⟩ (fun k hk => if_neg hk) (by rw [if_pos rfl, if_neg (fun e => hab e.symm), b2_neg (by omega)]; rfl)
  have h4 := sumN_lt (f := fun j => if j = b then 1 else if j = a then 1 else b2 (decide (V j < V c))) (h := fun j => b2 (decide (V j < V l))) 8 (fun k _ _ => by
    show (if k = b then 1 else if k = a then 1 else b2 (decide (V k < V c))) ≤ b2 (decide (V k < V l))
    by_cases hkb : k = b
    · rw [if_pos hkb, hkb, b2_pos h0]; exact Int.le_refl _
    · rw [if_neg hkb]
      by_cases hk : k = a
      · rw [if_pos hk, hk, b2_pos h]; exact Int.le_refl _
      · rw [if_neg hk]
        by_cases hk2 : V k < V c
        · rw [b2_pos hk2, b2_pos (by omega)]; exact Int.le_refl _
        · rw [b2_neg hk2]; exact (b2_r _).1) (k := c) ⟨hc.1, by omega⟩ (by show (if c = b then 1 else if c = a then 1 else b2 (decide (V c < V c))) < b2 (decide (V c < V l)); rw [if_neg (fun e => hbc e.symm), if_neg (fun e => hac e.symm), b2_neg (by omega), b2_pos (by omega)]; decide)
  have f1 : cless V c = sumN (fun j => b2 (decide (V j < V c))) 8 := rfl
  have f2 : cless V l = sumN (fun j => b2 (decide (V j < V l))) 8 := rfl
  omega
theorem tb_mono {m n : Int} (h : m ≤ n) : tb m ≤ tb n := by
  unfold tb
  repeat' split
  all_goals omega
theorem tb_1 (n : Int) : 1 ≤ tb n := by
  unfold tb
  repeat' split
  all_goals omega
theorem tb_s1 {n : Int} (h : 1 ≤ n ∧ n ≤ 7) : 1 + tb (n - 1) ≤ tb n := by
  rcases (show n = 1 ∨ n = 2 ∨ n = 3 ∨ n = 4 ∨ n = 5 ∨ n = 6 ∨ n = 7 by omega) with rfl | rfl | rfl | rfl | rfl | rfl | rfl <;> decide
theorem tb_s2 {n : Int} (h : 2 ≤ n ∧ n ≤ 7) : 1 + tb (n - 1) + tb (n - 2) ≤ tb n := by
  rcases (show n = 2 ∨ n = 3 ∨ n = 4 ∨ n = 5 ∨ n = 6 ∨ n = 7 by omega) with rfl | rfl | rfl | rfl | rfl | rfl <;> decide
theorem tb_s3 {n : Int} (h : 3 ≤ n ∧ n ≤ 7) : 1 + tb (n - 1) + tb (n - 2) + tb (n - 3) ≤ tb n := by
  rcases (show n = 3 ∨ n = 4 ∨ n = 5 ∨ n = 6 ∨ n = 7 by omega) with rfl | rfl | rfl | rfl | rfl <;> decide
/-- one, two, three letters that a letter's value is made of -/
theorem tb_one {V : Int → Int} {l a : Int} (hl : 0 ≤ l ∧ l < 8) (ha : 0 ≤ a ∧ a < 8) (h : V a < V l) (ia : V a ≤ tb (cless V a)) : 1 + V a ≤ tb (cless V l) := by
  have h1 := cless_1 ha h
  have h2 := cless_r V hl
  have h3 := cless_r V ha
  have h4 := tb_mono (show cless V a ≤ cless V l - 1 by omega)
  have h5 := tb_s1 (n := cless V l) (by omega)
  omega
theorem tb_two {V : Int → Int} {l a b : Int} (hl : 0 ≤ l ∧ l < 8) (ha : 0 ≤ a ∧ a < 8) (hb : 0 ≤ b ∧ b < 8) (hab : a ≠ b) (h : V a < V l) (h0 : V b < V l) (ia : V a ≤ tb (cless V a)) (ib : V b ≤ tb (cless V b)) : 1 + V a + V b ≤ tb (cless V l) := by
  have h2 := cless_r V hl
  have h3 := cless_r V ha
  have h4 := cless_r V hb
  by_cases hq : V b ≤ V a
  · have c1 := cless_1 ha h
    have c2 := cless_2 ha hb hab h hq
    have h4 := tb_mono (show cless V a ≤ cless V l - 1 by omega)
    have h6 := tb_mono (show cless V b ≤ cless V l - 2 by omega)
    have h5 := tb_s2 (n := cless V l) (by omega)
    omega
  · have c1 := cless_1 hb h0
    have c2 := cless_2 hb ha (fun e => hab e.symm) h0 (by omega)
    have h4 := tb_mono (show cless V b ≤ cless V l - 1 by omega)
    have h6 := tb_mono (show cless V a ≤ cless V l - 2 by omega)
    have h5 := tb_s2 (n := cless V l) (by omega)
    omega
theorem tb_three0 {V : Int → Int} {l a b c : Int} (hl : 0 ≤ l ∧ l < 8) (ha : 0 ≤ a ∧ a < 8) (hb : 0 ≤ b ∧ b < 8) (hc : 0 ≤ c ∧ c < 8) (hab : a ≠ b) (hac : a ≠ c) (hbc : b ≠ c) (h : V a < V l) (h0 : V b < V l) (ia : V a ≤ tb (cless V a)) (ib : V b ≤ tb (cless V b)) (ic : V c ≤ tb (cless V c)) (q1 : V b ≤ V a) (q2 : V c ≤ V b) : 1 + V a + V b + V c ≤ tb (cless V l) := by
  have h2 := cless_r V hl
  have h3 := cless_r V hc
  have c1 := cless_1 ha h
  have c2 := cless_2 ha hb hab h q1
  have c3 := cless_3 ha hb hc hab hac hbc h h0 (by omega) q2
  have h4 := tb_mono (show cless V a ≤ cless V l - 1 by omega)
  have h6 := tb_mono (show cless V b ≤ cless V l - 2 by omega)
  have h7 := tb_mono (show cless V c ≤ cless V l - 3 by omega)
  have h5 := tb_s3 (n := cless V l) (by omega)
  omega
theorem tb_three {V : Int → Int} {l a b c : Int} (hl : 0 ≤ l ∧ l < 8) (ha : 0 ≤ a ∧ a < 8) (hb : 0 ≤ b ∧ b < 8) (hc : 0 ≤ c ∧ c < 8) (hab : a ≠ b) (hac : a ≠ c) (hbc : b ≠ c) (h : V a < V l) (h0 : V b < V l) (h1 : V c < V l) (ia : V a ≤ tb (cless V a)) (ib : V b ≤ tb (cless V b)) (ic : V c ≤ tb (cless V c)) : 1 + V a + V b + V c ≤ tb (cless V l) := by
  have ba : b ≠ a := fun e => hab e.symm
  have ca : c ≠ a := fun e => hac e.symm
  have cb : c ≠ b := fun e => hbc e.symm
  by_cases q1 : V b ≤ V a
  · by_cases q2 : V c ≤ V b
    · exact tb_three0 hl ha hb hc hab hac hbc h h0 ia ib ic q1 q2
    · by_cases q3 : V c ≤ V a
      · have := tb_three0 hl ha hc hb hac hab cb h h1 ia ic ib q3 (by omega); omega
      · have := tb_three0 hl hc ha hb ca cb hab h1 h ic ia ib (by omega) q1; omega
  · by_cases q2 : V c ≤ V a
    · have := tb_three0 hl hb ha hc ba hbc hac h0 h ib ia ic (by omega) q2; omega
    · by_cases q3 : V c ≤ V b
      · have := tb_three0 hl hb hc ha hbc ba ca h0 h1 ib ic ia q3 (by omega); omega
      · have := tb_three0 hl hc hb ha cb ca ba h1 h0 ic ib ia (by omega) (by omega); omega
theorem tr_tb {g : Int → Int} {r : Int → Nat} (hr : RK g r) (hr8 : ∀ t, 0 ≤ t → t < 8 → r t < 8) (htw : TW g) (hsw : SwOK g) (hdn : DN g) : ∀ (d : Nat) (l : Int), 0 ≤ l ∧ l < 8 → r (m_stands g l) < d → m_tr g 8 l ≤ tb (cless (m_tr g 8) l) := by
  intro d
  induction d with
  | zero => intro l _ h; omega
  | succ d ih =>
    intro l hl hd
    have hu := m_stands_r hsw hl
    have hn := htw _ hu.1 hu.2
    have hV : m_tr g 8 l = 1 + sumI (fun k => if m_dir g (m_stands g l) k = true then m_tr g 8 (m_need g (m_stands g l) k) else 0) (m_of g (m_stands g l) 2) := by
      have := hr8 _ hu.1 hu.2
      rw [← tr_st hr hsw 8 l hl.1 hl.2 (by omega)]
      rfl
    have hk : ∀ k, 0 ≤ k → k < m_of g (m_stands g l) 2 → m_dir g (m_stands g l) k = true → m_tr g 8 (m_need g (m_stands g l) k) ≤ tb (cless (m_tr g 8) (m_need g (m_stands g l) k)) := fun k a b c => by
      have := hr (m_stands g l) k hu.1 hu.2 a b c
      exact ih _ (m_need_r g _ k) (by omega)
    have hdn' := hdn (m_stands g l)
    have h0 : ∀ k, 0 ≤ (if m_dir g (m_stands g l) k = true then m_tr g 8 (m_need g (m_stands g l) k) else 0) := fun k => by split; exact m_tr_0 g 8 _; exact Int.le_refl 0
    generalize m_stands g l = u at *
    generalize hVd : m_tr g 8 = V at *
    have hr9 := m_need_r g u
    have t1 := tb_1 (cless V l)
    have e0 : sumI (fun k => if m_dir g u k = true then V (m_need g u k) else 0) 0 = 0 := rfl
    have e1 : sumI (fun k => if m_dir g u k = true then V (m_need g u k) else 0) 1 = 0 + (if m_dir g u 0 = true then V (m_need g u 0) else 0) := rfl
    have e2 : sumI (fun k => if m_dir g u k = true then V (m_need g u k) else 0) 2 = 0 + (if m_dir g u 0 = true then V (m_need g u 0) else 0) + (if m_dir g u 1 = true then V (m_need g u 1) else 0) := rfl
    have e3 : sumI (fun k => if m_dir g u k = true then V (m_need g u k) else 0) 3 = 0 + (if m_dir g u 0 = true then V (m_need g u 0) else 0) + (if m_dir g u 1 = true then V (m_need g u 1) else 0) + (if m_dir g u 2 = true then V (m_need g u 2) else 0) := rfl
    have z0 := h0 0
    have z1 := h0 1
    have z2 := h0 2
    rcases (show m_of g u 2 = 0 ∨ m_of g u 2 = 1 ∨ m_of g u 2 = 2 ∨ m_of g u 2 = 3 by omega) with hc | hc | hc | hc <;> rw [hc] at hV hk hdn'
    · omega
    · rw [e1] at hV
      by_cases d0 : m_dir g u 0 = true
      · rw [if_pos d0] at *
        have := tb_one hl (hr9 0) (by omega) (hk 0 (by decide) (by decide) d0)
        omega
      · rw [if_neg d0] at hV; omega
    · have n01 := hdn' 0 1 hu.1 hu.2 (by decide) (by decide) (by decide)
      rw [e2] at hV
      by_cases d0 : m_dir g u 0 = true <;> by_cases d1 : m_dir g u 1 = true
      · rw [if_pos d0, if_pos d1] at hV
        rw [if_pos d0] at z0
        rw [if_pos d1] at z1
        have := tb_two hl (hr9 0) (hr9 1) n01 (by omega) (by omega) (hk 0 (by decide) (by decide) d0) (hk 1 (by decide) (by decide) d1)
        omega
      · rw [if_pos d0, if_neg d1] at hV
        have := tb_one hl (hr9 0) (by omega) (hk 0 (by decide) (by decide) d0)
        omega
      · rw [if_neg d0, if_pos d1] at hV
        have := tb_one hl (hr9 1) (by omega) (hk 1 (by decide) (by decide) d1)
        omega
      · rw [if_neg d0, if_neg d1] at hV; omega
    · have n01 := hdn' 0 1 hu.1 hu.2 (by decide) (by decide) (by decide)
      have n02 := hdn' 0 2 hu.1 hu.2 (by decide) (by decide) (by decide)
      have n12 := hdn' 1 2 hu.1 hu.2 (by decide) (by decide) (by decide)
      rw [e3] at hV
      by_cases d0 : m_dir g u 0 = true <;> by_cases d1 : m_dir g u 1 = true <;> by_cases d2 : m_dir g u 2 = true
      · rw [if_pos d0, if_pos d1, if_pos d2] at hV
        rw [if_pos d0] at z0
        rw [if_pos d1] at z1
        rw [if_pos d2] at z2
        have := tb_three hl (hr9 0) (hr9 1) (hr9 2) n01 n02 n12 (by omega) (by omega) (by omega) (hk 0 (by decide) (by decide) d0) (hk 1 (by decide) (by decide) d1) (hk 2 (by decide) (by decide) d2)
        omega
      · rw [if_pos d0, if_pos d1, if_neg d2] at hV
        rw [if_pos d0] at z0
        rw [if_pos d1] at z1
        have := tb_two hl (hr9 0) (hr9 1) n01 (by omega) (by omega) (hk 0 (by decide) (by decide) d0) (hk 1 (by decide) (by decide) d1)
        omega
      · rw [if_pos d0, if_neg d1, if_pos d2] at hV
        rw [if_pos d0] at z0
        rw [if_pos d2] at z2
        have := tb_two hl (hr9 0) (hr9 2) n02 (by omega) (by omega) (hk 0 (by decide) (by decide) d0) (hk 2 (by decide) (by decide) d2)
        omega
      · rw [if_pos d0, if_neg d1, if_neg d2] at hV
        have := tb_one hl (hr9 0) (by omega) (hk 0 (by decide) (by decide) d0)
        omega
      · rw [if_neg d0, if_pos d1, if_pos d2] at hV
        rw [if_pos d1] at z1
        rw [if_pos d2] at z2
        have := tb_two hl (hr9 1) (hr9 2) n12 (by omega) (by omega) (hk 1 (by decide) (by decide) d1) (hk 2 (by decide) (by decide) d2)
        omega
      · rw [if_neg d0, if_pos d1, if_neg d2] at hV
        have := tb_one hl (hr9 1) (by omega) (hk 1 (by decide) (by decide) d1)
        omega
      · rw [if_neg d0, if_neg d1, if_pos d2] at hV
        have := tb_one hl (hr9 2) (by omega) (hk 2 (by decide) (by decide) d2)
        omega
      · rw [if_neg d0, if_neg d1, if_neg d2] at hV; omega
theorem dues_96 {g : Int → Int} (hT : TI g) (hdn : DN g) {t th : Int} (ht : 0 ≤ t ∧ t < 8) : (m_dues g t th).1 ≤ 96 := by
  obtain ⟨⟨r, hr, hr8⟩, htw, hsw, -⟩ := hT
  have h1 := cnt_tr (th := th) htw hsw 8 t (fun _ => false, -1) ht.1 ht.2
  have hu := m_stands_r hsw ht
  have h2 := tr_tb hr hr8 htw hsw hdn 8 t ht (hr8 _ hu.1 hu.2)
  have h3 := tb_mono (cless_r (m_tr g 8) ht).2
  have h4 : tb 7 = 96 := by decide
  unfold m_dues
  omega
