/-! ===== what holds in every row; every command keeps it ===== -/
def RIV (N : Int) (g : Int → Int) : Prop := TI g ∧ OX g ∧ GI g g N
theorem RIV_le {N M : Int} {g : Int → Int} (h : RIV N g) (hl : M ≤ N) : RIV M g := ⟨h.1, h.2.1, GI_le h.2.2 hl⟩
theorem tab_riv {N : Int} {g g2 : Int → Int} (hT : TI g2) (h : ∀ x, x < 5 ∨ 61 ≤ x → g2 x = g x) (hb : ∀ x, 0 ≤ g2 x ∧ g2 x < 2147483648) (hi : RIV N g) : RIV N g2 := by
  obtain ⟨_, ho, _, h1, _, h2, h3, h4⟩ := hi
  refine ⟨hT, OX_congr (h 1 (by decide)) (fun x hx => Or.inl (h x (Or.inr hx))) ho, TE_rf _, ?_, hb, ?_, ?_, ?_⟩
  · rw [h 1 (by decide)]; exact h1
  · rw [h 2 (by decide)]; exact h2
  · rw [h 3 (by decide)]; exact h3
  · rw [h 4 (by decide)]; exact h4
theorem RIV_b {N : Int} {g : Int → Int} (h : RIV N g) : ∀ x, 0 ≤ g x ∧ g x < 2147483648 := h.2.2.2.2.1
theorem c_def_no {g : Int → Int} {t s mn : Int} (h : ¬ 0 < c_def g t s mn) : m_of g (t - 97) 0 = 0 := by
  unfold c_def at h
  split at h
  · split at h
    · omega
    · next h2 =>
      apply Classical.byContradiction
      intro hn
      exact h2 (decide_eq_true hn)
  · omega
theorem riv_def {N : Int} {g : Int → Int} (hi : RIV N g) (t s mn : Int) : RIV N (rs_g g (A_def g t s mn)) := by
  unfold A_def
  split
  · exact hi
  · next hno =>
    have hz := c_def_ok hno
    refine tab_riv (TI_def (by omega) hz.2.1 hz.2.2 (c_def_no hno) hi.1) (fun x hx => ?_) ?_ hi
    · show s_def g (t - 97) s mn x = g x
      unfold s_def m_set
      rw [ui_n (by omega), ui_n (by omega), ui_n (by omega)]
    · unfold s_def m_set
      exact ui_b (ui_b (ui_b (RIV_b hi) (by omega)) (by omega)) (by omega)
theorem riv_drop {N : Int} {g : Int → Int} (hi : RIV N g) (t : Int) : RIV N (rs_g g (A_drop g t)) := by
  unfold A_drop
  split
  · exact hi
  · next hno =>
    split
    · exact hi
    · have hz := c_none_ok hno
      refine tab_riv (TI_drop hi.1) (fun x hx => ?_) (fun x => ?_) hi
      · show s_drop g (t - 97) x = g x
        unfold s_drop
        rw [if_neg (by omega)]
      · show 0 ≤ s_drop g (t - 97) x ∧ s_drop g (t - 97) x < 2147483648
        unfold s_drop
        have := RIV_b hi x
        split <;> omega
theorem riv_add {N : Int} {g : Int → Int} (hi : RIV N g) (t n : Int) (z : Bool) : RIV N (rs_g g (A_add g t n z)) := by
  unfold A_add
  split
  · exact hi
  · next hno =>
    split
    · exact hi
    · split
      · exact hi
      · next h3 =>
        split
        · exact hi
        · next hc =>
          have hz := c_add_ok hno
          have hw := hi.1.2.1 (t - 97) (by omega) (by omega)
          have hcr := c_cir_r (s_add g (t - 97) (n - 97) z) z
          have hif := c_if_r (k := 8) (by decide) z
          refine tab_riv (TI_add (by omega) (by omega) (by omega) (of_decide_eq_true hz.2.2) (by omega) hi.1) (fun x hx => ?_) ?_ hi
          · show s_add g (t - 97) (n - 97) z x = g x
            unfold s_add m_set
            rw [ui_n (by omega), ui_n (by omega)]
          · unfold s_add m_set
            exact ui_b (ui_b (RIV_b hi) (by omega)) (by omega)
theorem riv_rem {N : Int} {g : Int → Int} (hi : RIV N g) (t n : Int) : RIV N (rs_g g (A_rem g t n)) := by
  unfold A_rem
  split
  · exact hi
  · next hno =>
    have hz := c_rem_ok hno
    have hw := hi.1.2.1 (t - 97) (by omega) (by omega)
    have hp := m_place_ok hi.1.2.1 (t := t - 97) (n := n - 97) (by omega) hz.2.2.2
    refine tab_riv (TI_rem (by omega) ⟨hz.2.2.2, hp.1⟩ hi.1) (fun x hx => ?_) (fun x => ?_) hi
    · show s_rem g (t - 97) _ x = g x
      unfold s_rem
      rw [if_neg (by omega), if_neg (by omega), if_neg (by omega)]
    · show 0 ≤ s_rem g (t - 97) _ x ∧ s_rem g (t - 97) _ x < 2147483648
      unfold s_rem
      have h1 := RIV_b hi x
      have h2 := RIV_b hi (x + 1)
      repeat' split
      all_goals omega
theorem riv_swap {N : Int} {g : Int → Int} (hi : RIV N g) {t v : Int} (ht : 0 ≤ t ∧ t < 8) (hv : 0 ≤ v ∧ v ≤ 8) (hs : SwOK (m_set g t 6 v)) (hc : m_circ (m_set g t 6 v) = 0) : RIV N (m_set g t 6 v) := by
  refine tab_riv (TI_swap hs hc hi.1) (fun x hx => ?_) ?_ hi
  · unfold m_set
    rw [ui_n (by omega)]
  · exact ui_b (RIV_b hi) (by omega)
theorem riv_repl {N : Int} {g : Int → Int} (hi : RIV N g) (t b : Int) : RIV N (rs_g g (A_repl g t b)) := by
  unfold A_repl
  split
  · exact hi
  · next hno =>
    split
    · exact hi
    · next hch =>
      split
      · exact hi
      · next hc =>
        have hz := c_repl_ok hno
        have hr := m_circ_r (m_set g (t - 97) 6 (b - 97 + 1))
        have h0 : m_chain g (b - 97) (t - 97) = 0 := by
          have : 0 ≤ m_chain g (b - 97) (t - 97) := chN_r g _ _ _
          omega
        exact riv_swap hi (by omega) (by omega) (swap_ok hi.1.2.2.1 (by omega) (by omega) h0) (by omega)
theorem riv_back {N : Int} {g : Int → Int} (hi : RIV N g) (t : Int) : RIV N (rs_g g (A_back g t)) := by
  unfold A_back
  split
  · exact hi
  · next hno =>
    split
    · exact hi
    · next hc =>
      have hz := c_back_ok hno
      have hr := m_circ_r (m_set g (t - 97) 6 0)
      exact riv_swap hi (by omega) (by decide) (cut_ok hi.1.2.2.1) (by omega)
