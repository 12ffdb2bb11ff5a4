theorem GI_self {G g : Int → Int} {N : Int} (h : GI G g N) : GI g g N := ⟨TE_rf g, h.2⟩
theorem riv_open {N : Int} {g : Int → Int} (hi : RIV N g) : RIV N (rs_g g (A_open g)) := by
  unfold A_open
  split
  · exact hi
  · next hno =>
    have hs := fnd_spec (fun k => !(m_opened g k)) (n := 4) (by decide)
    have hm : 0 ≤ m_free g ∧ m_free g < 4 := by
      unfold m_free at hno ⊢
      omega
    have hp := pw_r (k := m_free g) (by omega)
    show RIV N (ui g 0 (bor (g 0) (pw (m_free g))))
    refine ⟨TI_te (te_ui (TE_rf g) (by decide)) hi.1, OX_ui (by decide) hi.2.1, TE_rf _, ?_, ui_b (RIV_b hi) (bor_r (RIV_b hi 0) (by omega)), ?_, ?_, ?_⟩
    · rw [ui_n (by decide)]; exact hi.2.2.2.1
    · rw [ui_n (by decide)]; exact hi.2.2.2.2.2.1
    · rw [ui_n (by decide)]; exact hi.2.2.2.2.2.2.1
    · rw [ui_n (by decide)]; exact hi.2.2.2.2.2.2.2
theorem riv_close {N : Int} {g : Int → Int} (hi : RIV N g) (th : Int) : RIV N (rs_g g (A_close g th)) := by
  unfold A_close
  split
  · next ho =>
    have hr := m_opened_r ho
    have hp := pw_r (k := th) (by omega)
    have hx := bxr_r (RIV_b hi 0) (b := pw th) (by omega)
    have hk : ∀ x, x ≠ 0 → s_close g th x = g x ∨ (s_close g th x = 1 ∧ ∃ k, 0 ≤ k ∧ k < g 1 ∧ x = 63 + 10 * k) := by
      intro x h0
      unfold s_close
      rw [if_neg h0]
      split
      · next he =>
        obtain ⟨k, k0, k1, k2⟩ := exB_iff.mp he
        rw [Bool.and_eq_true] at k2
        exact Or.inr ⟨rfl, k, k0, k1, of_decide_eq_true k2.1⟩
      · exact Or.inl rfl
    have hlow : ∀ x, 0 < x → x < 61 → s_close g th x = g x := by
      intro x h0 h1
      rcases hk x (by omega) with h | ⟨_, k, k0, _, k2⟩
      · exact h
      · omega
    refine ⟨TI_te (fun x a b => hlow x (by omega) b) hi.1, OX_congr (hlow 1 (by decide) (by decide)) (fun x hx => ?_) hi.2.1, TE_rf _, ?_, fun x => ?_, ?_, ?_, ?_⟩
    · rcases hk x (by omega) with h | ⟨_, h⟩
      · exact Or.inl h
      · exact Or.inr h
    · have := hi.2.2.2.1
      rw [show rs_g g (.inr (.inr (_, s_close g th))) 1 = g 1 from hlow 1 (by decide) (by decide)]
      exact this
    · show 0 ≤ s_close g th x ∧ s_close g th x < 2147483648
      by_cases h0 : x = 0
      · unfold s_close
        rw [if_pos h0]
        exact hx
      · rcases hk x h0 with h | ⟨h, _⟩
        · rw [h]; exact RIV_b hi x
        · rw [h]; decide
    · have := hi.2.2.2.2.2.1
      rw [show rs_g g (.inr (.inr (_, s_close g th))) 2 = g 2 from hlow 2 (by decide) (by decide)]
      exact this
    · have := hi.2.2.2.2.2.2.1
      rw [show rs_g g (.inr (.inr (_, s_close g th))) 3 = g 3 from hlow 3 (by decide) (by decide)]
      exact this
    · have := hi.2.2.2.2.2.2.2
      rw [show rs_g g (.inr (.inr (_, s_close g th))) 4 = g 4 from hlow 4 (by decide) (by decide)]
      exact this
  · exact hi
theorem riv_get {N : Int} {g fl : Int → Int} (hi : RIV (400000 + N) g) (hN : 0 ≤ N) (hf : ∀ x, 0 ≤ fl x ∧ fl x < 2147483648) {t th : Int} (ht : 0 ≤ t ∧ t < 8) (hth : 0 ≤ th ∧ th ≤ 3) (hden : ¬ 0 < (m_den g t th).1) : RIV N (m_get g th 8 t 0 (g, fl)).2.1 ∧ 0 ≤ (m_get g th 8 t 0 (g, fl)).1 ∧ (m_get g th 8 t 0 (g, fl)).1 < (m_get g th 8 t 0 (g, fl)).2.1 1 ∧ g 1 ≤ (m_get g th 8 t 0 (g, fl)).2.1 1 := by
  obtain ⟨⟨⟨r, hr, hr8⟩, htw, hsw, htm, hzn, hhn, hsc⟩, hox, hgi⟩ := id hi
  have hd0 := m_den_0 hden
  have hur := m_stands_r hsw ht
  have h60c : (m_get g th 8 t 0 (g, fl)).2.1 1 ≤ 60 := by rw [get_made htw hsw hox.1 ht hd0.1]; exact hd0.2
  have h1 := get_inv htw hsw htm hth 8 t 0 N (g, fl) ht.1 ht.2 hN (GI_le hgi (by have : (5 : Int) ^ 8 = 390625 := by decide
                                                                                 omega)) hf h60c
  have h2 := get_ox (th := th) hr htw hsw 8 t 0 (g, fl) ht.1 ht.2 (by decide) (hr8 _ hur.1 hur.2) hox h60c
  exact ⟨⟨TI_te h1.1.1 hi.1, h2.1, GI_self h1.1⟩, h2.2.1, h2.2.2.1, h2.2.2.2.1⟩
theorem riv_make {N : Int} {g fl : Int → Int} (hi : RIV (400000 + N) g) (hN : 0 ≤ N) (hf : ∀ x, 0 ≤ fl x ∧ fl x < 2147483648) (t th : Int) : RIV N (rs_g g (A_make g fl t th)) := by
  unfold A_make
  split
  · exact RIV_le hi (by omega)
  · next hno =>
    split
    · exact RIV_le hi (by omega)
    · next hden =>
      have hz := c_op_ok hno
      exact (riv_get hi hN hf (by omega) hz.2.2 hden).1
theorem riv_touch {N : Int} {g fl : Int → Int} (hi : RIV (400000 + N) g) (hN : 0 ≤ N) (hf : ∀ x, 0 ≤ fl x ∧ fl x < 2147483648) (o q th : Int) : RIV N (rs_g g (A_tch g fl o q th)) := by
  unfold A_tch
  split
  · exact RIV_le hi (by omega)
  · next hno =>
    split
    · exact RIV_le hi (by omega)
    · split
      · exact RIV_le hi (by omega)
      · next hden =>
        have hz := c_tch_ok hno
        have hy := m_noneed_ok hz.1
        have hob := hi.2.1.2.1 o (by omega) (by omega)
        have hq3 : q < 3 := by have := hob.2.1; omega
        have hk := hob.2.2 q hy.2.2.1 hq3
        obtain ⟨h1, h2, h3, h4⟩ := riv_get hi hN hf hk.1 hz.2.2 hden
        generalize m_get g th 8 (m_thing g o (4 + q)) 0 (g, fl) = Z at h1 h2 h3 h4 ⊢
        have hg1 := h1.2.2.2.1
        show RIV N (ui Z.2.1 (61 + 10 * o + (7 + q)) (Z.1 + 1))
        have hl : ∀ x, x < 61 → ui Z.2.1 (61 + 10 * o + (7 + q)) (Z.1 + 1) x = Z.2.1 x := fun x hx => ui_n (by omega)
        refine ⟨TI_te (te_ui (TE_rf _) (by omega)) h1.1, ⟨?_, fun k k0 k1 => ?_, fun x x0 x1 => ?_⟩, TE_rf _, ?_, ui_b (RIV_b h1) (by omega), ?_, ?_, ?_⟩
        · rw [hl 1 (by decide)]; exact h1.2.1.1
        · rw [hl 1 (by decide)] at k1 ⊢
          have hok := h1.2.1.2.1 k k0 k1
          obtain ⟨a1, a2, a3⟩ := hok
          unfold OR m_thing at *
          refine ⟨by rw [ui_n (by omega)]; exact a1, by rw [ui_n (by omega)]; exact a2, fun j j0 j3 => ⟨by rw [ui_n (by omega)]; exact (a3 j j0 j3).1, ?_⟩⟩
          by_cases he : 61 + 10 * k + (7 + j) = 61 + 10 * o + (7 + q)
          · rw [he, ui_s]
            omega
          · rw [ui_n he]
            exact (a3 j j0 j3).2
        · rw [hl 1 (by decide)] at x0
          rw [ui_n (by omega)]
          exact h1.2.1.2.2 x x0 x1
        · rw [hl 1 (by decide)]; exact hg1
        · rw [hl 2 (by decide)]; exact h1.2.2.2.2.2.1
        · rw [hl 3 (by decide)]; exact h1.2.2.2.2.2.2.1
        · rw [hl 4 (by decide)]; exact h1.2.2.2.2.2.2.2
/-- every command keeps it -/
theorem riv_res {N : Int} {g fl : Int → Int} (hi : RIV (400000 + N) g) (hN : 0 ≤ N) (hf : ∀ x, 0 ≤ fl x ∧ fl x < 2147483648) (k a b c : Int) : RIV N (rs_g g (D_res g fl k a b c)) := by
  have h := RIV_le hi (show N ≤ 400000 + N by omega)
  unfold D_res
  split
  · exact riv_def h _ _ _
  · split
    · exact riv_drop h _
    · split
      · exact riv_add h _ _ _
      · split
        · exact riv_add h _ _ _
        · split
          · exact riv_rem h _ _
          · split
            · exact riv_repl h _ _
            · split
              · exact riv_back h _
              · split
                · exact riv_open h
                · split
                  · exact riv_close h _
                  · split
                    · exact riv_make hi hN hf _ _
                    · exact riv_touch hi hN hf _ _ _
