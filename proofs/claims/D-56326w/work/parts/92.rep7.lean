/-! ===== a tool got, or refused ===== -/
noncomputable def A_gor (g fl : Int → Int) (t th : Int) : Res := if 0 < (m_den g t th).1 then .inr (.inl (m_den g t th)) else .inr (.inr ((m_get g th 8 t 0 (g, fl)).1, (m_get g th 8 t 0 (g, fl)).2.1))
theorem RF_rf {g : Int → Int} {th : Int} (h : 0 ≤ g 1) : RF g th (fun _ => false) g := ⟨TE_rf g, h, fun v _ _ => ⟨Or.inl, fun h => h.elim id (fun h => absurd h Bool.false_ne_true)⟩, fun v h => absurd h Bool.false_ne_true⟩
theorem gor_mis {g fl : Int → Int} {t th : Int} (h : 0 ≤ (m_dues g t th).2.2) : A_gor g fl t th = .inr (.inl (5, (m_dues g t th).2.2)) := by
  have e : m_den g t th = (5, (m_dues g t th).2.2) := if_pos h
  unfold A_gor
  rw [e, if_pos (show (0 : Int) < 5 by decide)]
theorem gor_many {g fl : Int → Int} {t th : Int} (h : ¬ 0 ≤ (m_dues g t th).2.2) (h2 : 60 < g 1 + (m_dues g t th).1) : A_gor g fl t th = .inr (.inl (6, 60)) := by
  have e : m_den g t th = (6, 60) := by
    unfold m_den
    rw [if_neg h, if_pos h2]
  unfold A_gor
  rw [e, if_pos (show (0 : Int) < 6 by decide)]
theorem gor_ok {g fl : Int → Int} {t th : Int} (h : ¬ 0 ≤ (m_dues g t th).2.2) (h2 : ¬ 60 < g 1 + (m_dues g t th).1) : A_gor g fl t th = .inr (.inr ((m_get g th 8 t 0 (g, fl)).1, (m_get g th 8 t 0 (g, fl)).2.1)) := by
  have e : m_den g t th = (0, 0) := by
    unfold m_den
    rw [if_neg h, if_neg h2]
  unfold A_gor
  rw [e, if_neg (show ¬ (0 : Int) < 0 by decide)]
theorem get_te {g fl : Int → Int} {t th : Int} (htw : TW g) (hsw : SwOK g) (h1 : 0 ≤ g 1) (ht : 0 ≤ t ∧ t < 8) (hm : (m_dues g t th).2.2 < 0) : TE g (m_get g th 8 t 0 (g, fl)).2.1 :=
  (get_cnt htw hsw 8 t 0 (-1) (fun _ => false) g fl ht.1 ht.2 (by decide) (RF_rf h1) hm).1.1
theorem make_gor {g fl : Int → Int} {t th : Int} (h : ¬ 0 < c_op g t th) : A_make g fl t th = A_gor g fl (t - 97) th := by
  unfold A_make A_gor
  rw [if_neg h]
theorem gor_fl {g : Int → Int} (htw : TW g) (hsw : SwOK g) {t th : Int} (ht : 0 ≤ t ∧ t < 8) (f1 f2 : Int → Int) : A_gor g f1 t th = A_gor g f2 t th := by
  obtain ⟨e1, e2⟩ := get_fl (th := th) htw hsw 8 t 0 g f1 f2 ht.1 ht.2
  unfold A_gor
  rw [e1, e2]
theorem SR_fill {g : Int → Int} {sc : Nat → Int} {ar : Nat → Int → Int} (h : SR g sc ar) {o p v : Int} (ho : 0 ≤ o) (hp : 0 ≤ p ∧ p < 3) : SR (ui g (61 + 10 * o + (7 + p)) (v + 1)) sc (ua ar 15 (ui (ar 15) (3 * o + p) v)) := by
  obtain ⟨hb, hy, ⟨h1, h2, h3⟩, hd⟩ := h
  have e : ∀ x, x < 61 → ui g (61 + 10 * o + (7 + p)) (v + 1) x = g x := fun x hx => ui_n (by omega)
  generalize hG : ui g (61 + 10 * o + (7 + p)) (v + 1) = G at e ⊢
  have em : ∀ t w, 0 ≤ t → t < 8 → 0 ≤ w → w < 7 → m_of G t w = m_of g t w := fun t w a b c d => e _ (by omega)
  refine ⟨fun t t0 t8 => ?_, hy, ⟨by rw [e 1 (by decide), e 2 (by decide), e 3 (by decide), e 4 (by decide)]; exact h1, fun k k0 k4 => ?_, fun k k0 k1 => ?_⟩, hd⟩
  · have hh : m_has G t = m_has g t := by unfold m_has; rw [em t 0 t0 t8 (by decide) (by decide)]
    have := hb t t0 t8
    rw [hh, em t 6 t0 t8 (by decide) (by decide), em t 0 t0 t8 (by decide) (by decide), em t 1 t0 t8 (by decide) (by decide), em t 2 t0 t8 (by decide) (by decide)]
    refine ⟨this.1, this.2.1, fun q => ?_⟩
    obtain ⟨a, b, c, d⟩ := this.2.2 q
    refine ⟨a, b, c, fun k k0 k3 kn => ?_⟩
    unfold m_need m_dir
    rw [em t _ t0 t8 (by omega) (by omega)]
    exact d k k0 k3 kn
  · unfold m_opened
    rw [e 0 (by decide)]
    exact h2 k k0 k4
  · rw [e 1 (by decide)] at k1
    have := h3 k k0 k1
    have et : ∀ w, 0 ≤ w → w < 7 → m_thing G k w = m_thing g k w := fun w a b => by rw [← hG]; exact ui_n (by omega)
    unfold m_here
    rw [et 0 (by decide) (by decide), et 1 (by decide) (by decide), et 2 (by decide) (by decide), et 3 (by decide) (by decide)]
    refine ⟨this.1, this.2.1, this.2.2.1, this.2.2.2.1, fun j j0 j3 jn => ?_⟩
    have h9 := this.2.2.2.2 j j0 j3 jn
    rw [et _ (by omega) (by omega)]
    refine ⟨h9.1, ?_⟩
    show ui (ar 15) (3 * o + p) v (3 * k + j) = m_thing G k (7 + j) - 1
    rw [← hG]
    unfold m_thing
    by_cases hq : k = o ∧ j = p
    · rw [hq.1, hq.2, ui_s, ui_s]
      omega
    · rw [ui_n (by omega), ui_n (by omega)]
      exact h9.2
theorem gor_inl {g fl : Int → Int} {t th c : Int} : A_gor g fl t th ≠ .inl c := by
  unfold A_gor
  split <;> exact fun h => by cases h
theorem XC1_gor {nm : Int → String} {g fl : Int → Int} {t th : Int} {En : String} {z : Option (Nat × List Value)} (h : XC1 (fun _ => "") (A_gor g fl t th) En z) : XC1 nm (A_gor g fl t th) En z := by
  rcases h with ⟨c, h, _⟩ | h
  · exact absurd h gor_inl
  · exact Or.inr h
theorem noneed_ok {g : Int → Int} {k p : Int} (h : m_noneed g k p = false) : (0 ≤ k ∧ k < g 1) ∧ 0 ≤ p ∧ p < m_thing g k 3 := by
  unfold m_noneed m_isobj at h
  rw [Bool.or_eq_false_iff] at h
  obtain ⟨h1, h2⟩ := h
  rw [Bool.not_eq_false'] at h1 h2
  rw [Bool.and_eq_true] at h1
  have a := of_decide_eq_true h1.1
  have b := of_decide_eq_true h2
  omega
theorem tch_ref {g fl : Int → Int} {o p th : Int} {w : Int × Int} (h0 : ¬ 0 < c_tch g o p th) (h7 : ¬ 0 < m_thing g o (7 + p)) (h : A_gor g fl (m_thing g o (4 + p)) th = .inr (.inl w)) : A_tch g fl o p th = .inr (.inl w) := by
  unfold A_tch
  rw [if_neg h0, if_neg h7]
  unfold A_gor at h
  split at h
  · next hq => rw [if_pos hq]; exact h
  · next hq => cases h
theorem tch_ok {g fl : Int → Int} {o p th : Int} {w : Int × (Int → Int)} (h0 : ¬ 0 < c_tch g o p th) (h7 : ¬ 0 < m_thing g o (7 + p)) (h : A_gor g fl (m_thing g o (4 + p)) th = .inr (.inr w)) : A_tch g fl o p th = .inr (.inr (w.1, ui w.2 (61 + 10 * o + (7 + p)) (w.1 + 1))) := by
  unfold A_tch
  rw [if_neg h0, if_neg h7]
  unfold A_gor at h
  split at h
  · next hq => cases h
  · next hq =>
    cases h
    rw [if_neg hq]
theorem XC1_tch {nm : Int → String} {g fl : Int → Int} {o p th : Int} {En : String} {z : Option (Nat × List Value)} (h0 : ¬ 0 < c_tch g o p th) (h7 : ¬ 0 < m_thing g o (7 + p)) (h : XC1 (fun _ => "") (A_gor g fl (m_thing g o (4 + p)) th) En z) : XC1 nm (A_tch g fl o p th) En z := by
  rcases h with ⟨c, h, _⟩ | ⟨w, h, h2, h3⟩
  · exact absurd h gor_inl
  · exact Or.inr ⟨w, tch_ref h0 h7 h, h2, h3⟩
