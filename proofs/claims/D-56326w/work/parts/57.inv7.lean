/-! ===== what was in the fills before is never read ===== -/
theorem get_keep {G : Int → Int} {th : Int} (htw : TW G) (hsw : SwOK G) : ∀ (d : Nat) (t dp : Int) (s : (Int → Int) × (Int → Int)) (x : Int), 0 ≤ t → t < 8 → x < 3 * dp → (m_get G th d t dp s).2.2 x = s.2 x := by
  intro d
  induction d with
  | zero => intro t dp s x _ _ _; rfl
  | succ d ih =>
    intro t dp s x t1 t2 hx
    rw [m_get_s]
    have hu := m_stands_r hsw ⟨t1, t2⟩
    have hn := htw _ hu.1 hu.2
    split
    · rfl
    · have key := itI_inv2 (F := m_getF G th d (m_stands G t) dp) (s := (ui s.1 2 (s.1 2 + 1), s.2)) (fun k q => q.2 x = s.2 x) rfl (n := m_of G (m_stands G t) 2) hn.1 (fun k k0 kn hq => by
        have hnr := m_need_r G (m_stands G t) k
        by_cases hd : m_dir G (m_stands G t) k = true
        · rw [getF_pos hd]
          show ui _ _ _ x = _
          rw [ui_n (by omega), ih _ _ _ _ hnr.1 hnr.2 (by omega)]
          exact hq
        · rw [getF_neg hd]
          show ui _ _ _ x = _
          rw [ui_n (by omega)]
          exact hq)
      exact key
theorem put_fl {G g f1 f2 : Int → Int} {u th dp : Int} (h : ∀ j, 0 ≤ j → j < m_of G u 2 → f1 (3 * dp + j) = f2 (3 * dp + j)) : m_put G u th dp g f1 = m_put G u th dp g f2 := by
  funext x
  unfold m_put
  split
  · rfl
  · split
    · rfl
    · split
      · exact h _ (by omega) (by omega)
      · rfl
theorem get_fl {G : Int → Int} {th : Int} (htw : TW G) (hsw : SwOK G) : ∀ (d : Nat) (t dp : Int) (g f1 f2 : Int → Int), 0 ≤ t → t < 8 → (m_get G th d t dp (g, f1)).1 = (m_get G th d t dp (g, f2)).1 ∧ (m_get G th d t dp (g, f1)).2.1 = (m_get G th d t dp (g, f2)).2.1 := by
  intro d
  induction d with
  | zero => intro t dp g f1 f2 _ _; exact ⟨rfl, rfl⟩
  | succ d ih =>
    intro t dp g f1 f2 t1 t2
    rw [m_get_s, m_get_s]
    have hu := m_stands_r hsw ⟨t1, t2⟩
    have hn := htw _ hu.1 hu.2
    simp only
    split
    · exact ⟨rfl, rfl⟩
    · have key : ∀ n : Nat, (n : Int) ≤ m_of G (m_stands G t) 2 → (itI (m_getF G th d (m_stands G t) dp) n (ui g 2 (g 2 + 1), f1)).1 = (itI (m_getF G th d (m_stands G t) dp) n (ui g 2 (g 2 + 1), f2)).1 ∧ ∀ j, 0 ≤ j → j < (n : Int) → (itI (m_getF G th d (m_stands G t) dp) n (ui g 2 (g 2 + 1), f1)).2 (3 * dp + j) = (itI (m_getF G th d (m_stands G t) dp) n (ui g 2 (g 2 + 1), f2)).2 (3 * dp + j) := by
        intro n
        induction n with
        | zero => intro _; exact ⟨rfl, fun j a b => by omega⟩
        | succ n ihn =>
          intro hle
          obtain ⟨i1, i2⟩ := ihn (by omega)
          rw [show ((n + 1 : Nat) : Int) = (n : Int) + 1 by omega, itI_s (by omega), itI_s (by omega)]
          generalize itI (m_getF G th d (m_stands G t) dp) n (ui g 2 (g 2 + 1), f1) = Z1 at i1 i2 ⊢
          generalize itI (m_getF G th d (m_stands G t) dp) n (ui g 2 (g 2 + 1), f2) = Z2 at i1 i2 ⊢
          obtain ⟨a1, b1⟩ := Z1
          obtain ⟨a2, b2⟩ := Z2
          simp only at i1 i2
          subst i1
          have hnr := m_need_r G (m_stands G t) n
          by_cases hd : m_dir G (m_stands G t) n = true
          · rw [getF_pos hd, getF_pos hd]
            obtain ⟨e1, e2⟩ := ih (m_need G (m_stands G t) n) (dp + 1) a1 b1 b2 hnr.1 hnr.2
            refine ⟨e2, fun j j0 j1 => ?_⟩
            show ui _ _ _ (3 * dp + j) = ui _ _ _ (3 * dp + j)
            by_cases hj : j = n
            · subst hj
              rw [ui_s, ui_s, e1]
            · rw [ui_n (by omega), ui_n (by omega), get_keep htw hsw _ _ _ _ _ hnr.1 hnr.2 (by omega), get_keep htw hsw _ _ _ _ _ hnr.1 hnr.2 (by omega)]
              exact i2 j j0 (by omega)
          · rw [getF_neg hd, getF_neg hd]
            refine ⟨rfl, fun j j0 j1 => ?_⟩
            show ui _ _ _ (3 * dp + j) = ui _ _ _ (3 * dp + j)
            by_cases hj : j = n
            · subst hj
              rw [ui_s, ui_s]
            · rw [ui_n (by omega), ui_n (by omega)]
              exact i2 j j0 (by omega)
      obtain ⟨k1, k2⟩ := key (m_of G (m_stands G t) 2).toNat (by omega)
      rw [Int.toNat_of_nonneg hn.1] at k1 k2
      refine ⟨by rw [k1], ?_⟩
      show m_put _ _ _ _ _ _ = m_put _ _ _ _ _ _
      rw [k1]
      exact put_fl k2
theorem make_fl {g : Int → Int} (htw : TW g) (hsw : SwOK g) (f1 f2 : Int → Int) (t th : Int) : A_make g f1 t th = A_make g f2 t th := by
  unfold A_make
  split
  · rfl
  · next hno =>
    have hz := c_op_ok hno
    obtain ⟨e1, e2⟩ := get_fl (th := th) htw hsw 8 (t - 97) 0 g f1 f2 (by omega) (by omega)
    rw [e1, e2]
theorem tch_fl {g : Int → Int} (htw : TW g) (hsw : SwOK g) (how : OX g) (f1 f2 : Int → Int) (o q th : Int) : A_tch g f1 o q th = A_tch g f2 o q th := by
  unfold A_tch
  split
  · rfl
  · next hno =>
    have hz := c_tch_ok hno
    have hy := m_noneed_ok hz.1
    have hob := how.2.1 o (by omega) (by omega)
    have hk := hob.2.2 q hy.2.2.1 (by have := hob.2.1; omega)
    obtain ⟨e1, e2⟩ := get_fl (th := th) htw hsw 8 (m_thing g o (4 + q)) 0 g f1 f2 hk.1.1 hk.1.2
    rw [e1, e2]
theorem D_fl {N : Int} {g : Int → Int} (hi : RIV N g) (f1 f2 : Int → Int) (k a b c : Int) : D_res g f1 k a b c = D_res g f2 k a b c := by
  unfold D_res
  rw [make_fl hi.1.2.1 hi.1.2.2.1 f1 f2, tch_fl hi.1.2.1 hi.1.2.2.1 hi.2.1 f1 f2]
