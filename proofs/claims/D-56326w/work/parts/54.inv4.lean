/-! ===== what holds of the objects in every row ===== -/
def OR (g : Int → Int) (n k : Int) : Prop := (0 ≤ m_thing g k 0 ∧ m_thing g k 0 < 8) ∧ (0 ≤ m_thing g k 3 ∧ m_thing g k 3 ≤ 3) ∧ ∀ j, 0 ≤ j → j < 3 → (0 ≤ m_thing g k (4 + j) ∧ m_thing g k (4 + j) < 8) ∧ 0 ≤ m_thing g k (7 + j) ∧ m_thing g k (7 + j) ≤ n
def OX (g : Int → Int) : Prop := 0 ≤ g 1 ∧ (∀ k, 0 ≤ k → k < g 1 → OR g (g 1) k) ∧ ∀ x, 61 + 10 * g 1 ≤ x → x < 661 → g x = 0
theorem OX_OW {g : Int → Int} (h : OX g) (h60 : g 1 ≤ 60) : OW g := ⟨h.1, h60, h.2.1⟩
theorem OR_le {g : Int → Int} {n n2 k : Int} (h : OR g n k) (hl : n ≤ n2) : OR g n2 k := ⟨h.1, h.2.1, fun j a b => ⟨(h.2.2 j a b).1, (h.2.2 j a b).2.1, by have := (h.2.2 j a b).2.2; omega⟩⟩
theorem OR_congr {g g2 : Int → Int} {n k : Int} (h : ∀ w, 0 ≤ w → w < 10 → w ≠ 2 → m_thing g2 k w = m_thing g k w) (ho : OR g n k) : OR g2 n k := by
  obtain ⟨a, b, c⟩ := ho
  refine ⟨by rw [h 0 (by decide) (by decide) (by decide)]; exact a, by rw [h 3 (by decide) (by decide) (by decide)]; exact b, fun j j0 j3 => ?_⟩
  rw [h (4 + j) (by omega) (by omega) (by omega), h (7 + j) (by omega) (by omega) (by omega)]
  exact c j j0 j3
/-- rows with the same objects (but for those that are gone) -/
theorem OX_congr {g g2 : Int → Int} (h1 : g2 1 = g 1) (h : ∀ x, 61 ≤ x → (g2 x = g x ∨ ∃ k, 0 ≤ k ∧ k < g 1 ∧ x = 63 + 10 * k)) (ho : OX g) : OX g2 := by
  obtain ⟨a, b, c⟩ := ho
  refine ⟨by omega, fun k k0 k1 => ?_, fun x x0 x1 => ?_⟩
  · rw [h1] at k1 ⊢
    refine OR_congr (fun w w0 w1 w2 => ?_) (b k k0 k1)
    rcases h (61 + 10 * k + w) (by omega) with e | ⟨j, _, _, e⟩
    · exact e
    · omega
  · rw [h1] at x0
    rcases h x (by omega) with e | ⟨j, _, _, e⟩
    · rw [e]; exact c x x0 x1
    · omega
theorem putx_of {G g f : Int → Int} {u th dp w : Int} (hm : 0 ≤ m_of G u 2 ∧ m_of G u 2 ≤ 3) (h1 : 0 ≤ g 1) (hw : 0 ≤ w ∧ w < 10) : m_thing (m_put G u th dp g f) (g 1) w = if 7 ≤ w ∧ w < 7 + m_of G u 2 then f (3 * dp + (w - 7)) else if 4 ≤ w ∧ w < 4 + m_of G u 2 then m_need G u (w - 4) else if w = 3 then m_of G u 2 else if w = 2 then 0 else if w = 1 then th else if w = 0 then u else m_thing g (g 1) w := by
  unfold m_thing m_put
  generalize m_of G u 2 = q at hm ⊢
  generalize g 1 = n at h1 ⊢
  repeat' split
  all_goals first | rfl | omega | (congr 1; omega)
theorem put_on {G g f : Int → Int} {u th dp x : Int} (hm : 0 ≤ m_of G u 2 ∧ m_of G u 2 ≤ 3) (hx : 61 ≤ x) (h1 : 0 ≤ g 1) (hn : x < 61 + 10 * g 1 ∨ 61 + 10 * g 1 + 10 ≤ x) : m_put G u th dp g f x = g x := by
  unfold m_put
  generalize m_of G u 2 = q at hm ⊢
  rw [if_neg (by omega), if_neg (by omega), if_neg (by omega), if_neg (by omega), if_neg (by omega), if_neg (by omega), if_neg (by omega), if_neg (by omega)]
theorem OX_put {G g f : Int → Int} {u th dp : Int} (hu : 0 ≤ u ∧ u < 8) (hm : 0 ≤ m_of G u 2 ∧ m_of G u 2 ≤ 3) (h60 : g 1 + 1 ≤ 60) (ho : OX g) (hf : ∀ j, 0 ≤ j → j < m_of G u 2 → 0 ≤ f (3 * dp + j) ∧ f (3 * dp + j) ≤ g 1) : OX (m_put G u th dp g f) := by
  obtain ⟨a, b, c⟩ := ho
  have e1 : m_put G u th dp g f 1 = g 1 + 1 := m_put_1
  refine ⟨by omega, fun k k0 k1 => ?_, fun x x0 x1 => ?_⟩
  · rw [e1] at k1 ⊢
    by_cases hk : k = g 1
    · subst hk
      have hz : ∀ w, 0 ≤ w → w < 10 → m_thing g (g 1) w = 0 := fun w w0 w1 => c (61 + 10 * g 1 + w) (by omega) (by omega)
      refine ⟨?_, ?_, fun j j0 j3 => ⟨?_, ?_⟩⟩
      · rw [putx_of hm a (by decide)]
        repeat' split
        all_goals omega
      · rw [putx_of hm a (by decide)]
        repeat' split
        all_goals omega
      · rw [putx_of hm a (by omega), hz _ (by omega) (by omega)]
        have := m_need_r G u (4 + j - 4)
        repeat' split
        all_goals omega
      · rw [putx_of hm a (by omega), hz _ (by omega) (by omega)]
        by_cases h7 : j < m_of G u 2
        · have := hf j j0 h7
          rw [if_pos (by omega), show 7 + j - 7 = j by omega]
          omega
        · repeat' split
          all_goals omega
    · exact OR_congr (fun w w0 w1 _ => put_on hm (by omega) a (by omega)) (OR_le (b k k0 (by omega)) (by omega))
  · rw [e1] at x0
    rw [put_on hm (by omega) a (by omega)]
    exact c x (by omega) x1
theorem OX_ui {g : Int → Int} {i v : Int} (hi : i < 61 ∧ i ≠ 1) (ho : OX g) : OX (ui g i v) := OX_congr (ui_n (by omega)) (fun x hx => Or.inl (ui_n (by omega))) ho
theorem get_ox {G : Int → Int} {th : Int} {r : Int → Nat} (hr : RK G r) (htw : TW G) (hsw : SwOK G) : ∀ (d : Nat) (t dp : Int) (s : (Int → Int) × (Int → Int)), 0 ≤ t → t < 8 → 0 ≤ dp → r (m_stands G t) < d → OX s.1 → (m_get G th d t dp s).2.1 1 ≤ 60 →
    OX (m_get G th d t dp s).2.1 ∧ 0 ≤ (m_get G th d t dp s).1 ∧ (m_get G th d t dp s).1 < (m_get G th d t dp s).2.1 1 ∧ s.1 1 ≤ (m_get G th d t dp s).2.1 1 ∧ ∀ x, x < 3 * dp → (m_get G th d t dp s).2.2 x = s.2 x := by
  intro d
  induction d with
  | zero => intro t dp s _ _ _ h; exact absurd h (Nat.not_lt_zero _)
  | succ d ih =>
    intro t dp s t1 t2 hdp hrk hs h3
    rw [m_get_s] at h3 ⊢
    have hu := m_stands_r hsw ⟨t1, t2⟩
    have e21 : (ui s.1 2 (s.1 2 + 1)) 1 = s.1 1 := ui_n (by decide)
    have g1 : OX (ui s.1 2 (s.1 2 + 1)) := OX_ui (by decide) hs
    split
    · rename_i hex
      have hlt : m_exist (ui s.1 2 (s.1 2 + 1)) (m_stands G t) th < (ui s.1 2 (s.1 2 + 1)) 1 := by
        unfold m_exist at hex ⊢
        split
        · next h => rw [if_pos h] at hex; omega
        · next h =>
          rw [if_neg h] at hex
          have h3 := fnd_spec (fun k => m_here (ui s.1 2 (s.1 2 + 1)) k && (decide (m_thing (ui s.1 2 (s.1 2 + 1)) k 0 = m_stands G t) && (decide (m_of (ui s.1 2 (s.1 2 + 1)) (m_stands G t) 0 = 115) || decide (m_thing (ui s.1 2 (s.1 2 + 1)) k 1 = th)))) (n := (ui s.1 2 (s.1 2 + 1)) 1) g1.1
          omega
      have e31 : (ui (ui s.1 2 (s.1 2 + 1)) 3 (s.1 3 + 1)) 1 = s.1 1 := by rw [ui_n (by decide), e21]
      refine ⟨OX_ui (by decide) g1, hex, ?_, ?_, fun x _ => rfl⟩
      · show _ < (ui (ui s.1 2 (s.1 2 + 1)) 3 (s.1 3 + 1)) 1
        omega
      · show _ ≤ (ui (ui s.1 2 (s.1 2 + 1)) 3 (s.1 3 + 1)) 1
        omega
    · rename_i hex
      rw [if_neg hex] at h3
      have hn := htw _ hu.1 hu.2
      have h5 : (itI (m_getF G th d (m_stands G t) dp) (m_of G (m_stands G t) 2) (ui s.1 2 (s.1 2 + 1), s.2)).1 1 + 1 ≤ 60 := by
        have h4 : m_put G (m_stands G t) th dp (itI (m_getF G th d (m_stands G t) dp) (m_of G (m_stands G t) 2) (ui s.1 2 (s.1 2 + 1), s.2)).1 (itI (m_getF G th d (m_stands G t) dp) (m_of G (m_stands G t) 2) (ui s.1 2 (s.1 2 + 1), s.2)).2 1 ≤ 60 := h3
        rw [m_put_1] at h4
        exact h4
      have key := itI_inv2 (F := m_getF G th d (m_stands G t) dp) (s := (ui s.1 2 (s.1 2 + 1), s.2)) (fun k q => OX q.1 ∧ s.1 1 ≤ q.1 1 ∧ (∀ j, 0 ≤ j → j < k → 0 ≤ q.2 (3 * dp + j) ∧ q.2 (3 * dp + j) ≤ q.1 1) ∧ ∀ x, x < 3 * dp → q.2 x = s.2 x) ⟨g1, by show _ ≤ (ui s.1 2 (s.1 2 + 1)) 1; omega, fun j j0 j1 => by omega, fun x _ => rfl⟩ (n := m_of G (m_stands G t) 2) hn.1 (fun k k0 kn hq => by
        obtain ⟨q1, q2, q3, q4⟩ := hq
        have hm := itI_mono (F := m_getF G th d (m_stands G t) dp) (fun q => q.1 1) (getF_mono G th d (m_stands G t) dp) (ui s.1 2 (s.1 2 + 1), s.2) (k := k + 1) (n := m_of G (m_stands G t) 2) (by omega) (by omega)
        rw [itI_s k0] at hm
        by_cases hd : m_dir G (m_stands G t) k = true
        · rw [getF_pos hd] at hm ⊢
          have hnr := m_need_r G (m_stands G t) k
          have hrk2 := hr (m_stands G t) k hu.1 hu.2 k0 kn hd
          obtain ⟨r1, r2, r3, r4, r5⟩ := ih (m_need G (m_stands G t) k) (dp + 1) _ hnr.1 hnr.2 (by omega) (by omega) q1 (Int.le_trans hm (by omega))
          refine ⟨r1, Int.le_trans q2 r4, fun j j0 j1 => ?_, fun x hx => ?_⟩
          · show 0 ≤ ui _ _ _ (3 * dp + j) ∧ ui _ _ _ (3 * dp + j) ≤ _
            by_cases hj : j = k
            · subst hj
              rw [ui_s]
              exact ⟨by omega, Int.add_one_le_iff.mpr r3⟩
            · rw [ui_n (by omega), r5 _ (by omega)]
              have := q3 j j0 (by omega)
              exact ⟨this.1, Int.le_trans this.2 r4⟩
          · show ui _ _ _ x = _
            rw [ui_n (by omega), r5 x (by omega)]
            exact q4 x hx
        · rw [getF_neg hd]
          refine ⟨q1, q2, fun j j0 j1 => ?_, fun x hx => ?_⟩
          · show 0 ≤ ui _ _ _ (3 * dp + j) ∧ ui _ _ _ (3 * dp + j) ≤ _
            by_cases hj : j = k
            · subst hj
              rw [ui_s]
              exact ⟨Int.le_refl 0, q1.1⟩
            · rw [ui_n (by omega)]
              exact q3 j j0 (by omega)
          · show ui _ _ _ x = _
            rw [ui_n (by omega)]
            exact q4 x hx)
      obtain ⟨k1, k2, k3, k4⟩ := key
      generalize (itI (m_getF G th d (m_stands G t) dp) (m_of G (m_stands G t) 2) (ui s.1 2 (s.1 2 + 1), s.2)) = Z at k1 k2 k3 k4 h5 ⊢
      have hp := OX_put (th := th) (dp := dp) hu hn h5 k1 k3
      have e1 : m_put G (m_stands G t) th dp Z.1 Z.2 1 = Z.1 1 + 1 := m_put_1
      refine ⟨hp, k1.1, ?_, ?_, k4⟩
      · show Z.1 1 < m_put G (m_stands G t) th dp Z.1 Z.2 1
        omega
      · show s.1 1 ≤ m_put G (m_stands G t) th dp Z.1 Z.2 1
        omega
