/-! ===== states while objects are got ===== -/
theorem OY.pl {g : Int → Int} (h : OY g) : ∀ k, 0 ≤ k → k < g 1 → 0 ≤ m_thing g k 1 ∧ m_thing g k 1 < 2147483648 := fun k a b => (h.2.2 k a b).2.2.2
theorem OZ_congr {g g2 : Int → Int} {n n2 k : Int} (hn : n ≤ n2) (h : ∀ w, 0 ≤ w → w < 10 → w ≠ 2 → m_thing g2 k w = m_thing g k w) (ho : OZ g n k) : OZ g2 n2 k := by
  obtain ⟨a, b, c, d⟩ := ho
  refine ⟨by rw [h 0 (by decide) (by decide) (by decide)]; exact a, by rw [h 3 (by decide) (by decide) (by decide)]; exact b, fun j j0 j3 jn => ?_, by rw [h 1 (by decide) (by decide) (by decide)]; exact d⟩
  rw [h 3 (by decide) (by decide) (by decide)] at jn
  rw [h (4 + j) (by omega) (by omega) (by omega), h (7 + j) (by omega) (by omega) (by omega)]
  have := c j j0 j3 jn
  exact ⟨this.1, this.2.1, by omega⟩
theorem OY_ui {g : Int → Int} {i v : Int} (hi : i < 61 ∧ i ≠ 1) (h : OY g) : OY (ui g i v) := by
  obtain ⟨a, b, c⟩ := h
  have e : (ui g i v) 1 = g 1 := ui_n (by omega)
  refine ⟨by rw [e]; exact a, by rw [e]; exact b, fun k k0 k1 => ?_⟩
  rw [e] at k1 ⊢
  exact OZ_congr (Int.le_refl _) (fun w w0 w1 _ => ui_n (by omega)) (c k k0 k1)
theorem OY_put {G g f : Int → Int} {u th dp : Int} (hu : 0 ≤ u ∧ u < 8) (hm : 0 ≤ m_of G u 2 ∧ m_of G u 2 ≤ 3) (hth : 0 ≤ th ∧ th ≤ 3) (h160 : g 1 + 1 ≤ 160) (ho : OY g) (hf : ∀ j, 0 ≤ j → j < m_of G u 2 → 0 ≤ f (3 * dp + j) ∧ f (3 * dp + j) ≤ g 1) : OY (m_put G u th dp g f) := by
  obtain ⟨a, b, c⟩ := ho
  have e1 : m_put G u th dp g f 1 = g 1 + 1 := m_put_1
  refine ⟨by omega, by omega, fun k k0 k1 => ?_⟩
  rw [e1] at k1 ⊢
  by_cases hk : k = g 1
  · subst hk
    have e3 : m_thing (m_put G u th dp g f) (g 1) 3 = m_of G u 2 := by
      rw [putx_of hm a (by decide), if_neg (by omega), if_neg (by omega), if_pos rfl]
    refine ⟨?_, by rw [e3]; exact hm, fun j j0 j3 jn => ⟨?_, ?_⟩, ?_⟩
    · rw [putx_of hm a (by decide), if_neg (by omega), if_neg (by omega), if_neg (by decide), if_neg (by decide), if_neg (by decide), if_pos rfl]
      exact hu
    · rw [e3] at jn
      rw [putx_of hm a (by omega), if_neg (by omega), if_pos (by omega)]
      exact m_need_r G u _
    · rw [e3] at jn
      rw [putx_of hm a (by omega), if_pos (by omega), show 7 + j - 7 = j by omega]
      have := hf j j0 jn
      omega
    · rw [putx_of hm a (by decide), if_neg (by omega), if_neg (by omega), if_neg (by decide), if_neg (by decide), if_pos rfl]
      omega
  · exact OZ_congr (by omega) (fun w w0 w1 _ => put_on hm (by omega) a (by omega)) (c k k0 (by omega))
theorem m_exist_lt {g : Int → Int} (h : 0 ≤ g 1) {t th : Int} (hex : 0 ≤ m_exist g t th) : m_exist g t th < g 1 := by
  unfold m_exist at hex ⊢
  split
  · next h => rw [if_pos h] at hex; omega
  · next h2 =>
    rw [if_neg h2] at hex
    have h3 := fnd_spec (fun k => m_here g k && (decide (m_thing g k 0 = t) && (decide (m_of g t 0 = 115) || decide (m_thing g k 1 = th)))) (n := g 1) h
    omega
theorem get_oy {G : Int → Int} {th : Int} {r : Int → Nat} (hr : RK G r) (htw : TW G) (hsw : SwOK G) (hth : 0 ≤ th ∧ th ≤ 3) : ∀ (d : Nat) (t dp : Int) (s : (Int → Int) × (Int → Int)), 0 ≤ t → t < 8 → 0 ≤ dp → r (m_stands G t) < d → OY s.1 → (m_get G th d t dp s).2.1 1 ≤ 160 →
    OY (m_get G th d t dp s).2.1 ∧ 0 ≤ (m_get G th d t dp s).1 ∧ (m_get G th d t dp s).1 < (m_get G th d t dp s).2.1 1 ∧ s.1 1 ≤ (m_get G th d t dp s).2.1 1 := by
  intro d
  induction d with
  | zero => intro t dp s _ _ _ h; exact absurd h (Nat.not_lt_zero _)
  | succ d ih =>
    intro t dp s t1 t2 hdp hrk hs h3
    have hmono := get_mono G th (d + 1) t dp s
    rw [m_get_s] at h3 hmono ⊢
    have hu := m_stands_r hsw ⟨t1, t2⟩
    have e21 : (ui s.1 2 (s.1 2 + 1)) 1 = s.1 1 := ui_n (by decide)
    have g1 : OY (ui s.1 2 (s.1 2 + 1)) := OY_ui (by decide) hs
    split
    · rename_i hex
      have hlt := m_exist_lt g1.1 hex
      have e31 : (ui (ui s.1 2 (s.1 2 + 1)) 3 (s.1 3 + 1)) 1 = s.1 1 := by rw [ui_n (by decide), e21]
      refine ⟨OY_ui (by decide) g1, hex, ?_, ?_⟩
      · show _ < (ui (ui s.1 2 (s.1 2 + 1)) 3 (s.1 3 + 1)) 1
        omega
      · show _ ≤ (ui (ui s.1 2 (s.1 2 + 1)) 3 (s.1 3 + 1)) 1
        omega
    · rename_i hex
      rw [if_neg hex] at h3 hmono
      have hn := htw _ hu.1 hu.2
      have h5 : (itI (m_getF G th d (m_stands G t) dp) (m_of G (m_stands G t) 2) (ui s.1 2 (s.1 2 + 1), s.2)).1 1 + 1 ≤ 160 := by
        have h4 : m_put G (m_stands G t) th dp (itI (m_getF G th d (m_stands G t) dp) (m_of G (m_stands G t) 2) (ui s.1 2 (s.1 2 + 1), s.2)).1 (itI (m_getF G th d (m_stands G t) dp) (m_of G (m_stands G t) 2) (ui s.1 2 (s.1 2 + 1), s.2)).2 1 ≤ 160 := h3
        rw [m_put_1] at h4
        exact h4
      have key := itI_inv2 (F := m_getF G th d (m_stands G t) dp) (s := (ui s.1 2 (s.1 2 + 1), s.2)) (fun k q => OY q.1 ∧ s.1 1 ≤ q.1 1 ∧ (∀ j, 0 ≤ j → j < k → 0 ≤ q.2 (3 * dp + j) ∧ q.2 (3 * dp + j) ≤ q.1 1)) ⟨g1, by show _ ≤ (ui s.1 2 (s.1 2 + 1)) 1; omega, fun j j0 j1 => by omega⟩ (n := m_of G (m_stands G t) 2) hn.1 (fun k k0 kn hq => by
        obtain ⟨q1, q2, q3⟩ := hq
        have hm := itI_mono (F := m_getF G th d (m_stands G t) dp) (fun q => q.1 1) (getF_mono G th d (m_stands G t) dp) (ui s.1 2 (s.1 2 + 1), s.2) (k := k + 1) (n := m_of G (m_stands G t) 2) (by omega) (by omega)
        rw [itI_s k0] at hm
        by_cases hd : m_dir G (m_stands G t) k = true
        · rw [getF_pos hd] at hm ⊢
          have hnr := m_need_r G (m_stands G t) k
          have hrk2 := hr (m_stands G t) k hu.1 hu.2 k0 kn hd
          obtain ⟨r1, r2, r3, r4⟩ := ih (m_need G (m_stands G t) k) (dp + 1) _ hnr.1 hnr.2 (by omega) (by omega) q1 (Int.le_trans hm (by omega))
          refine ⟨r1, Int.le_trans q2 r4, fun j j0 j1 => ?_⟩
          show 0 ≤ ui _ _ _ (3 * dp + j) ∧ ui _ _ _ (3 * dp + j) ≤ _
          by_cases hj : j = k
          · subst hj
            rw [ui_s]
            exact ⟨by omega, Int.add_one_le_iff.mpr r3⟩
          · rw [ui_n (by omega), get_keep htw hsw d _ _ _ _ hnr.1 hnr.2 (by omega)]
            have := q3 j j0 (by omega)
            exact ⟨this.1, Int.le_trans this.2 r4⟩
        · rw [getF_neg hd]
          refine ⟨q1, q2, fun j j0 j1 => ?_⟩
          show 0 ≤ ui _ _ _ (3 * dp + j) ∧ ui _ _ _ (3 * dp + j) ≤ _
          by_cases hj : j = k
          · subst hj
            rw [ui_s]
            exact ⟨Int.le_refl 0, q1.1⟩
          · rw [ui_n (by omega)]
            exact q3 j j0 (by omega))
      obtain ⟨k1, k2, k3⟩ := key
      generalize (itI (m_getF G th d (m_stands G t) dp) (m_of G (m_stands G t) 2) (ui s.1 2 (s.1 2 + 1), s.2)) = Z at k1 k2 k3 h5 ⊢
      have e1 : m_put G (m_stands G t) th dp Z.1 Z.2 1 = Z.1 1 + 1 := m_put_1
      refine ⟨OY_put hu hn hth h5 k1 k3, k1.1, ?_, ?_⟩
      · show Z.1 1 < m_put G (m_stands G t) th dp Z.1 Z.2 1
        omega
      · show s.1 1 ≤ m_put G (m_stands G t) th dp Z.1 Z.2 1
        omega
/-! the book by another row with the same tools -/
theorem te_has {G g : Int → Int} (h : TE G g) {t : Int} (ht : 0 ≤ t ∧ t < 8) : m_has g t = m_has G t := by
  unfold m_has
  rw [te_of h ht (by decide)]
theorem BR_te {G g : Int → Int} {ar : Nat → Int → Int} (h : TE G g) (hb : BR G ar) : BR g ar := by
  intro t t0 t8
  obtain ⟨a, b, c⟩ := hb t t0 t8
  rw [te_has h ⟨t0, t8⟩, te_of h ⟨t0, t8⟩ (by decide), te_of h ⟨t0, t8⟩ (by decide), te_of h ⟨t0, t8⟩ (by decide), te_of h ⟨t0, t8⟩ (by decide)]
  refine ⟨a, b, fun hh => ?_⟩
  obtain ⟨c1, c2, c3, c4⟩ := c hh
  refine ⟨c1, c2, c3, fun k k0 k3 kn => ?_⟩
  rw [te_need h ⟨t0, t8⟩ ⟨k0, k3⟩, te_dir h ⟨t0, t8⟩ ⟨k0, k3⟩]
  exact c4 k k0 k3 kn
theorem SC_te {G g : Int → Int} (h : TE G g) (hs : SC G) : SC g := fun t a b => by rw [te_of h ⟨a, b⟩ (by decide)]; exact hs t a b
/-- the state while objects are got: G the row that says the book, g the row, f what fills the needs on the way, dp how deep -/
def SG (G g f : Int → Int) (dp : Int) (sc : Nat → Int) (ar : Nat → Int → Int) : Prop := BR G ar ∧ BY ar ∧ OJ g sc ar ∧ sc 13 = dp ∧ ∀ x, 0 ≤ x → x < 27 → ar 16 x = f x - 1
section SZX
variable {G g f : Int → Int} {dp : Int} {sc : Nat → Int} {ar : Nat → Int → Int}
theorem SG.br (h : SG G g f dp sc ar) : BR G ar := h.1
theorem SG.sq (h : SG G g f dp sc ar) (ht : TE G g) : SZ g sc ar := ⟨BR_te ht h.1, h.2.1, h.2.2.1⟩
theorem SG.n1 (h : SG G g f dp sc ar) : sc 2 = g 1 ∧ sc 9 = g 2 ∧ sc 10 = g 3 ∧ sc 11 = g 4 ∧ sc 13 = dp := ⟨h.2.2.1.1.1, h.2.2.1.1.2.1, h.2.2.1.1.2.2.1, h.2.2.1.1.2.2.2, h.2.2.2.1⟩
theorem SG.pe (h : SG G g f dp sc ar) {x : Int} (hx : 0 ≤ x ∧ x < 27) : ar 16 x = f x - 1 := h.2.2.2.2 x hx.1 hx.2
theorem SR.sg (h : SR g sc ar) : SG g g (fun x => ar 16 x + 1) 0 sc ar := ⟨h.1, h.2.1, h.2.2.1, h.2.2.2, fun x _ _ => by show ar 16 x = ar 16 x + 1 - 1; omega⟩
theorem SG.sr (h : SG G g f 0 sc ar) (ht : TE G g) : SR g sc ar := ⟨BR_te ht h.1, h.2.1, h.2.2.1, h.2.2.2.1⟩
theorem OJ_ui {g2 : Int → Int} {sc2 : Nat → Int} (h : OJ g sc ar) (h1 : sc2 2 = g2 1 ∧ sc2 9 = g2 2 ∧ sc2 10 = g2 3 ∧ sc2 11 = g2 4) (h0 : g2 0 = g 0) (e1 : g2 1 = g 1) (hx : ∀ x, 61 ≤ x → g2 x = g x) : OJ g2 sc2 ar := by
  obtain ⟨a, b, c⟩ := h
  have e : ∀ k w : Int, 0 ≤ k → 0 ≤ w → m_thing g2 k w = m_thing g k w := fun k w a b => hx _ (by omega)
  refine ⟨h1, fun k k0 k4 => ?_, fun k k0 k1 => ?_⟩
  · unfold m_opened
    rw [h0]
    exact b k k0 k4
  · rw [e1] at k1
    have := c k k0 k1
    unfold m_here
    rw [e k 0 k0 (by decide), e k 1 k0 (by decide), e k 2 k0 (by decide), e k 3 k0 (by decide)]
    refine ⟨this.1, this.2.1, this.2.2.1, this.2.2.2.1, fun j j0 j3 jn => ?_⟩
    rw [e k _ k0 (by omega), e k _ k0 (by omega)]
    exact this.2.2.2.2 j j0 j3 jn
theorem SG_got (h : SG G g f dp sc ar) : SG G (ui g 2 (g 2 + 1)) f dp (us sc 9 (g 2 + 1)) ar := by
  obtain ⟨a, b, c, d, e⟩ := h
  obtain ⟨c1, c2, c3, c4⟩ := c.1
  exact ⟨a, b, OJ_ui c ⟨by rw [ui_n (by decide)]; exact c1, by rw [ui_s]; rfl, by rw [ui_n (by decide)]; exact c3, by rw [ui_n (by decide)]; exact c4⟩ (ui_n (by decide)) (ui_n (by decide)) (fun x hx => ui_n (by omega)), d, e⟩
theorem SG_reused (h : SG G g f dp sc ar) : SG G (ui g 3 (g 3 + 1)) f dp (us sc 10 (g 3 + 1)) ar := by
  obtain ⟨a, b, c, d, e⟩ := h
  obtain ⟨c1, c2, c3, c4⟩ := c.1
  exact ⟨a, b, OJ_ui c ⟨by rw [ui_n (by decide)]; exact c1, by rw [ui_n (by decide)]; exact c2, by rw [ui_s]; rfl, by rw [ui_n (by decide)]; exact c4⟩ (ui_n (by decide)) (ui_n (by decide)) (fun x hx => ui_n (by omega)), d, e⟩
theorem SG_dep (h : SG G g f dp sc ar) (v : Int) : SG G g f v (us sc 13 v) ar := by
  obtain ⟨a, b, c, d, e⟩ := h
  exact ⟨a, b, ⟨c.1, c.2⟩, rfl, e⟩
theorem SG_pend (h : SG G g f dp sc ar) (i v : Int) : SG G g (ui f i (v + 1)) dp sc (ua ar 16 (ui (ar 16) i v)) := by
  obtain ⟨a, b, c, d, e⟩ := h
  refine ⟨a, b, c, d, fun x x0 x1 => ?_⟩
  show ui (ar 16) i v x = ui f i (v + 1) x - 1
  unfold ui
  split
  · omega
  · exact e x x0 x1
/-- three places of an array written anew -/
def fil3 (f : Int → Int) (n c : Int) (h : Int → Int) : Int → Int := fun x => if 3 * n ≤ x ∧ x < 3 * n + c then h (x - 3 * n) else f x
theorem SG_put {u th : Int} (h : SG G g f dp sc ar) (hm : 0 ≤ m_of G u 2 ∧ m_of G u 2 ≤ 3) (h1 : 0 ≤ g 1) (hdp : 0 ≤ dp ∧ dp ≤ 8) :
    SG G (m_put G u th dp g f) f dp (us (us sc 2 (g 1 + 1)) 11 (g 4 + m_of G u 1)) (ua (ua (ua (ua (ua (ua ar 10 (ui (ar 10) (g 1) u)) 11 (ui (ar 11) (g 1) th)) 12 (ui (ar 12) (g 1) 1)) 13 (ui (ar 13) (g 1) (m_of G u 2))) 14 (fil3 (ar 14) (g 1) (m_of G u 2) (m_need G u))) 15 (fil3 (ar 15) (g 1) (m_of G u 2) (fun x => ar 16 (3 * dp + x)))) := by
  obtain ⟨a, b, ⟨⟨c1, c2, c3, c4⟩, c5, c6⟩, d, e⟩ := h
  have e1 : m_put G u th dp g f 1 = g 1 + 1 := m_put_1
  have e0 : m_put G u th dp g f 0 = g 0 := by
    unfold m_put
    rw [if_neg (by decide), if_neg (by decide), if_neg (by omega), if_neg (by omega), if_neg (by omega), if_neg (by omega), if_neg (by omega), if_neg (by omega)]
  have e2 : m_put G u th dp g f 2 = g 2 := by
    unfold m_put
    rw [if_neg (by decide), if_neg (by decide), if_neg (by omega), if_neg (by omega), if_neg (by omega), if_neg (by omega), if_neg (by omega), if_neg (by omega)]
  have e3 : m_put G u th dp g f 3 = g 3 := by
    unfold m_put
    rw [if_neg (by decide), if_neg (by decide), if_neg (by omega), if_neg (by omega), if_neg (by omega), if_neg (by omega), if_neg (by omega), if_neg (by omega)]
  have e4 : m_put G u th dp g f 4 = g 4 + m_of G u 1 := by
    unfold m_put
    rw [if_pos rfl]
  refine ⟨a, b, ⟨⟨by rw [e1]; rfl, by rw [e2]; exact c2, by rw [e3]; exact c3, by rw [e4]; rfl⟩, fun k k0 k4 => by unfold m_opened; rw [e0]; exact c5 k k0 k4, fun k k0 k1 => ?_⟩, d, e⟩
  rw [e1] at k1
  show ui (ar 10) (g 1) u k = _ ∧ ui (ar 11) (g 1) th k = _ ∧ ui (ar 12) (g 1) 1 k = _ ∧ ui (ar 13) (g 1) (m_of G u 2) k = _ ∧ ∀ j, 0 ≤ j → j < 3 → j < m_thing (m_put G u th dp g f) k 3 → fil3 (ar 14) (g 1) (m_of G u 2) (m_need G u) (3 * k + j) = _ ∧ fil3 (ar 15) (g 1) (m_of G u 2) (fun x => ar 16 (3 * dp + x)) (3 * k + j) = _
  by_cases hk : k = g 1
  · subst hk
    rw [ui_s, ui_s, ui_s, ui_s]
    have t3 : m_thing (m_put G u th dp g f) (g 1) 3 = m_of G u 2 := by
      rw [putx_of hm h1 (by decide), if_neg (by omega), if_neg (by omega), if_pos rfl]
    obtain ⟨n0, n1, n2⟩ := put_new (G := G) (g := g) (f := f) (u := u) (th := th) (dp := dp) h1 hm
    refine ⟨n0.symm, n1.symm, by unfold m_here; rw [n2]; rfl, t3.symm, fun j j0 j3 jn => ?_⟩
    rw [t3] at jn
    unfold fil3
    rw [if_pos (by omega), if_pos (by omega), putx_of hm h1 (by omega), putx_of hm h1 (by omega), if_neg (by omega), if_pos (by omega), if_pos (by omega)]
    rw [show 3 * g 1 + j - 3 * g 1 = j by omega, show 4 + j - 4 = j by omega, show 7 + j - 7 = j by omega]
    exact ⟨rfl, e _ (by omega) (by omega)⟩
  · rw [ui_n hk, ui_n hk, ui_n hk, ui_n hk]
    have hkk : 0 ≤ k ∧ k < g 1 := by omega
    have := c6 k k0 hkk.2
    have t : ∀ w, 0 ≤ w → w < 10 → m_thing (m_put G u th dp g f) k w = m_thing g k w := fun w a b => put_thing h1 hkk ⟨a, b⟩
    unfold m_here
    rw [t 0 (by decide) (by decide), t 1 (by decide) (by decide), t 2 (by decide) (by decide), t 3 (by decide) (by decide)]
    refine ⟨this.1, this.2.1, this.2.2.1, this.2.2.2.1, fun j j0 j3 jn => ?_⟩
    rw [t _ (by omega) (by omega), t _ (by omega) (by omega)]
    unfold fil3
    rw [if_neg (by omega), if_neg (by omega)]
    exact this.2.2.2.2 j j0 j3 jn
end SZX
/-! one tool's needs, got and counted side by side -/
noncomputable abbrev GZ (G : Int → Int) (th : Int) (d : Nat) (u dp : Int) (s : (Int → Int) × (Int → Int)) (k : Int) : (Int → Int) × (Int → Int) := itI (m_getF G th d u dp) k s
noncomputable abbrev CZ (G : Int → Int) (th : Int) (d : Nat) (u : Int) (nf : Int → Bool) (k : Int) : CN := itI (m_cntF G th d u) k (1, (nf, -1))
noncomputable def m_cre (G : Int → Int) (th : Int) (d : Nat) (u dp : Int) (s : (Int → Int) × (Int → Int)) : GS := ((GZ G th d u dp s (m_of G u 2)).1 1, m_put G u th dp (GZ G th d u dp s (m_of G u 2)).1 (GZ G th d u dp s (m_of G u 2)).2, (GZ G th d u dp s (m_of G u 2)).2)
theorem m_get_c (G : Int → Int) (th : Int) (d : Nat) (t dp : Int) (s : (Int → Int) × (Int → Int)) : m_get G th (d + 1) t dp s =
    if 0 ≤ m_exist (ui s.1 2 (s.1 2 + 1)) (m_stands G t) th then (m_exist (ui s.1 2 (s.1 2 + 1)) (m_stands G t) th, ui (ui s.1 2 (s.1 2 + 1)) 3 (s.1 3 + 1), s.2)
    else m_cre G th d (m_stands G t) dp (ui s.1 2 (s.1 2 + 1), s.2) := rfl
theorem cz_r {G : Int → Int} {th : Int} {d : Nat} {u : Int} {nf : Int → Bool} (htw : TW G) (hsw : SwOK G) {n : Int} (hn : 0 ≤ n) : -1 ≤ (CZ G th d u nf n).2.2 ∧ (CZ G th d u nf n).2.2 < 8 := by
  refine itI_inv (F := m_cntF G th d u) (s := (1, (nf, -1))) (fun k q => -1 ≤ q.2.2 ∧ q.2.2 < 8) ⟨by show (-1 : Int) ≤ -1; decide, by show (-1 : Int) < 8; decide⟩ hn (fun k q k0 kn hq => ?_)
  unfold m_cntF
  split
  · have b1 := m_need_r G u k
    exact (m_cnt_r htw hsw th d (m_need G u k) q.2 b1.1 b1.2 hq.1 hq.2).2
  · exact hq
theorem cnt_eq {G : Int → Int} {th : Int} {d : Nat} {u k : Int} {q : CN} (h : -1 ≤ q.2.2) (hn : q.2.2 < 0) (hd : m_dir G u k = true) : m_cntF G th d u k q = (q.1 + (m_cnt G th d (m_need G u k) (q.2.1, -1)).1, (m_cnt G th d (m_need G u k) (q.2.1, -1)).2) := by
  unfold m_cntF
  rw [if_pos hd]
  obtain ⟨a, b, c⟩ := q
  obtain rfl : c = -1 := by simp only at h hn; omega
  rfl
theorem gz_inv {G g f : Int → Int} {th dp u : Int} {d : Nat} {r : Int → Nat} {nf : Int → Bool} (hr : RK G r) (htw : TW G) (hsw : SwOK G) (hth : 0 ≤ th ∧ th ≤ 3) (hu : 0 ≤ u ∧ u < 8) (hdp : 0 ≤ dp) (hd : r u < d + 1) (ho : OY g) (hR : RF G th nf g)
    (hno : (CZ G th d u nf (m_of G u 2)).2.2 < 0) (hfit : (GZ G th d u dp (g, f) (m_of G u 2)).1 1 ≤ 159) :
    ∀ k, 0 ≤ k → k ≤ m_of G u 2 → OY (GZ G th d u dp (g, f) k).1 ∧ RF G th (CZ G th d u nf k).2.1 (GZ G th d u dp (g, f) k).1 ∧ (CZ G th d u nf k).2.2 = -1 ∧ (k < m_of G u 2 → m_dir G u k = true → (m_cnt G th d (m_need G u k) ((CZ G th d u nf k).2.1, -1)).2.2 < 0 ∧ (m_get G th d (m_need G u k) (dp + 1) (GZ G th d u dp (g, f) k)).2.1 1 ≤ 160 ∧ r (m_stands G (m_need G u k)) < d) := by
  have hcz : ∀ k, 0 ≤ k → k ≤ m_of G u 2 → (CZ G th d u nf k).2.2 = -1 := fun k k0 kn => by
    have := itI_ms (g := G) (th := th) (d := d) (u := u) (s := (1, (nf, -1))) k0 kn hno
    have h2 := cz_r (G := G) (th := th) (d := d) (u := u) (nf := nf) htw hsw k0
    show (itI (m_cntF G th d u) k (1, (nf, -1))).2.2 = -1
    have h2 : -1 ≤ (itI (m_cntF G th d u) k (1, (nf, -1))).2.2 := h2.1
    omega
  have hfk : ∀ k, 0 ≤ k → k ≤ m_of G u 2 → (GZ G th d u dp (g, f) k).1 1 ≤ 159 := fun k k0 kn => Int.le_trans (itI_mono (F := m_getF G th d u dp) (fun q => q.1 1) (getF_mono G th d u dp) (g, f) k0 kn) hfit
  have step : ∀ k, 0 ≤ k → k < m_of G u 2 → m_dir G u k = true → (m_cnt G th d (m_need G u k) ((CZ G th d u nf k).2.1, -1)).2.2 < 0 ∧ (m_get G th d (m_need G u k) (dp + 1) (GZ G th d u dp (g, f) k)).2.1 1 ≤ 160 ∧ r (m_stands G (m_need G u k)) < d := fun k k0 kn hdir => by
    have h1 := hcz k k0 (by omega)
    have h2 := hcz (k + 1) (by omega) (by omega)
    have h3 := hfk (k + 1) (by omega) (by omega)
    have h4 := hr u k hu.1 hu.2 k0 kn hdir
    have e1 : CZ G th d u nf (k + 1) = m_cntF G th d u k (CZ G th d u nf k) := itI_s k0
    have e2 : GZ G th d u dp (g, f) (k + 1) = m_getF G th d u dp k (GZ G th d u dp (g, f) k) := itI_s k0
    rw [e1, cnt_eq (by omega) (by omega) hdir] at h2
    rw [e2, getF_pos hdir] at h3
    exact ⟨by show (m_cnt G th d (m_need G u k) ((CZ G th d u nf k).2.1, -1)).2.2 < 0; simp only at h2; omega, by simp only at h3; omega, by omega⟩
  intro k k0 kn
  have main : OY (GZ G th d u dp (g, f) k).1 ∧ RF G th (CZ G th d u nf k).2.1 (GZ G th d u dp (g, f) k).1 := by
    obtain ⟨j, rfl⟩ := Int.eq_ofNat_of_zero_le k0
    induction j with
    | zero => exact ⟨ho, hR⟩
    | succ j ih =>
      obtain ⟨i1, i2⟩ := ih (by omega) (by omega)
      have e1 : CZ G th d u nf ((j + 1 : Nat) : Int) = m_cntF G th d u (j : Int) (CZ G th d u nf (j : Int)) := rfl
      have e2 : GZ G th d u dp (g, f) ((j + 1 : Nat) : Int) = m_getF G th d u dp (j : Int) (GZ G th d u dp (g, f) (j : Int)) := rfl
      rw [e1, e2]
      by_cases hdir : m_dir G u (j : Int) = true
      · obtain ⟨s1, s2, s3⟩ := step (j : Int) (by omega) (by omega) hdir
        have h1 := hcz (j : Int) (by omega) (by omega)
        rw [cnt_eq (by omega) (by omega) hdir, getF_pos hdir]
        have hnr := m_need_r G u (j : Int)
        refine ⟨(get_oy hr htw hsw hth d _ _ _ hnr.1 hnr.2 (by omega) s3 i1 s2).1, ?_⟩
        exact (get_cnt htw hsw d _ (dp + 1) (-1) _ _ (GZ G th d u dp (g, f) (j : Int)).2 hnr.1 hnr.2 (by decide) i2 s1).1
      · rw [getF_neg hdir]
        unfold m_cntF
        rw [if_neg hdir]
        exact ⟨i1, i2⟩
  exact ⟨main.1, main.2, hcz k k0 kn, step k k0⟩
