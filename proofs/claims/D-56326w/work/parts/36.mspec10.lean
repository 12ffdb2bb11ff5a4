/-! ===== the reference in plain words, 7: what is counted is what is got ===== -/
theorem cnt_ms {g : Int → Int} {th : Int} : ∀ (d : Nat) (t : Int) (s : (Int → Bool) × Int), 0 ≤ s.2 → (m_cnt g th d t s).2.2 = s.2 := by
  intro d
  induction d with
  | zero => intro t s _; rfl
  | succ d ih =>
    intro t s h
    rw [m_cnt_s]
    split
    · exact if_neg (by omega)
    · split
      · rfl
      · have key : ∀ n : Nat, (itN (m_cntF g th d (m_stands g t)) n (1, s)).2.2 = s.2 := by
          intro n
          induction n with
          | zero => rfl
          | succ n ihn =>
            show (m_cntF g th d (m_stands g t) n (itN (m_cntF g th d (m_stands g t)) n (1, s))).2.2 = s.2
            unfold m_cntF at ihn ⊢
            split
            · have := ih (m_need g (m_stands g t) n) (itN (m_cntF g th d (m_stands g t)) n (1, s)).2 (by unfold m_cntF; omega)
              unfold m_cntF at this
              exact this.trans ihn
            · exact ihn
        exact key _
theorem cntF_ms {g : Int → Int} {th : Int} {d : Nat} {u : Int} {k : Int} {q : CN} (h : 0 ≤ q.2.2) : (m_cntF g th d u k q).2.2 = q.2.2 := by
  unfold m_cntF
  split
  · exact cnt_ms d _ q.2 h
  · rfl
theorem itI_ms {g : Int → Int} {th : Int} {d : Nat} {u : Int} {s : CN} {k n : Int} (h0 : 0 ≤ k) (hk : k ≤ n) (h : (itI (m_cntF g th d u) n s).2.2 < 0) : (itI (m_cntF g th d u) k s).2.2 < 0 := by
  obtain ⟨a, rfl⟩ := Int.eq_ofNat_of_zero_le h0
  obtain ⟨b, rfl⟩ : ∃ b : Nat, n = ((a + b : Nat) : Int) := ⟨(n - a).toNat, by omega⟩
  clear hk
  induction b with
  | zero => exact h
  | succ b ih =>
    apply ih
    apply Classical.byContradiction
    intro hc
    have h1 : (m_cntF g th d u ((a + b : Nat) : Int) (itI (m_cntF g th d u) ((a + b : Nat) : Int) s)).2.2 = _ := cntF_ms (by omega)
    have h2 : itI (m_cntF g th d u) ((a + (b + 1) : Nat) : Int) s = m_cntF g th d u ((a + b : Nat) : Int) (itI (m_cntF g th d u) ((a + b : Nat) : Int) s) := rfl
    rw [h2] at h
    omega
/-- what is there now is what was there, and what was counted -/
def RF (G : Int → Int) (th : Int) (f : Int → Bool) (g : Int → Int) : Prop := TE G g ∧ 0 ≤ g 1 ∧ (∀ v, 0 ≤ v → v < 8 → (0 ≤ m_exist g v th ↔ (0 ≤ m_exist G v th ∨ f v = true))) ∧ ∀ v, f v = true → m_of G v 0 ≠ 101
theorem fndN_congr {f h : Int → Bool} (n : Nat) (e : ∀ k : Int, 0 ≤ k → k < n → f k = h k) : fndN f n = fndN h n := by
  induction n with
  | zero => rfl
  | succ n ih => simp only [fndN, ih (fun k a b => e k a (by omega)), e n (by omega) (by omega)]
theorem exist_ui {g : Int → Int} {i w v th : Int} (hi : i = 2 ∨ i = 3 ∨ i = 4) (hv : 0 ≤ v ∧ v < 8) : m_exist (ui g i w) v th = m_exist g v th := by
  have e1 : m_of (ui g i w) v 0 = m_of g v 0 := ui_n (by omega)
  have e2 : (ui g i w) 1 = g 1 := ui_n (by omega)
  unfold m_exist
  rw [e1, e2]
  split
  · rfl
  · unfold fnd
    refine fndN_congr _ (fun k a b => ?_)
    have a1 : ∀ w2, 0 ≤ w2 → m_thing (ui g i w) k w2 = m_thing g k w2 := fun w2 h => ui_n (by omega)
    unfold m_here
    rw [a1 2 (by decide), a1 0 (by decide), a1 1 (by decide)]
theorem RF_ui {G g : Int → Int} {th : Int} {f : Int → Bool} {i w : Int} (hi : i = 2 ∨ i = 3 ∨ i = 4) (h : RF G th f g) : RF G th f (ui g i w) := by
  obtain ⟨a, b, c, d⟩ := h
  exact ⟨te_ui a (by omega), by rw [ui_n (by omega)]; exact b, fun v v1 v2 => by rw [exist_ui hi ⟨v1, v2⟩]; exact c v v1 v2, d⟩
theorem put_thing {G g f : Int → Int} {u th dp k w : Int} (h1 : 0 ≤ g 1) (hk : 0 ≤ k ∧ k < g 1) (hw : 0 ≤ w ∧ w < 10) : m_thing (m_put G u th dp g f) k w = m_thing g k w := by
  unfold m_thing m_put
  rw [if_neg (by omega), if_neg (by omega), if_neg (by omega), if_neg (by omega), if_neg (by omega), if_neg (by omega), if_neg (by omega), if_neg (by omega)]
theorem put_new {G g f : Int → Int} {u th dp : Int} (h1 : 0 ≤ g 1) (hn : 0 ≤ m_of G u 2 ∧ m_of G u 2 ≤ 3) : m_thing (m_put G u th dp g f) (g 1) 0 = u ∧ m_thing (m_put G u th dp g f) (g 1) 1 = th ∧ m_thing (m_put G u th dp g f) (g 1) 2 = 0 := by
  unfold m_thing m_put
  refine ⟨?_, ?_, ?_⟩
  · rw [if_neg (by omega), if_neg (by omega), if_neg (by omega), if_neg (by omega), if_neg (by omega), if_neg (by omega), if_neg (by omega), if_pos (by omega)]
  · rw [if_neg (by omega), if_neg (by omega), if_neg (by omega), if_neg (by omega), if_neg (by omega), if_neg (by omega), if_pos (by omega)]
  · rw [if_neg (by omega), if_neg (by omega), if_neg (by omega), if_neg (by omega), if_neg (by omega), if_pos (by omega)]
theorem put_of {G g f : Int → Int} {u th dp v w : Int} (h1 : 0 ≤ g 1) (hv : 0 ≤ v ∧ v < 8) (hw : 0 ≤ w ∧ w < 7) : m_of (m_put G u th dp g f) v w = m_of g v w := by
  unfold m_of m_put
  rw [if_neg (by omega), if_neg (by omega), if_neg (by omega), if_neg (by omega), if_neg (by omega), if_neg (by omega), if_neg (by omega), if_neg (by omega)]
theorem fnd_s {f : Int → Bool} {n : Int} (h : 0 ≤ n) : fnd f (n + 1) = if 0 ≤ fnd f n then fnd f n else if f n = true then n else -1 := by
  obtain ⟨k, rfl⟩ := Int.eq_ofNat_of_zero_le h
  rfl
theorem fnd_congr {f h : Int → Bool} {n : Int} (e : ∀ k : Int, 0 ≤ k → k < n → f k = h k) : fnd f n = fnd h n := by
  unfold fnd
  exact fndN_congr _ (fun k a b => e k a (by omega))
theorem put_exist {G g f : Int → Int} {u th dp v : Int} (h1 : 0 ≤ g 1) (hn : 0 ≤ m_of G u 2 ∧ m_of G u 2 ≤ 3) (hv : 0 ≤ v ∧ v < 8) (hte : TE G g) :
    0 ≤ m_exist (m_put G u th dp g f) v th ↔ (0 ≤ m_exist g v th ∨ (v = u ∧ m_of G u 0 ≠ 101)) := by
  have e1 : m_of (m_put G u th dp g f) v 0 = m_of g v 0 := put_of h1 hv (by decide)
  have e2 : m_put G u th dp g f 1 = g 1 + 1 := m_put_1
  have e3 : m_of g v 0 = m_of G v 0 := te_of hte hv (by decide)
  obtain ⟨n0, n1, n2⟩ := put_new (G := G) (g := g) (f := f) (u := u) (th := th) (dp := dp) h1 hn
  unfold m_exist
  rw [e1, e2]
  by_cases hs : m_of g v 0 = 101
  · rw [if_pos hs, if_pos hs]
    constructor
    · intro h; omega
    · rintro (h | ⟨rfl, h⟩)
      · omega
      · exact absurd (e3 ▸ hs) h
  · rw [if_neg hs, if_neg hs, fnd_s h1]
    have e4 : fnd (fun k => m_here (m_put G u th dp g f) k && (decide (m_thing (m_put G u th dp g f) k 0 = v) && (decide (m_of g v 0 = 115) || decide (m_thing (m_put G u th dp g f) k 1 = th)))) (g 1) = fnd (fun k => m_here g k && (decide (m_thing g k 0 = v) && (decide (m_of g v 0 = 115) || decide (m_thing g k 1 = th)))) (g 1) := by
      refine fnd_congr (fun k a b => ?_)
      unfold m_here
      rw [put_thing h1 ⟨a, b⟩ (by decide), put_thing h1 ⟨a, b⟩ (by decide), put_thing h1 ⟨a, b⟩ (by decide)]
    rw [e4]
    constructor
    · intro h
      split at h
      · left; assumption
      · split at h
        · rename_i h5
          right
          unfold m_here at h5
          rw [n0, n1, n2] at h5
          simp at h5
          exact ⟨h5.symm, fun hc => hs (by rw [e3, ← h5]; exact hc)⟩
        · omega
    · rintro (h | ⟨rfl, h⟩)
      · rw [if_pos h]; exact h
      · split
        · assumption
        · rw [if_pos (by unfold m_here; rw [n0, n1, n2]; simp)]
          exact h1
theorem get_cnt {G : Int → Int} {th : Int} (htw : TW G) (hsw : SwOK G) : ∀ (d : Nat) (t dp ms : Int) (f : Int → Bool) (g fl : Int → Int), 0 ≤ t → t < 8 → ms < 0 → RF G th f g → (m_cnt G th d t (f, ms)).2.2 < 0 →
    RF G th (m_cnt G th d t (f, ms)).2.1 (m_get G th d t dp (g, fl)).2.1 ∧ (m_get G th d t dp (g, fl)).2.1 1 = g 1 + (m_cnt G th d t (f, ms)).1 := by
  intro d
  induction d with
  | zero => intro t dp ms f g fl _ _ _ h _; exact ⟨h, (Int.add_zero _).symm⟩
  | succ d ih =>
    intro t dp ms f g fl t1 t2 hms hR hc
    have hu := m_stands_r hsw ⟨t1, t2⟩
    have hnn := htw _ hu.1 hu.2
    rw [m_cnt_s] at hc ⊢
    rw [m_get_s]
    by_cases hh : m_has G (m_stands G t) = false
    · rw [if_pos hh] at hc
      have hc : (if ms < 0 then m_stands G t else ms) < 0 := hc
      rw [if_pos hms] at hc
      omega
    · rw [if_neg hh] at hc ⊢
      have e0 : m_exist (ui g 2 (g 2 + 1)) (m_stands G t) th = m_exist g (m_stands G t) th := exist_ui (Or.inl rfl) hu
      show RF G th _ (if 0 ≤ m_exist (ui g 2 (g 2 + 1)) (m_stands G t) th then _ else _ : GS).2.1 ∧ (if 0 ≤ m_exist (ui g 2 (g 2 + 1)) (m_stands G t) th then _ else _ : GS).2.1 1 = _
      rw [e0]
      by_cases he : 0 ≤ m_exist G (m_stands G t) th ∨ f (m_stands G t) = true
      · rw [if_pos he, if_pos ((hR.2.2.1 _ hu.1 hu.2).mpr he)]
        refine ⟨RF_ui (Or.inr (Or.inl rfl)) (RF_ui (Or.inl rfl) hR), ?_⟩
        show ui (ui g 2 (g 2 + 1)) 3 (g 3 + 1) 1 = g 1 + 0
        rw [ui_n (by decide), ui_n (by decide)]
        omega
      · rw [if_neg he] at hc
        rw [if_neg he, if_neg (fun hx => he ((hR.2.2.1 _ hu.1 hu.2).mp hx))]
        have hc : (itI (m_cntF G th d (m_stands G t)) (m_of G (m_stands G t) 2) (1, f, ms)).2.2 < 0 := hc
        have key := itI_inv2 (F := fun k (q : CN × ((Int → Int) × (Int → Int))) => (m_cntF G th d (m_stands G t) k q.1, m_getF G th d (m_stands G t) dp k q.2)) (s := ((1, f, ms), (ui g 2 (g 2 + 1), fl)))
          (fun k q => q.1 = itI (m_cntF G th d (m_stands G t)) k (1, f, ms) ∧ q.2 = itI (m_getF G th d (m_stands G t) dp) k (ui g 2 (g 2 + 1), fl) ∧ RF G th q.1.2.1 q.2.1 ∧ q.2.1 1 = g 1 + (q.1.1 - 1))
          ⟨rfl, rfl, RF_ui (Or.inl rfl) hR, by show ui g 2 (g 2 + 1) 1 = g 1 + (1 - 1); rw [ui_n (by decide)]; omega⟩ (n := m_of G (m_stands G t) 2) hnn.1 (fun k k0 kn hq => by
            generalize itI (fun k (q : CN × ((Int → Int) × (Int → Int))) => (m_cntF G th d (m_stands G t) k q.1, m_getF G th d (m_stands G t) dp k q.2)) k ((1, f, ms), (ui g 2 (g 2 + 1), fl)) = q at hq
            obtain ⟨⟨n, f2, ms2⟩, g2, fl2⟩ := q
            obtain ⟨q1, q2, q3, q4⟩ := hq
            have q1 : (n, f2, ms2) = itI (m_cntF G th d (m_stands G t)) k (1, f, ms) := q1
            have q2 : (g2, fl2) = itI (m_getF G th d (m_stands G t) dp) k (ui g 2 (g 2 + 1), fl) := q2
            have q4 : g2 1 = g 1 + (n - 1) := q4
            have hm1 : ms2 < 0 := by
              have := itI_ms (k := k) k0 (by omega) hc
              rw [← q1] at this
              exact this
            have hm2 : (m_cntF G th d (m_stands G t) k (n, f2, ms2)).2.2 < 0 := by
              have := itI_ms (k := k + 1) (by omega) (by omega) hc
              rw [itI_s k0, ← q1] at this
              exact this
            refine ⟨?_, ?_, ?_⟩
            · show m_cntF G th d (m_stands G t) k (n, f2, ms2) = _
              rw [itI_s k0, q1]
            · show m_getF G th d (m_stands G t) dp k (g2, fl2) = _
              rw [itI_s k0, q2]
            · show RF G th (m_cntF G th d (m_stands G t) k (n, f2, ms2)).2.1 (m_getF G th d (m_stands G t) dp k (g2, fl2)).1 ∧ (m_getF G th d (m_stands G t) dp k (g2, fl2)).1 1 = g 1 + ((m_cntF G th d (m_stands G t) k (n, f2, ms2)).1 - 1)
              by_cases hd : m_dir G (m_stands G t) k = true
              · have e1 : m_cntF G th d (m_stands G t) k (n, f2, ms2) = (n + (m_cnt G th d (m_need G (m_stands G t) k) (f2, ms2)).1, (m_cnt G th d (m_need G (m_stands G t) k) (f2, ms2)).2) := if_pos hd
                rw [e1] at hm2 ⊢
                rw [getF_pos hd]
                have hnr := m_need_r G (m_stands G t) k
                obtain ⟨r1, r2⟩ := ih (m_need G (m_stands G t) k) (dp + 1) ms2 f2 g2 fl2 hnr.1 hnr.2 hm1 q3 hm2
                exact ⟨r1, by rw [r2, q4]; show g 1 + (n - 1) + _ = g 1 + (n + _ - 1); omega⟩
              · have e1 : m_cntF G th d (m_stands G t) k (n, f2, ms2) = (n, f2, ms2) := if_neg hd
                rw [e1, getF_neg hd]
                exact ⟨q3, q4⟩)
        generalize itI (fun k (q : CN × ((Int → Int) × (Int → Int))) => (m_cntF G th d (m_stands G t) k q.1, m_getF G th d (m_stands G t) dp k q.2)) (m_of G (m_stands G t) 2) ((1, f, ms), (ui g 2 (g 2 + 1), fl)) = q at key
        obtain ⟨q1, q2, q3, q4⟩ := key
        have hR2 := hR.2.2.2
        rw [← q1, ← q2]
        show RF G th (if m_of G (m_stands G t) 0 = 101 then q.1.2.1 else fun v => q.1.2.1 v || decide (v = m_stands G t)) (m_put G (m_stands G t) th dp q.2.1 q.2.2) ∧ m_put G (m_stands G t) th dp q.2.1 q.2.2 1 = g 1 + q.1.1
        rw [m_put_1]
        refine ⟨⟨fun x x1 x2 => ?_, by rw [m_put_1]; have := q3.2.1; omega, fun v v1 v2 => ?_, fun v hv => ?_⟩, by rw [q4]; omega⟩
        · have h0 := q3.2.1
          unfold m_put
          rw [if_neg (by omega), if_neg (by omega), if_neg (by omega), if_neg (by omega), if_neg (by omega), if_neg (by omega), if_neg (by omega), if_neg (by omega)]
          exact q3.1 x x1 x2
        · rw [put_exist q3.2.1 hnn ⟨v1, v2⟩ q3.1, q3.2.2.1 v v1 v2]
          split
          · rename_i hs
            constructor
            · rintro (h | ⟨rfl, h⟩)
              · exact h
              · exact absurd hs h
            · intro h; exact Or.inl h
          · rename_i hs
            rw [Bool.or_eq_true, decide_eq_true_eq]
            constructor
            · rintro ((h | h) | ⟨h, _⟩)
              · exact Or.inl h
              · exact Or.inr (Or.inl h)
              · exact Or.inr (Or.inr h)
            · rintro (h | h | h)
              · exact Or.inl (Or.inl h)
              · exact Or.inl (Or.inr h)
              · exact Or.inr ⟨h, hs⟩
        · split at hv
          · exact q3.2.2.2 v hv
          · rename_i hs
            rw [Bool.or_eq_true, decide_eq_true_eq] at hv
            rcases hv with h | h
            · exact q3.2.2.2 v h
            · rw [h]; exact hs
theorem RF_0 {G : Int → Int} {th : Int} (h : 0 ≤ G 1) : RF G th (fun _ => false) G := ⟨TE_rf G, h, fun v _ _ => ⟨fun h => Or.inl h, fun h => h.elim id (fun h => by cases h)⟩, fun v h => by cases h⟩
theorem get_made {G fl : Int → Int} {th t : Int} (htw : TW G) (hsw : SwOK G) (h1 : 0 ≤ G 1) (ht : 0 ≤ t ∧ t < 8) (hm : (m_dues G t th).2.2 < 0) : (m_get G th 8 t 0 (G, fl)).2.1 1 = G 1 + (m_dues G t th).1 :=
  (get_cnt htw hsw 8 t 0 (-1) (fun _ => false) G fl ht.1 ht.2 (by decide) (RF_0 h1) hm).2
