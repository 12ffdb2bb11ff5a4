/-! ===== the reference in plain words, 6: objects that are got ===== -/
/-- the same tools -/
def TE (G g : Int → Int) : Prop := ∀ x, 5 ≤ x → x < 61 → g x = G x
theorem TE_rf (g : Int → Int) : TE g g := fun _ _ _ => rfl
theorem te_ui {G g : Int → Int} {i v : Int} (h : TE G g) (hi : i < 5 ∨ 61 ≤ i) : TE G (ui g i v) := fun x a b => by rw [ui_n (by omega)]; exact h x a b
theorem te_of {G g : Int → Int} (h : TE G g) {t w : Int} (ht : 0 ≤ t ∧ t < 8) (hw : 0 ≤ w ∧ w < 7) : m_of g t w = m_of G t w := h _ (by omega) (by omega)
theorem te_need {G g : Int → Int} (h : TE G g) {t k : Int} (ht : 0 ≤ t ∧ t < 8) (hk : 0 ≤ k ∧ k < 3) : m_need g t k = m_need G t k := by
  unfold m_need
  rw [te_of h ht (by omega)]
theorem te_dir {G g : Int → Int} (h : TE G g) {t k : Int} (ht : 0 ≤ t ∧ t < 8) (hk : 0 ≤ k ∧ k < 3) : m_dir g t k = m_dir G t k := by
  unfold m_dir
  rw [te_of h ht (by omega)]
theorem te_sw {G g : Int → Int} (h : TE G g) (hs : SwOK G) : SwOK g := SwOK_congr (fun t a b => te_of h ⟨a, b⟩ (by decide)) hs
theorem te_stands {G g : Int → Int} (h : TE G g) (hs : SwOK G) {t : Int} (ht : 0 ≤ t ∧ t < 8) : m_stands g t = m_stands G t := m_stands_congr (fun t a b => te_of h ⟨a, b⟩ (by decide)) hs ht
/-- what holds of the row while objects are got; N: so many more may be got -/
def GI (G g : Int → Int) (N : Int) : Prop := TE G g ∧ (0 ≤ g 1 ∧ g 1 ≤ 60) ∧ (∀ x, 0 ≤ g x ∧ g x < 2147483648) ∧ g 2 + N < 2147483648 ∧ g 3 + N < 2147483648 ∧ g 4 + 20 * N < 2147483648
abbrev GS : Type := Int × (Int → Int) × (Int → Int)
/-- the object is laid down -/
def m_put (G : Int → Int) (u th dp : Int) (g f : Int → Int) : Int → Int := fun x =>
  if x = 4 then g 4 + m_of G u 1 else if x = 1 then g 1 + 1 else
  if 61 + 10 * g 1 + 7 ≤ x ∧ x < 61 + 10 * g 1 + 7 + m_of G u 2 then f (3 * dp + (x - (61 + 10 * g 1 + 7)))
  else if 61 + 10 * g 1 + 4 ≤ x ∧ x < 61 + 10 * g 1 + 4 + m_of G u 2 then m_need G u (x - (61 + 10 * g 1 + 4))
  else if x = 61 + 10 * g 1 + 3 then m_of G u 2 else if x = 61 + 10 * g 1 + 2 then 0 else if x = 61 + 10 * g 1 + 1 then th else if x = 61 + 10 * g 1 then u else g x
theorem m_put_1 {G g f : Int → Int} {u th dp : Int} : m_put G u th dp g f 1 = g 1 + 1 := by
  unfold m_put
  rw [if_neg (by decide), if_pos rfl]
noncomputable def m_get (G : Int → Int) (th : Int) : Nat → Int → Int → (Int → Int) × (Int → Int) → GS
  | 0, _, _, s => (0, s)
  | d + 1, t, dp, s =>
    if 0 ≤ m_exist (ui s.1 2 (s.1 2 + 1)) (m_stands G t) th then (m_exist (ui s.1 2 (s.1 2 + 1)) (m_stands G t) th, ui (ui s.1 2 (s.1 2 + 1)) 3 (s.1 3 + 1), s.2)
    else
      ((itI (fun k q => if m_dir G (m_stands G t) k = true then ((m_get G th d (m_need G (m_stands G t) k) (dp + 1) q).2.1, ui (m_get G th d (m_need G (m_stands G t) k) (dp + 1) q).2.2 (3 * dp + k) ((m_get G th d (m_need G (m_stands G t) k) (dp + 1) q).1 + 1)) else (q.1, ui q.2 (3 * dp + k) 0)) (m_of G (m_stands G t) 2) (ui s.1 2 (s.1 2 + 1), s.2)).1 1,
       m_put G (m_stands G t) th dp (itI (fun k q => if m_dir G (m_stands G t) k = true then ((m_get G th d (m_need G (m_stands G t) k) (dp + 1) q).2.1, ui (m_get G th d (m_need G (m_stands G t) k) (dp + 1) q).2.2 (3 * dp + k) ((m_get G th d (m_need G (m_stands G t) k) (dp + 1) q).1 + 1)) else (q.1, ui q.2 (3 * dp + k) 0)) (m_of G (m_stands G t) 2) (ui s.1 2 (s.1 2 + 1), s.2)).1 (itI (fun k q => if m_dir G (m_stands G t) k = true then ((m_get G th d (m_need G (m_stands G t) k) (dp + 1) q).2.1, ui (m_get G th d (m_need G (m_stands G t) k) (dp + 1) q).2.2 (3 * dp + k) ((m_get G th d (m_need G (m_stands G t) k) (dp + 1) q).1 + 1)) else (q.1, ui q.2 (3 * dp + k) 0)) (m_of G (m_stands G t) 2) (ui s.1 2 (s.1 2 + 1), s.2)).2,
       (itI (fun k q => if m_dir G (m_stands G t) k = true then ((m_get G th d (m_need G (m_stands G t) k) (dp + 1) q).2.1, ui (m_get G th d (m_need G (m_stands G t) k) (dp + 1) q).2.2 (3 * dp + k) ((m_get G th d (m_need G (m_stands G t) k) (dp + 1) q).1 + 1)) else (q.1, ui q.2 (3 * dp + k) 0)) (m_of G (m_stands G t) 2) (ui s.1 2 (s.1 2 + 1), s.2)).2)
/-- one need of a tool is filled -/
noncomputable def m_getF (G : Int → Int) (th : Int) (d : Nat) (u dp : Int) : Int → (Int → Int) × (Int → Int) → (Int → Int) × (Int → Int) := fun k q => if m_dir G u k = true then ((m_get G th d (m_need G u k) (dp + 1) q).2.1, ui (m_get G th d (m_need G u k) (dp + 1) q).2.2 (3 * dp + k) ((m_get G th d (m_need G u k) (dp + 1) q).1 + 1)) else (q.1, ui q.2 (3 * dp + k) 0)
theorem getF_pos {G : Int → Int} {th : Int} {d : Nat} {u dp k : Int} (h : m_dir G u k = true) (q : (Int → Int) × (Int → Int)) : m_getF G th d u dp k q = ((m_get G th d (m_need G u k) (dp + 1) q).2.1, ui (m_get G th d (m_need G u k) (dp + 1) q).2.2 (3 * dp + k) ((m_get G th d (m_need G u k) (dp + 1) q).1 + 1)) := if_pos h
theorem getF_neg {G : Int → Int} {th : Int} {d : Nat} {u dp k : Int} (h : ¬ m_dir G u k = true) (q : (Int → Int) × (Int → Int)) : m_getF G th d u dp k q = (q.1, ui q.2 (3 * dp + k) 0) := if_neg h
theorem m_get_s (G : Int → Int) (th : Int) (d : Nat) (t dp : Int) (s : (Int → Int) × (Int → Int)) : m_get G th (d + 1) t dp s =
    if 0 ≤ m_exist (ui s.1 2 (s.1 2 + 1)) (m_stands G t) th then (m_exist (ui s.1 2 (s.1 2 + 1)) (m_stands G t) th, ui (ui s.1 2 (s.1 2 + 1)) 3 (s.1 3 + 1), s.2)
    else ((itI (m_getF G th d (m_stands G t) dp) (m_of G (m_stands G t) 2) (ui s.1 2 (s.1 2 + 1), s.2)).1 1,
       m_put G (m_stands G t) th dp (itI (m_getF G th d (m_stands G t) dp) (m_of G (m_stands G t) 2) (ui s.1 2 (s.1 2 + 1), s.2)).1 (itI (m_getF G th d (m_stands G t) dp) (m_of G (m_stands G t) 2) (ui s.1 2 (s.1 2 + 1), s.2)).2,
       (itI (m_getF G th d (m_stands G t) dp) (m_of G (m_stands G t) 2) (ui s.1 2 (s.1 2 + 1), s.2)).2) := rfl
theorem itI_inv2 {σ : Type} {F : Int → σ → σ} (I : Int → σ → Prop) {s : σ} (h0 : I 0 s) {n : Int} (hn : 0 ≤ n) (hs : ∀ (k : Int), 0 ≤ k → k < n → I k (itI F k s) → I (k + 1) (F k (itI F k s))) : I n (itI F n s) := by
  obtain ⟨j, rfl⟩ := Int.eq_ofNat_of_zero_le hn
  have : ∀ i : Nat, i ≤ j → I i (itI F i s) := by
    intro i
    induction i with
    | zero => intro _; exact h0
    | succ i ih =>
      intro hi
      exact hs i (by omega) (by omega) (ih (by omega))
  exact this j (Nat.le_refl j)
theorem itI_mono {σ : Type} {F : Int → σ → σ} (μ : σ → Int) (h : ∀ k q, μ q ≤ μ (F k q)) (s : σ) {k n : Int} (h0 : 0 ≤ k) (hk : k ≤ n) : μ (itI F k s) ≤ μ (itI F n s) := by
  obtain ⟨a, rfl⟩ := Int.eq_ofNat_of_zero_le h0
  obtain ⟨b, rfl⟩ : ∃ b : Nat, n = ((a + b : Nat) : Int) := ⟨(n - a).toNat, by omega⟩
  clear hk
  induction b with
  | zero => exact Int.le_refl _
  | succ b ih => exact Int.le_trans ih (h _ _)
theorem get_mono (G : Int → Int) (th : Int) : ∀ (d : Nat) (t dp : Int) (s : (Int → Int) × (Int → Int)), s.1 1 ≤ (m_get G th d t dp s).2.1 1 := by
  intro d
  induction d with
  | zero => intro t dp s; exact Int.le_refl _
  | succ d ih =>
    intro t dp s
    rw [m_get_s]
    split
    · show s.1 1 ≤ ui (ui s.1 2 (s.1 2 + 1)) 3 (s.1 3 + 1) 1
      rw [ui_n (by decide), ui_n (by decide)]
      exact Int.le_refl _
    · simp only [m_put_1]
      have h1 := itI_mono (F := m_getF G th d (m_stands G t) dp) (fun q => q.1 1) (fun k q => by
        unfold m_getF
        split
        · exact ih _ _ _
        · exact Int.le_refl _) (ui s.1 2 (s.1 2 + 1), s.2) (k := 0) (n := max 0 (m_of G (m_stands G t) 2)) (by decide) (by omega)
      have h2 : itI (m_getF G th d (m_stands G t) dp) (max 0 (m_of G (m_stands G t) 2)) (ui s.1 2 (s.1 2 + 1), s.2) = itI (m_getF G th d (m_stands G t) dp) (m_of G (m_stands G t) 2) (ui s.1 2 (s.1 2 + 1), s.2) := by
        unfold itI
        rw [show (max 0 (m_of G (m_stands G t) 2)).toNat = (m_of G (m_stands G t) 2).toNat by omega]
      rw [h2] at h1
      have h3 : (ui s.1 2 (s.1 2 + 1)) 1 = s.1 1 := ui_n (by decide)
      have h1 : s.1 1 ≤ _ := h3 ▸ h1
      omega
theorem getF_mono (G : Int → Int) (th : Int) (d : Nat) (u dp : Int) (k : Int) (q : (Int → Int) × (Int → Int)) : q.1 1 ≤ (m_getF G th d u dp k q).1 1 := by
  unfold m_getF
  split
  · exact get_mono G th d _ _ q
  · exact Int.le_refl _
theorem GI_ui2 {G g : Int → Int} {N : Int} (hN : 0 ≤ N) (h : GI G g (N + 1)) : GI G (ui g 2 (g 2 + 1)) N := by
  obtain ⟨a, b, c, d, e, f⟩ := h
  have c2 := c 2
  refine ⟨te_ui a (by decide), by rw [ui_n (by decide)]; exact b, fun x => ?_, by rw [ui_s]; omega, by rw [ui_n (by decide)]; omega, by rw [ui_n (by decide)]; omega⟩
  unfold ui
  split
  · omega
  · exact c x
theorem GI_ui3 {G g : Int → Int} {N : Int} (hN : 0 ≤ N) (h : GI G g (N + 1)) : GI G (ui g 3 (g 3 + 1)) N := by
  obtain ⟨a, b, c, d, e, f⟩ := h
  have c2 := c 3
  refine ⟨te_ui a (by decide), by rw [ui_n (by decide)]; exact b, fun x => ?_, by rw [ui_n (by decide)]; omega, by rw [ui_s]; omega, by rw [ui_n (by decide)]; omega⟩
  unfold ui
  split
  · omega
  · exact c x
theorem GI_le {G g : Int → Int} {N M : Int} (h : GI G g N) (hl : M ≤ N) : GI G g M := by
  obtain ⟨a, b, c, d, e, f⟩ := h
  exact ⟨a, b, c, by omega, by omega, by omega⟩
theorem GI_put {G g f : Int → Int} {N u th dp : Int} (hN : 0 ≤ N) (hu : 0 ≤ u ∧ u < 8) (hth : 0 ≤ th ∧ th ≤ 3) (htw : TW G) (htm : TM G) (h : GI G g (N + 1)) (hf : ∀ x, 0 ≤ f x ∧ f x < 2147483648) (h60 : g 1 + 1 ≤ 60) : GI G (m_put G u th dp g f) N := by
  obtain ⟨a, b, c, d, e, k⟩ := h
  have h1 := htw u hu.1 hu.2
  have h2 := htm u hu.1 hu.2
  have c4 := c 4
  refine ⟨fun x x1 x2 => ?_, ?_, fun x => ?_, ?_, ?_, ?_⟩
  · unfold m_put
    rw [if_neg (by omega), if_neg (by omega), if_neg (by omega), if_neg (by omega), if_neg (by omega), if_neg (by omega), if_neg (by omega), if_neg (by omega)]
    exact a x x1 x2
  · have e1 : m_put G u th dp g f 1 = g 1 + 1 := by unfold m_put; rw [if_neg (by decide), if_pos rfl]
    rw [e1]
    omega
  · have hnd := m_need_r G u (x - (61 + 10 * g 1 + 4))
    have hfx := hf (3 * dp + (x - (61 + 10 * g 1 + 7)))
    have cx := c x
    unfold m_put
    repeat' split
    all_goals omega
  · have e1 : m_put G u th dp g f 2 = g 2 := by
      unfold m_put
      rw [if_neg (by decide), if_neg (by decide), if_neg (by omega), if_neg (by omega), if_neg (by omega), if_neg (by omega), if_neg (by omega), if_neg (by omega)]
    rw [e1]
    omega
  · have e1 : m_put G u th dp g f 3 = g 3 := by
      unfold m_put
      rw [if_neg (by decide), if_neg (by decide), if_neg (by omega), if_neg (by omega), if_neg (by omega), if_neg (by omega), if_neg (by omega), if_neg (by omega)]
    rw [e1]
    omega
  · have e1 : m_put G u th dp g f 4 = g 4 + m_of G u 1 := by unfold m_put; rw [if_pos rfl]
    rw [e1]
    omega
theorem ui_bb {f : Int → Int} {i v : Int} (h : ∀ x, 0 ≤ f x ∧ f x < 2147483648) (hv : 0 ≤ v ∧ v < 2147483648) : ∀ x, 0 ≤ ui f i v x ∧ ui f i v x < 2147483648 := ui_b h hv
theorem m_exist_r2 {g : Int → Int} (h : 0 ≤ g 1 ∧ g 1 ≤ 60) (t th : Int) : -1 ≤ m_exist g t th ∧ m_exist g t th < 60 := by
  unfold m_exist
  split
  · omega
  · have h3 := fnd_spec (fun k => m_here g k && (decide (m_thing g k 0 = t) && (decide (m_of g t 0 = 115) || decide (m_thing g k 1 = th)))) (n := g 1) h.1
    omega
theorem get_inv {G : Int → Int} {th : Int} (htw : TW G) (hsw : SwOK G) (htm : TM G) (hth : 0 ≤ th ∧ th ≤ 3) : ∀ (d : Nat) (t dp M : Int) (s : (Int → Int) × (Int → Int)), 0 ≤ t → t < 8 → 0 ≤ M → GI G s.1 (5 ^ d + M) → (∀ x, 0 ≤ s.2 x ∧ s.2 x < 2147483648) → (m_get G th d t dp s).2.1 1 ≤ 60 →
    GI G (m_get G th d t dp s).2.1 M ∧ (∀ x, 0 ≤ (m_get G th d t dp s).2.2 x ∧ (m_get G th d t dp s).2.2 x < 2147483648) ∧ 0 ≤ (m_get G th d t dp s).1 ∧ (m_get G th d t dp s).1 < 60 := by
  intro d
  induction d with
  | zero => intro t dp M s _ _ hM h1 h2 _; exact ⟨GI_le h1 (by have : (5 : Int) ^ 0 = 1 := rfl; omega), h2, Int.le_refl 0, by show (0 : Int) < 60; decide⟩
  | succ d ih =>
    intro t dp M s t1 t2 hM h1 h2 h3
    rw [m_get_s] at h3 ⊢
    have hp : (1 : Int) ≤ 5 ^ d := by
      have := Int.pow_pos (n := 5) (m := d) (by decide)
      omega
    have hpe : (5 : Int) ^ (d + 1) = 5 ^ d * 5 := Int.pow_succ 5 d
    have g1 : GI G (ui s.1 2 (s.1 2 + 1)) (5 ^ (d + 1) + M - 1) := GI_ui2 (by omega) (GI_le h1 (by omega))
    have hu := m_stands_r hsw ⟨t1, t2⟩
    split
    · rename_i hex
      have hr := m_exist_r2 (g := ui s.1 2 (s.1 2 + 1)) g1.2.1 (m_stands G t) th
      refine ⟨?_, h2, hex, hr.2⟩
      have e3 : (ui s.1 2 (s.1 2 + 1)) 3 = s.1 3 := ui_n (by decide)
      rw [← e3]
      exact GI_ui3 hM (GI_le g1 (by omega))
    · rename_i hex
      rw [if_neg hex] at h3
      have hn := htw _ hu.1 hu.2
      have h4 : m_put G (m_stands G t) th dp (itI (m_getF G th d (m_stands G t) dp) (m_of G (m_stands G t) 2) (ui s.1 2 (s.1 2 + 1), s.2)).1 (itI (m_getF G th d (m_stands G t) dp) (m_of G (m_stands G t) 2) (ui s.1 2 (s.1 2 + 1), s.2)).2 1 ≤ 60 := h3
      have h5 : (itI (m_getF G th d (m_stands G t) dp) (m_of G (m_stands G t) 2) (ui s.1 2 (s.1 2 + 1), s.2)).1 1 + 1 ≤ 60 := by
        unfold m_put at h4
        rw [if_neg (by decide), if_pos rfl] at h4
        exact h4
      have key := itI_inv2 (F := m_getF G th d (m_stands G t) dp) (s := (ui s.1 2 (s.1 2 + 1), s.2)) (fun k q => GI G q.1 (5 ^ (d + 1) + M - 1 - k * 5 ^ d) ∧ ∀ x, 0 ≤ q.2 x ∧ q.2 x < 2147483648) ⟨GI_le g1 (by omega), h2⟩ (n := m_of G (m_stands G t) 2) hn.1 (fun k k0 kn hq => by
        obtain ⟨q1, q2⟩ := hq
        have hm := itI_mono (F := m_getF G th d (m_stands G t) dp) (fun q => q.1 1) (getF_mono G th d (m_stands G t) dp) (ui s.1 2 (s.1 2 + 1), s.2) (k := k + 1) (n := m_of G (m_stands G t) 2) (by omega) (by omega)
        rw [itI_s k0] at hm
        have hk3 : k * (5 : Int) ^ d ≤ 2 * 5 ^ d := Int.mul_le_mul_of_nonneg_right (by omega) (by omega)
        have hk4 : (k + 1) * (5 : Int) ^ d = k * 5 ^ d + 5 ^ d := by rw [Int.add_mul, Int.one_mul]
        by_cases hd : m_dir G (m_stands G t) k = true
        · rw [getF_pos hd] at hm ⊢
          have hnr := m_need_r G (m_stands G t) k
          obtain ⟨r1, r2, r3, r4⟩ := ih (m_need G (m_stands G t) k) (dp + 1) (5 ^ (d + 1) + M - 1 - (k + 1) * 5 ^ d) _ hnr.1 hnr.2 (by omega) (GI_le q1 (by omega)) q2 (Int.le_trans hm (by omega))
          exact ⟨r1, ui_bb r2 (by omega)⟩
        · rw [getF_neg hd]
          exact ⟨GI_le q1 (by omega), ui_bb q2 (by omega)⟩)
      obtain ⟨k1, k2⟩ := key
      have hk5 : m_of G (m_stands G t) 2 * (5 : Int) ^ d ≤ 3 * 5 ^ d := Int.mul_le_mul_of_nonneg_right hn.2 (by omega)
      exact ⟨GI_put hM hu hth htw htm (GI_le k1 (by omega)) k2 h5, k2, k1.2.1.1, by omega⟩
