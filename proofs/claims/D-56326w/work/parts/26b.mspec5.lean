/-! ===== the reference in plain words, 5: what would be made ===== -/
def itN {σ : Type} (F : Int → σ → σ) : Nat → σ → σ
  | 0, s => s
  | n + 1, s => F n (itN F n s)
def itI {σ : Type} (F : Int → σ → σ) (n : Int) (s : σ) : σ := itN F n.toNat s
theorem itI_s {σ : Type} {F : Int → σ → σ} {n : Int} {s : σ} (h : 0 ≤ n) : itI F (n + 1) s = F n (itI F n s) := by
  obtain ⟨k, rfl⟩ := Int.eq_ofNat_of_zero_le h
  rfl
abbrev CN : Type := Int × (Int → Bool) × Int
/-- how many objects would be made for a tool; the tools that are counted; the first that is missing (-1: none) -/
noncomputable def m_cnt (g : Int → Int) (th : Int) : Nat → Int → (Int → Bool) × Int → CN
  | 0, _, s => (0, s)
  | d + 1, t, s =>
    if m_has g (m_stands g t) = false then (0, s.1, if s.2 < 0 then m_stands g t else s.2)
    else if 0 ≤ m_exist g (m_stands g t) th ∨ s.1 (m_stands g t) = true then (0, s)
    else
      ((itI (fun k q => if m_dir g (m_stands g t) k = true then (q.1 + (m_cnt g th d (m_need g (m_stands g t) k) q.2).1, (m_cnt g th d (m_need g (m_stands g t) k) q.2).2) else q) (m_of g (m_stands g t) 2) (1, s)).1,
       (if m_of g (m_stands g t) 0 = 101 then (itI (fun k q => if m_dir g (m_stands g t) k = true then (q.1 + (m_cnt g th d (m_need g (m_stands g t) k) q.2).1, (m_cnt g th d (m_need g (m_stands g t) k) q.2).2) else q) (m_of g (m_stands g t) 2) (1, s)).2.1 else fun v => (itI (fun k q => if m_dir g (m_stands g t) k = true then (q.1 + (m_cnt g th d (m_need g (m_stands g t) k) q.2).1, (m_cnt g th d (m_need g (m_stands g t) k) q.2).2) else q) (m_of g (m_stands g t) 2) (1, s)).2.1 v || decide (v = m_stands g t)),
       (itI (fun k q => if m_dir g (m_stands g t) k = true then (q.1 + (m_cnt g th d (m_need g (m_stands g t) k) q.2).1, (m_cnt g th d (m_need g (m_stands g t) k) q.2).2) else q) (m_of g (m_stands g t) 2) (1, s)).2.2)
/-- one need of a tool, counted -/
noncomputable def m_cntF (g : Int → Int) (th : Int) (d : Nat) (u : Int) : Int → CN → CN := fun k q => if m_dir g u k = true then (q.1 + (m_cnt g th d (m_need g u k) q.2).1, (m_cnt g th d (m_need g u k) q.2).2) else q
theorem m_cnt_s (g : Int → Int) (th : Int) (d : Nat) (t : Int) (s : (Int → Bool) × Int) : m_cnt g th (d + 1) t s =
    if m_has g (m_stands g t) = false then (0, s.1, if s.2 < 0 then m_stands g t else s.2)
    else if 0 ≤ m_exist g (m_stands g t) th ∨ s.1 (m_stands g t) = true then (0, s)
    else ((itI (m_cntF g th d (m_stands g t)) (m_of g (m_stands g t) 2) (1, s)).1,
       (if m_of g (m_stands g t) 0 = 101 then (itI (m_cntF g th d (m_stands g t)) (m_of g (m_stands g t) 2) (1, s)).2.1 else fun v => (itI (m_cntF g th d (m_stands g t)) (m_of g (m_stands g t) 2) (1, s)).2.1 v || decide (v = m_stands g t)),
       (itI (m_cntF g th d (m_stands g t)) (m_of g (m_stands g t) 2) (1, s)).2.2) := rfl
theorem itN_inv {σ : Type} {F : Int → σ → σ} (I : Nat → σ → Prop) {s : σ} (h0 : I 0 s) (n : Nat) (hs : ∀ (k : Nat) (q : σ), k < n → I k q → I (k + 1) (F k q)) : I n (itN F n s) := by
  induction n with
  | zero => exact h0
  | succ n ih => exact hs n _ (Nat.lt_succ_self n) (ih (fun k q hk => hs k q (by omega)))
theorem itI_inv {σ : Type} {F : Int → σ → σ} (I : Int → σ → Prop) {s : σ} (h0 : I 0 s) {n : Int} (hn : 0 ≤ n) (hs : ∀ (k : Int) (q : σ), 0 ≤ k → k < n → I k q → I (k + 1) (F k q)) : I n (itI F n s) := by
  obtain ⟨j, rfl⟩ := Int.eq_ofNat_of_zero_le hn
  exact itN_inv (fun k q => I k q) h0 j (fun k q hk hi => hs k q (by omega) (by omega) hi)
theorem m_cnt_r {g : Int → Int} (htw : TW g) (hsw : SwOK g) (th : Int) : ∀ (d : Nat) (t : Int) (s : (Int → Bool) × Int), 0 ≤ t → t < 8 → -1 ≤ s.2 → s.2 < 8 → (0 ≤ (m_cnt g th d t s).1 ∧ (m_cnt g th d t s).1 < 4 ^ d) ∧ -1 ≤ (m_cnt g th d t s).2.2 ∧ (m_cnt g th d t s).2.2 < 8 := by
  intro d
  induction d with
  | zero => intro t s _ _ h1 h2; exact ⟨⟨Int.le_refl 0, by show (0 : Int) < 1; decide⟩, h1, h2⟩
  | succ d ih =>
    intro t s h1 h2 h3 h4
    rw [m_cnt_s]
    have hu := m_stands_r hsw ⟨h1, h2⟩
    have hp : (1 : Int) ≤ 4 ^ d := by
      have := Int.pow_pos (n := 4) (m := d) (by decide)
      omega
    have hpe : (4 : Int) ^ (d + 1) = 4 ^ d * 4 := Int.pow_succ 4 d
    split
    · refine ⟨⟨Int.le_refl 0, by show (0 : Int) < 4 ^ (d + 1); omega⟩, ?_⟩
      show -1 ≤ (if s.2 < 0 then _ else _) ∧ (if s.2 < 0 then _ else _) < 8
      split <;> omega
    · split
      · exact ⟨⟨Int.le_refl 0, by show (0 : Int) < 4 ^ (d + 1); omega⟩, h3, h4⟩
      · have hn := htw _ hu.1 hu.2
        have key := itI_inv (F := m_cntF g th d (m_stands g t)) (s := (1, s)) (fun k q => (0 ≤ q.1 ∧ q.1 ≤ 1 + k * (4 ^ d - 1)) ∧ -1 ≤ q.2.2 ∧ q.2.2 < 8) ⟨⟨by show (0 : Int) ≤ 1; decide, by show (1 : Int) ≤ 1 + 0 * _; omega⟩, h3, h4⟩ (n := m_of g (m_stands g t) 2) hn.1 (fun k q k0 kn hq => by
          obtain ⟨⟨a1, a2⟩, a3, a4⟩ := hq
          have a5 : (k + 1) * ((4 : Int) ^ d - 1) = k * (4 ^ d - 1) + (4 ^ d - 1) := by rw [Int.add_mul, Int.one_mul]
          unfold m_cntF
          split
          · have b1 := m_need_r g (m_stands g t) k
            obtain ⟨⟨b2, b3⟩, b4, b5⟩ := ih (m_need g (m_stands g t) k) q.2 b1.1 b1.2 a3 a4
            refine ⟨⟨?_, ?_⟩, b4, b5⟩
            · show 0 ≤ q.1 + _; omega
            · show q.1 + _ ≤ _; omega
          · exact ⟨⟨a1, by omega⟩, a3, a4⟩)
        obtain ⟨⟨c1, c2⟩, c3, c4⟩ := key
        have c5 : m_of g (m_stands g t) 2 * ((4 : Int) ^ d - 1) ≤ 3 * (4 ^ d - 1) := Int.mul_le_mul_of_nonneg_right hn.2 (by omega)
        exact ⟨⟨c1, Int.lt_of_le_of_lt c2 (by omega)⟩, c3, c4⟩
noncomputable def m_dues (g : Int → Int) (t th : Int) : CN := m_cnt g th 8 t (fun _ => false, -1)
theorem m_dues_r {g : Int → Int} (htw : TW g) (hsw : SwOK g) {t th : Int} (h : 0 ≤ t ∧ t < 8) : (0 ≤ (m_dues g t th).1 ∧ (m_dues g t th).1 < 65536) ∧ -1 ≤ (m_dues g t th).2.2 ∧ (m_dues g t th).2.2 < 8 := m_cnt_r htw hsw th 8 t (fun _ => false, -1) h.1 h.2 (by decide) (by decide)
