/-! ===== the class' books: what they say of the row g ===== -/
def I32 (v : Int) : Prop := -2147483648 ≤ v ∧ v < 2147483648
/-- a book: its object and its arrays -/
def BW (E : EE) (o : Nat → Nat) (sc : Nat → Int) (ar : Nat → Int → Int) : va_W := [(o 1, .inr (3, [.ref (o 2), .ref (o 3), .ref (o 4), .ref (o 5), .ref (o 6), .ref (o 7), .ref (o 8)])), (o 2, ia (E.2 1) 8 (ar 2)), (o 3, ia (E.2 2) 8 (ar 3)), (o 4, ia (E.2 0) 8 (ar 4)), (o 5, ia (E.2 0) 8 (ar 5)), (o 6, ia (E.2 0) 24 (ar 6)), (o 7, ia (E.2 1) 24 (ar 7)), (o 8, ia (E.2 0) 8 (ar 8))]
/-- a state: its object, its book, its arrays -/
def SW (E : EE) (o : Nat → Nat) (sc : Nat → Int) (ar : Nat → Int → Int) : va_W := [(o 0, .inr (2, [.ref (o 1), .ref (o 9), iv (sc 2), .ref (o 10), .ref (o 11), .ref (o 12), .ref (o 13), .ref (o 14), .ref (o 15), iv (sc 9), iv (sc 10), jv (sc 11), .ref (o 16), iv (sc 13)])), (o 1, .inr (3, [.ref (o 2), .ref (o 3), .ref (o 4), .ref (o 5), .ref (o 6), .ref (o 7), .ref (o 8)])), (o 2, ia (E.2 1) 8 (ar 2)), (o 3, ia (E.2 2) 8 (ar 3)), (o 4, ia (E.2 0) 8 (ar 4)), (o 5, ia (E.2 0) 8 (ar 5)), (o 6, ia (E.2 0) 24 (ar 6)), (o 7, ia (E.2 1) 24 (ar 7)), (o 8, ia (E.2 0) 8 (ar 8)), (o 9, ia (E.2 1) 4 (ar 9)), (o 10, ia (E.2 0) 160 (ar 10)), (o 11, ia (E.2 0) 160 (ar 11)), (o 12, ia (E.2 1) 160 (ar 12)), (o 13, ia (E.2 0) 160 (ar 13)), (o 14, ia (E.2 0) 480 (ar 14)), (o 15, ia (E.2 0) 480 (ar 15)), (o 16, ia (E.2 0) 27 (ar 16))]
/-- the book's arrays has (2) scopes (3) minutes (4) counts (5) needs (6) areLazy (7) replacing (8) say what the row says -/
def BR (g : Int → Int) (ar : Nat → Int → Int) : Prop := ∀ t, 0 ≤ t → t < 8 → ar 2 t = b2 (m_has g t) ∧ ar 8 t = m_of g t 6 - 1 ∧ (m_has g t = true → ar 3 t = m_of g t 0 ∧ ar 4 t = m_of g t 1 ∧ ar 5 t = m_of g t 2 ∧ ∀ k, 0 ≤ k → k < 3 → k < m_of g t 2 → ar 6 (3 * t + k) = m_need g t k ∧ ar 7 (3 * t + k) = b2 (!(m_dir g t k)))
theorem BR.has {g : Int → Int} {ar : Nat → Int → Int} (h : BR g ar) {t : Int} (ht : 0 ≤ t ∧ t < 8) : ar 2 t = b2 (m_has g t) := (h t ht.1 ht.2).1
theorem BR.rep {g : Int → Int} {ar : Nat → Int → Int} (h : BR g ar) {t : Int} (ht : 0 ≤ t ∧ t < 8) : ar 8 t = m_of g t 6 - 1 := (h t ht.1 ht.2).2.1
theorem BR.sco {g : Int → Int} {ar : Nat → Int → Int} (h : BR g ar) {t : Int} (ht : 0 ≤ t ∧ t < 8) (hh : m_has g t = true) : ar 3 t = m_of g t 0 := ((h t ht.1 ht.2).2.2 hh).1
theorem BR.mns {g : Int → Int} {ar : Nat → Int → Int} (h : BR g ar) {t : Int} (ht : 0 ≤ t ∧ t < 8) (hh : m_has g t = true) : ar 4 t = m_of g t 1 := ((h t ht.1 ht.2).2.2 hh).2.1
theorem BR.cnt {g : Int → Int} {ar : Nat → Int → Int} (h : BR g ar) {t : Int} (ht : 0 ≤ t ∧ t < 8) (hh : m_has g t = true) : ar 5 t = m_of g t 2 := ((h t ht.1 ht.2).2.2 hh).2.2.1
theorem BR.nd {g : Int → Int} {ar : Nat → Int → Int} (h : BR g ar) {t k : Int} (ht : 0 ≤ t ∧ t < 8) (hh : m_has g t = true) (hk : 0 ≤ k ∧ k < 3 ∧ k < m_of g t 2) : ar 6 (3 * t + k) = m_need g t k := (((h t ht.1 ht.2).2.2 hh).2.2.2 k hk.1 hk.2.1 hk.2.2).1
theorem BR.lz {g : Int → Int} {ar : Nat → Int → Int} (h : BR g ar) {t k : Int} (ht : 0 ≤ t ∧ t < 8) (hh : m_has g t = true) (hk : 0 ≤ k ∧ k < 3 ∧ k < m_of g t 2) : ar 7 (3 * t + k) = b2 (!(m_dir g t k)) := (((h t ht.1 ht.2).2.2 hh).2.2.2 k hk.1 hk.2.1 hk.2.2).2
theorem HN_has {g : Int → Int} (h : HN g) {t k : Int} (ht : 0 ≤ t ∧ t < 8) (hk : 0 ≤ k ∧ k < m_of g t 2) : m_has g t = true := by
  apply decide_eq_true
  intro h0
  have := h t ht.1 ht.2 h0
  omega
theorem HN_pos {g : Int → Int} (h : HN g) {t : Int} (ht : 0 ≤ t ∧ t < 8) (hk : 0 < m_of g t 2) : m_has g t = true := HN_has h ht (k := 0) ⟨Int.le_refl 0, hk⟩
theorem HN_not {g : Int → Int} (h : HN g) {t : Int} (ht : 0 ≤ t ∧ t < 8) (hk : m_has g t = false) : m_of g t 2 = 0 := h t ht.1 ht.2 (by
  have := of_decide_eq_false hk
  omega)
theorem m_has_1 {g : Int → Int} {t : Int} (h : m_has g t = true) : ¬ m_of g t 0 = 0 := of_decide_eq_true h
theorem m_has_0 {g : Int → Int} {t : Int} (h : m_has g t = false) : m_of g t 0 = 0 := by
  have := of_decide_eq_false h
  omega
/-- no recipe: no minutes -/
def HM (g : Int → Int) : Prop := ∀ t, 0 ≤ t → t < 8 → m_of g t 0 = 0 → m_of g t 1 = 0
/-- the book's longest way: -1 where a tool without a recipe is met -/
noncomputable def k_lng (g : Int → Int) : Nat → Int → Int
  | 0, _ => -1
  | d + 1, t => if m_has g t = true then (if exB (fun k => m_dir g t k && decide (k_lng g d (m_stands g (m_need g t k)) = -1)) (m_of g t 2) = true then -1 else m_of g t 1 + maxI (fun k => if m_dir g t k = true then k_lng g d (m_stands g (m_need g t k)) else 0) (m_of g t 2)) else -1
theorem k_lng_r {g : Int → Int} (htw : TW g) (hsw : SwOK g) (htm : TM g) : ∀ (d : Nat) (t : Int), 0 ≤ t → t < 8 → -1 ≤ k_lng g d t ∧ k_lng g d t ≤ 20 * d := by
  intro d
  induction d with
  | zero => intro t h1 h2; exact ⟨Int.le_refl _, by show (-1 : Int) ≤ 20 * ((0 : Nat) : Int); decide⟩
  | succ d ih =>
    intro t h1 h2
    have a1 := htw t h1 h2
    have a2 := htm t h1 h2
    have a3 := maxI_b (f := fun k => if m_dir g t k = true then k_lng g d (m_stands g (m_need g t k)) else 0) (hi := 20 * d) a1.1 (by omega) (fun k b1 b2 => by
      have b3 := m_stands_r hsw (m_need_r g t k)
      have b4 := ih _ b3.1 b3.2
      show (if m_dir g t k = true then k_lng g d (m_stands g (m_need g t k)) else 0) ≤ 20 * (d : Int)
      split <;> omega)
    simp only [k_lng]
    repeat' split
    all_goals omega
theorem captI_s {g : Int → Int} {t x : Int} : (fun t => if m_of g t 0 = 115 then sumI (fun k => b2 (m_dir g t k && decide (m_of g (m_stands g (m_need g t k)) 0 = 116))) (m_of g t 2) else 0) t = (if m_of g t 0 = 115 then sumI (fun k => b2 (m_dir g t k && decide (m_of g (m_stands g (m_need g t k)) 0 = 116))) (m_of g t 2) else 0) := rfl
/-- the needs of a tool with the one at q taken out -/
def rm3 (f : Int → Int) (t q n : Int) : Int → Int := fun x => if 3 * t + q ≤ x ∧ x < 3 * t + n - 1 then f (x + 1) else f x
