/-! ===== ways, plain: the search by steps ===== -/
/-- exactly n steps lead from k to u -/
noncomputable def wkA (g : Int → Int) (a : Bool) : Nat → Int → Int → Bool
  | 0, k, u => decide (u = k)
  | n + 1, k, u => m_nextOf g (wkA g a n k) a u
theorem wkA_f (g : Int → Int) (n : Nat) (k : Int) : wkA g false n k = wkN g n k := by
  induction n with
  | zero => rfl
  | succ n ih =>
    funext u
    show m_nextOf g (wkA g false n k) false u = m_nextOf g (wkN g n k) false u
    rw [ih]
theorem wkA_tg {g : Int → Int} {a : Bool} {t : Int} (ht : 0 ≤ t ∧ t < 8) : ∀ (n : Nat) (y : Int), 0 ≤ y ∧ y < 8 → wkA g a (n + 1) t y = true → Relation.TransGen (ED g a) t y := by
  intro n
  induction n with
  | zero =>
    intro y hy h
    obtain ⟨k, h1, h2, h3, h4⟩ := m_nextOf_iff.mp h
    have h3 : k = t := of_decide_eq_true h3
    subst h3
    exact Relation.TransGen.single ⟨ht, hy, h4⟩
  | succ n ih =>
    intro y hy h
    obtain ⟨k, h1, h2, h3, h4⟩ := m_nextOf_iff.mp h
    exact Relation.TransGen.tail (ih k ⟨h1, h2⟩ h3) ⟨⟨h1, h2⟩, hy, h4⟩
theorem sumN_ui {f h : Int → Int} {x d : Int} (n : Nat) (hx : 0 ≤ x ∧ x < n) (e : ∀ k, k ≠ x → h k = f k) (hd : h x = f x + d) : sumN h n = sumN f n + d := by
  induction n with
  | zero => omega
  | succ n ih =>
    simp only [sumN]
    by_cases hn : x = n
    · have h1 : ∀ j : Nat, (j : Int) ≤ x → sumN h j = sumN f j := by
        intro j
        induction j with
        | zero => intro _; rfl
        | succ j ih2 =>
          intro hj
          simp only [sumN]
          rw [ih2 (by omega), e j (by omega)]
      rw [h1 n (by omega), ← hn, hd]
      omega
    · rw [ih (by omega), e n (by omega)]
      omega
def bfL (st qv : Int → Int) (i : Int) : Int := if i = 0 then 0 else st (qv i)
/-- the search by steps from t: items before h are done, of item h the tools before x; the queue's items are qv 0 .. qv (tl - 1) -/
def BI (g : Int → Int) (a : Bool) (t : Int) (st : Int → Int) (h x tl : Int) (qv : Int → Int) : Prop :=
  (0 ≤ h ∧ h ≤ tl ∧ 1 ≤ tl) ∧ (∀ i, 0 ≤ i → i < tl → 0 ≤ qv i ∧ qv i < 8) ∧ qv 0 = t ∧ (∀ i, 1 ≤ i → i < tl → 0 < st (qv i)) ∧ (∀ y, 0 ≤ y → y < 8 → 0 < st y → ∃ i, 1 ≤ i ∧ i < tl ∧ qv i = y) ∧
  (∀ y, 0 ≤ y → y < 8 → 0 ≤ st y ∧ st y ≤ tl - 1 ∧ (0 < st y → wkA g a (st y).toNat t y = true)) ∧ sumI (fun y => b2 (decide (0 < st y))) 8 = tl - 1 ∧
  (∀ i v, 0 ≤ i → i < tl → (i < h ∨ (i = h ∧ v < x)) → 0 ≤ v → v < 8 → m_edge g a (qv i) v = true → 0 < st v) ∧
  (m_edge g a t t = true → st t ≤ 1) ∧
  (m_edge g a t t = false → (h = 0 → st t = 0) ∧ (∀ i j, 0 ≤ i → i ≤ j → j < tl → bfL st qv i ≤ bfL st qv j) ∧ (h < tl → ∀ y, 0 ≤ y → y < 8 → st y ≤ bfL st qv h + 1) ∧
    (∀ i v, 0 ≤ i → i < tl → (i < h ∨ (i = h ∧ v < x)) → 0 ≤ v → v < 8 → m_edge g a (qv i) v = true → st v ≤ bfL st qv i + 1))
theorem BI_init {g : Int → Int} {a : Bool} {t : Int} (ht : 0 ≤ t ∧ t < 8) {qv : Int → Int} (hq : qv 0 = t) : BI g a t (fun _ => 0) 0 0 1 qv := by
  refine ⟨by omega, fun i h1 h2 => ?_, hq, fun i h1 h2 => by omega, fun y _ _ h => absurd h (Int.lt_irrefl 0), fun y _ _ => ⟨Int.le_refl 0, (show (0 : Int) ≤ 1 - 1 by decide), fun h => absurd h (Int.lt_irrefl 0)⟩, by decide, fun i v h1 h2 h3 h4 _ _ => by omega, fun _ => (show (0 : Int) ≤ 1 by decide), fun _ => ⟨fun _ => rfl, fun i j h1 h2 h3 => ?_, fun _ y _ _ => ?_, fun i v h1 h2 h3 h4 _ _ => by omega⟩⟩
  · rw [show i = 0 by omega, hq]; exact ht
  · rw [show j = i by omega]; exact Int.le_refl _
  · show (0 : Int) ≤ 0 + 1; decide
theorem BI.tl8 {g : Int → Int} {a : Bool} {t h x tl : Int} {st qv : Int → Int} (hb : BI g a t st h x tl qv) : tl ≤ 9 := by
  obtain ⟨c1, c2, c3, c4, c5, c6, c7, c8, c9, c10⟩ := hb
  have := sumN_b (f := fun y => b2 (decide (0 < st y))) (lo := 0) (hi := 1) 8 (fun k _ _ => b2_r _)
  unfold sumI at c7
  have e : ((8 : Int).toNat) = 8 := rfl
  rw [e] at c7
  omega
theorem BI.tl7 {g : Int → Int} {a : Bool} {t h x tl y : Int} {st qv : Int → Int} (hb : BI g a t st h x tl qv) (hy : 0 ≤ y ∧ y < 8) (h0 : st y = 0) : tl ≤ 8 := by
  obtain ⟨c1, c2, c3, c4, c5, c6, c7, c8, c9, c10⟩ := hb
  have := sumN_lt (f := fun y => b2 (decide (0 < st y))) (h := fun _ => 1) 8 (fun k _ _ => (b2_r _).2) (k := y) ⟨hy.1, by omega⟩ (by show b2 (decide (0 < st y)) < 1; rw [h0]; decide)
  have e2 : sumN (fun _ => 1) 8 = 8 := by decide
  unfold sumI at c7
  have e : ((8 : Int).toNat) = 8 := rfl
  rw [e] at c7
  omega
theorem BI.str {g : Int → Int} {a : Bool} {t h x tl : Int} {st qv : Int → Int} (hb : BI g a t st h x tl qv) {y : Int} (hy : 0 ≤ y ∧ y < 8) : 0 ≤ st y ∧ st y ≤ 8 := by
  have h1 := hb.tl8
  have h2 := hb.2.2.2.2.2.1 y hy.1 hy.2
  omega
theorem BI.qr {g : Int → Int} {a : Bool} {t h x tl : Int} {st qv : Int → Int} (hb : BI g a t st h x tl qv) {i : Int} (hi : 0 ≤ i ∧ i < tl) : 0 ≤ qv i ∧ qv i < 8 := hb.2.1 i hi.1 hi.2
/-- the tool x looked at: no way, or found before -/
theorem BI.skip {g : Int → Int} {a : Bool} {t h x tl : Int} {st qv : Int → Int} (hb : BI g a t st h x tl qv) (hx : 0 ≤ x ∧ x < 8) (hh : h < tl) (hs : ¬ st x = 0 ∨ m_edge g a (qv h) x = false) : BI g a t st h (x + 1) tl qv := by
  obtain ⟨c1, c2, c3, c4, c5, c6, c7, c8, c9, c10⟩ := hb
  refine ⟨c1, c2, c3, c4, c5, c6, c7, fun i v h1 h2 h3 h4 h5 h6 => ?_, c9, fun hn => ⟨(c10 hn).1, (c10 hn).2.1, (c10 hn).2.2.1, fun i v h1 h2 h3 h4 h5 h6 => ?_⟩⟩
  · by_cases hv : i = h ∧ v = x
    · obtain ⟨rfl, rfl⟩ := hv
      rcases hs with hs | hs
      · have := (c6 v h4 h5).1; omega
      · rw [hs] at h6; cases h6
    · exact c8 i v h1 h2 (by omega) h4 h5 h6
  · by_cases hv : i = h ∧ v = x
    · obtain ⟨rfl, rfl⟩ := hv
      exact (c10 hn).2.2.1 hh v h4 h5
    · exact (c10 hn).2.2.2 i v h1 h2 (by omega) h4 h5 h6
/-- the tool x found -/
theorem BI.hit {g : Int → Int} {a : Bool} {t h x tl : Int} {st qv : Int → Int} (hb : BI g a t st h x tl qv) (hx : 0 ≤ x ∧ x < 8) (hh : h < tl) (h0 : st x = 0) (he : m_edge g a (qv h) x = true) : BI g a t (ui st x (st (qv h) + 1)) h (x + 1) (tl + 1) (ui qv tl x) := by
  obtain ⟨c1, c2, c3, c4, c5, c6, c7, c8, c9, c10⟩ := hb
  have hqh := c2 h c1.1 hh
  have hsh := c6 _ hqh.1 hqh.2
  have q1 : ∀ i, i < tl → ui qv tl x i = qv i := fun i hi => ui_n (by omega)
  have q2 : ui qv tl x tl = x := ui_s
  have s1 : ui st x (st (qv h) + 1) x = st (qv h) + 1 := ui_s
  have s2 : ∀ y, y ≠ x → ui st x (st (qv h) + 1) y = st y := fun y hy => ui_n hy
  have s3 : ∀ i, 1 ≤ i → i < tl → qv i ≠ x := fun i h1 h2 h3 => by have := c4 i h1 h2; rw [h3] at this; omega
  have lev : m_edge g a t t = false → bfL st qv h = st (qv h) := by
    intro hn
    unfold bfL
    split
    · rename_i hz
      rw [hz, c3]
      exact ((c10 hn).1 hz).symm
    · rfl
  have lv2 : ∀ i, 0 ≤ i → i < tl → bfL (ui st x (st (qv h) + 1)) (ui qv tl x) i = bfL st qv i := by
    intro i h1 h2
    unfold bfL
    split
    · rfl
    · rw [q1 i h2, s2 _ (s3 i (by omega) h2)]
  have lv3 : bfL (ui st x (st (qv h) + 1)) (ui qv tl x) tl = st (qv h) + 1 := by
    unfold bfL
    rw [if_neg (by omega), q2, s1]
  refine ⟨by omega, fun i h1 h2 => ?_, by rw [q1 0 (by omega)]; exact c3, fun i h1 h2 => ?_, fun y h1 h2 h3 => ?_, fun y h1 h2 => ?_, ?_, fun i v h1 h2 h3 h4 h5 h6 => ?_, fun hl => ?_, fun hn => ⟨fun hz => ?_, fun i j h1 h2 h3 => ?_, fun _ y h1 h2 => ?_, fun i v h1 h2 h3 h4 h5 h6 => ?_⟩⟩
  · by_cases hi : i = tl
    · rw [hi, q2]; exact hx
    · rw [q1 i (by omega)]; exact c2 i h1 (by omega)
  · by_cases hi : i = tl
    · rw [hi, q2, s1]; omega
    · rw [q1 i (by omega), s2 _ (s3 i h1 (by omega))]; exact c4 i h1 (by omega)
  · by_cases hy : y = x
    · exact ⟨tl, by omega, by omega, by rw [q2, hy]⟩
    · rw [s2 y hy] at h3
      obtain ⟨i, a1, a2, a3⟩ := c5 y h1 h2 h3
      exact ⟨i, a1, by omega, by rw [q1 i a2]; exact a3⟩
  · by_cases hy : y = x
    · subst hy
      rw [s1]
      refine ⟨by omega, by omega, fun _ => ?_⟩
      rw [show (st (qv h) + 1).toNat = (st (qv h)).toNat + 1 by omega]
      refine m_nextOf_iff.mpr ⟨qv h, hqh.1, hqh.2, ?_, he⟩
      by_cases hz : 0 < st (qv h)
      · exact hsh.2.2 hz
      · have hh0 : h = 0 := by
          apply Classical.byContradiction
          intro hne
          exact hz (c4 h (by omega) hh)
        rw [show st (qv h) = 0 by omega, hh0, c3]
        exact decide_eq_true rfl
    · rw [s2 y hy]
      have := c6 y h1 h2
      exact ⟨this.1, by omega, this.2.2⟩
  · show sumN (fun y => b2 (decide (0 < ui st x (st (qv h) + 1) y))) 8 = tl + 1 - 1
    have c7' : sumN (fun y => b2 (decide (0 < st y))) 8 = tl - 1 := c7
    rw [sumN_ui (f := fun y => b2 (decide (0 < st y))) (x := x) (d := 1) 8 ⟨hx.1, by omega⟩ (fun k hk => by show b2 (decide (0 < ui st x (st (qv h) + 1) k)) = _; rw [s2 k hk]) (by show b2 (decide (0 < ui st x (st (qv h) + 1) x)) = b2 (decide (0 < st x)) + 1; rw [s1, h0, b2_pos (by omega)]; rfl), c7']
    omega
  · have hi : i < tl := by omega
    rw [q1 i hi] at h6
    by_cases hv : v = x
    · rw [hv, s1]; omega
    · rw [s2 v hv]; exact c8 i v h1 hi (by omega) h4 h5 h6
  · by_cases htx : t = x
    · have hh0 : h = 0 := by
        apply Classical.byContradiction
        intro hne
        have ht8 := c2 0 (by omega) (by omega)
        rw [c3] at ht8
        have := c8 0 t (by omega) (by omega) (by omega) ht8.1 ht8.2 (by rw [c3]; exact hl)
        rw [htx] at this
        omega
      rw [htx, s1, hh0, c3, htx, h0]
      decide
    · rw [s2 t htx]; exact c9 hl
  · have htx : t ≠ x := by
      intro htx
      rw [hz, c3, ← htx, hn] at he
      cases he
    rw [s2 t htx]
    exact (c10 hn).1 hz
  · have hm := (c10 hn).2.2.1 hh
    by_cases hj : j = tl
    · rw [hj, lv3]
      by_cases hi : i = tl
      · rw [hi, lv3]; omega
      · rw [lv2 i h1 (by omega), ← lev hn]
        unfold bfL
        split
        · have := hm t; have l0 : 0 ≤ (if h = 0 then 0 else st (qv h)) := by split <;> omega
          omega
        · have q5 := c2 i h1 (by omega)
          exact hm (qv i) q5.1 q5.2
    · rw [lv2 j (by omega) (by omega), lv2 i h1 (by omega)]
      exact (c10 hn).2.1 i j h1 h2 (by omega)
  · rw [lv2 h c1.1 hh]
    by_cases hy : y = x
    · rw [hy, s1, lev hn]; omega
    · rw [s2 y hy]; exact (c10 hn).2.2.1 hh y h1 h2
  · have hi : i < tl := by omega
    rw [q1 i hi] at h6
    rw [lv2 i h1 hi]
    by_cases hv : v = x
    · subst hv
      by_cases hih : i = h
      · rw [hih, s1, lev hn]; omega
      · have := c8 i v h1 hi (by omega) h4 h5 h6
        omega
    · rw [s2 v hv]; exact (c10 hn).2.2.2 i v h1 hi (by omega) h4 h5 h6
/-- the next item -/
theorem BI.next {g : Int → Int} {a : Bool} {t h tl : Int} {st qv : Int → Int} (hb : BI g a t st h 8 tl qv) (hh : h < tl) : BI g a t st (h + 1) 0 tl qv := by
  obtain ⟨c1, c2, c3, c4, c5, c6, c7, c8, c9, c10⟩ := hb
  refine ⟨by omega, c2, c3, c4, c5, c6, c7, fun i v h1 h2 h3 h4 h5 h6 => c8 i v h1 h2 (by omega) h4 h5 h6, c9, fun hn => ⟨fun hz => by omega, (c10 hn).2.1, fun h9 y h1 h2 => ?_, fun i v h1 h2 h3 h4 h5 h6 => (c10 hn).2.2.2 i v h1 h2 (by omega) h4 h5 h6⟩⟩
  have q1 := (c10 hn).2.2.1 hh y h1 h2
  have q2 := (c10 hn).2.1 h (h + 1) c1.1 (by omega) h9
  omega
/-- what the search answers -/
def BE (g : Int → Int) (a : Bool) (t : Int) (st : Int → Int) : Prop := (∀ y, 0 ≤ y → y < 8 → (0 ≤ st y ∧ st y ≤ 8) ∧ (0 < st y ↔ Relation.TransGen (ED g a) t y)) ∧ (0 < st t → wkA g a (st t).toNat t t = true) ∧ ∀ n : Nat, 1 ≤ n → wkA g a n t t = true → 0 < st t ∧ st t ≤ n
theorem BI.fin {g : Int → Int} {a : Bool} {t h tl : Int} {st qv : Int → Int} (hb : BI g a t st h 0 tl qv) (hh : h = tl) : BE g a t st := by
  have hr := fun y (hy : 0 ≤ y ∧ y < 8) => hb.str hy
  obtain ⟨c1, c2, c3, c4, c5, c6, c7, c8, c9, c10⟩ := hb
  subst hh
  have ht := c2 0 (by omega) (by omega)
  rw [c3] at ht
  have hf : ∀ y, 0 ≤ y ∧ y < 8 → 0 < st y → Relation.TransGen (ED g a) t y := by
    intro y hy h0
    have := (c6 y hy.1 hy.2).2.2 h0
    rw [show (st y).toNat = ((st y).toNat - 1) + 1 by omega] at this
    exact wkA_tg ht _ y hy this
  have hg : ∀ y, Relation.TransGen (ED g a) t y → 0 < st y := by
    intro y hy
    induction hy with
    | single h9 => exact c8 0 _ (by omega) (by omega) (by omega) h9.2.1.1 h9.2.1.2 (by rw [c3]; exact h9.2.2)
    | tail _ h9 ih =>
      obtain ⟨i, a1, a2, a3⟩ := c5 _ h9.1.1 h9.1.2 ih
      exact c8 i _ (by omega) a2 (by omega) h9.2.1.1 h9.2.1.2 (by rw [a3]; exact h9.2.2)
  refine ⟨fun y h1 h2 => ⟨hr y ⟨h1, h2⟩, hf y ⟨h1, h2⟩, hg y⟩, (c6 t ht.1 ht.2).2.2, fun n hn hw => ?_⟩
  have hpos : 0 < st t := by
    refine hg t ?_
    rw [show n = (n - 1) + 1 by omega] at hw
    exact wkA_tg ht _ t ht hw
  refine ⟨hpos, ?_⟩
  cases hl : m_edge g a t t with
  | true => have := c9 hl; omega
  | false =>
    have hc := (c10 hl).2.2.2
    have hall : ∀ (n : Nat) (y : Int), 0 ≤ y ∧ y < 8 → wkA g a (n + 1) t y = true → st y ≤ n + 1 := by
      intro n
      induction n with
      | zero =>
        intro y hy h
        obtain ⟨k, h1, h2, h3, h4⟩ := m_nextOf_iff.mp h
        have h3 : k = t := of_decide_eq_true h3
        subst h3
        have := hc 0 y (by omega) (by omega) (by omega) hy.1 hy.2 (by rw [c3]; exact h4)
        unfold bfL at this
        rw [if_pos rfl] at this
        omega
      | succ n ih =>
        intro y hy h
        obtain ⟨k, h1, h2, h3, h4⟩ := m_nextOf_iff.mp h
        have h5 := ih k ⟨h1, h2⟩ h3
        have h6 := hg k (wkA_tg ht _ k ⟨h1, h2⟩ h3)
        obtain ⟨i, a1, a2, a3⟩ := c5 k h1 h2 h6
        have := hc i y (by omega) a2 (by omega) hy.1 hy.2 (by rw [a3]; exact h4)
        unfold bfL at this
        rw [if_neg (by omega), a3] at this
        omega
    have := hall (n - 1) t ht (by rw [show n - 1 + 1 = n by omega]; exact hw)
    omega
theorem BE.r {g : Int → Int} {a : Bool} {t : Int} {st : Int → Int} (h : BE g a t st) {y : Int} (hy : 0 ≤ y ∧ y < 8) : 0 ≤ st y ∧ st y ≤ 8 := (h.1 y hy.1 hy.2).1
theorem BE.reach {g : Int → Int} {a : Bool} {t : Int} {st : Int → Int} (h : BE g a t st) {y : Int} (hy : 0 ≤ y ∧ y < 8) : m_reach g a t y = decide (0 < st y) := by
  by_cases h0 : 0 < st y
  · rw [decide_eq_true h0]; exact dP_t ((h.1 y hy.1 hy.2).2.mp h0)
  · rw [decide_eq_false h0]; exact dP_f (fun hq => h0 ((h.1 y hy.1 hy.2).2.mpr hq))
theorem BE.hit {g : Int → Int} {t : Int} {st : Int → Int} (h : BE g false t st) : (0 < st t → m_hit g (st t) t = true) ∧ ∀ n, 1 ≤ n → m_hit g n t = true → 0 < st t ∧ st t ≤ n := by
  refine ⟨fun h0 => ?_, fun n hn hw => ?_⟩
  · have := h.2.1 h0
    rw [wkA_f] at this
    exact this
  · have := h.2.2 n.toNat (by omega) (by rw [wkA_f]; exact hw)
    omega

/-! ===== ways, plain: the table of ways ===== -/
/-- the table M after the overs before k: it holds the steps, only ways, and is closed under the overs done -/
def WI (g : Int → Int) (a : Bool) (k : Int) (M : Int → Int → Bool) : Prop := (∀ i j, 0 ≤ i → i < 8 → 0 ≤ j → j < 8 → m_edge g a i j = true → M i j = true) ∧ (∀ i j, 0 ≤ i → i < 8 → 0 ≤ j → j < 8 → M i j = true → Relation.TransGen (ED g a) i j) ∧ ∀ c i j, 0 ≤ c → c < k → 0 ≤ i → i < 8 → 0 ≤ j → j < 8 → M i c = true → M c j = true → M i j = true
theorem tg_trans {α : Type} {R : α → α → Prop} {x y z : α} (h1 : Relation.TransGen R x y) (h2 : Relation.TransGen R y z) : Relation.TransGen R x z := by
  induction h2 with
  | single h => exact Relation.TransGen.tail h1 h
  | tail _ h ih => exact Relation.TransGen.tail ih h
theorem WI_init {g : Int → Int} {a : Bool} {M : Int → Int → Bool} (h : ∀ i j, 0 ≤ i → i < 8 → 0 ≤ j → j < 8 → M i j = m_edge g a i j) : WI g a 0 M := ⟨fun i j h1 h2 h3 h4 h5 => by rw [h i j h1 h2 h3 h4]; exact h5, fun i j h1 h2 h3 h4 h5 => Relation.TransGen.single ⟨⟨h1, h2⟩, ⟨h3, h4⟩, by rw [← h i j h1 h2 h3 h4]; exact h5⟩, fun c i j h1 h2 => by omega⟩
/-- the table in the round k: the rows before i0 are done, of row i0 the places before j0 -/
def wst (M : Int → Int → Bool) (k i0 j0 : Int) : Int → Int → Bool := fun i j => if i < i0 ∨ (i = i0 ∧ j < j0) then M i j || (M i k && M k j) else M i j
theorem wst_0 (M : Int → Int → Bool) (k : Int) {i j : Int} (hi : 0 ≤ i) (hj : 0 ≤ j) : wst M k 0 0 i j = M i j := if_neg (by omega)
theorem wst_row (M : Int → Int → Bool) (k i0 : Int) {i j : Int} (hj : 0 ≤ j ∧ j < 8) : wst M k (i0 + 1) 0 i j = wst M k i0 8 i j := by
  unfold wst
  by_cases h : i < i0 ∨ i = i0 ∧ j < 8
  · rw [if_pos h, if_pos (by omega)]
  · rw [if_neg h, if_neg (by omega)]
theorem wst_col (M : Int → Int → Bool) (k i0 j0 i : Int) : wst M k i0 j0 i k = M i k := by
  unfold wst
  split
  · cases M i k <;> cases M k k <;> rfl
  · rfl
theorem wst_mid (M : Int → Int → Bool) (k i0 j0 j : Int) : wst M k i0 j0 k j = M k j := by
  unfold wst
  split
  · cases M k k <;> cases M k j <;> rfl
  · rfl
/-- one place of the round -/
theorem wst_step (M : Int → Int → Bool) (k i0 j0 i j : Int) : wst M k i0 (j0 + 1) i j = if i = i0 ∧ j = j0 then (wst M k i0 j0 i0 j0 || (wst M k i0 j0 i0 k && wst M k i0 j0 k j0)) else wst M k i0 j0 i j := by
  rw [wst_col, wst_mid]
  unfold wst
  by_cases h : i = i0 ∧ j = j0
  · obtain ⟨rfl, rfl⟩ := h
    rw [if_pos (show i < i ∨ i = i ∧ j < j + 1 by omega), if_neg (show ¬ (i < i ∨ i = i ∧ j < j) by omega), if_pos ⟨rfl, rfl⟩]
  · rw [if_neg h]
    by_cases h2 : i < i0 ∨ i = i0 ∧ j < j0
    · rw [if_pos h2, if_pos (by omega)]
    · rw [if_neg h2, if_neg (by omega)]
theorem WI_s {g : Int → Int} {a : Bool} {k : Int} {M : Int → Int → Bool} (hk : 0 ≤ k ∧ k < 8) (h : WI g a k M) : WI g a (k + 1) (wst M k 8 0) := by
  obtain ⟨h1, h2, h3⟩ := h
  have e : ∀ i j, i < 8 → (wst M k 8 0 i j = true ↔ (M i j = true ∨ (M i k = true ∧ M k j = true))) := by
    intro i j hi
    unfold wst
    rw [if_pos (Or.inl hi), Bool.or_eq_true, Bool.and_eq_true]
  refine ⟨fun i j a1 a2 a3 a4 a5 => (e i j a2).mpr (Or.inl (h1 i j a1 a2 a3 a4 a5)), fun i j a1 a2 a3 a4 a5 => ?_, fun c i j b1 b2 a1 a2 a3 a4 a5 a6 => ?_⟩
  · rcases (e i j a2).mp a5 with q | ⟨q1, q2⟩
    · exact h2 i j a1 a2 a3 a4 q
    · exact tg_trans (h2 i k a1 a2 hk.1 hk.2 q1) (h2 k j hk.1 hk.2 a3 a4 q2)
  · refine (e i j a2).mpr ?_
    by_cases hc : c = k
    · subst hc
      have q1 : M i c = true := by
        rcases (e i c a2).mp a5 with q | ⟨q, _⟩ <;> exact q
      have q2 : M c j = true := by
        rcases (e c j hk.2).mp a6 with q | ⟨_, q⟩ <;> exact q
      exact Or.inr ⟨q1, q2⟩
    · have hc2 : c < k := by omega
      have hc8 : c < 8 := by omega
      rcases (e i c a2).mp a5 with p1 | ⟨p1, p2⟩ <;> rcases (e c j hc8).mp a6 with q1 | ⟨q1, q2⟩
      · exact Or.inl (h3 c i j b1 hc2 a1 a2 a3 a4 p1 q1)
      · exact Or.inr ⟨h3 c i k b1 hc2 a1 a2 hk.1 hk.2 p1 q1, q2⟩
      · exact Or.inr ⟨p1, h3 c k j b1 hc2 hk.1 hk.2 a3 a4 p2 q1⟩
      · exact Or.inr ⟨p1, q2⟩
theorem WI_fin {g : Int → Int} {a : Bool} {M : Int → Int → Bool} (h : WI g a 8 M) {i j : Int} (hi : 0 ≤ i ∧ i < 8) (hj : 0 ≤ j ∧ j < 8) : M i j = m_reach g a i j := by
  obtain ⟨h1, h2, h3⟩ := h
  have hin : ∀ v, Relation.TransGen (ED g a) i v → M i v = true := by
    intro v hv
    induction hv with
    | single h => exact h1 _ _ hi.1 hi.2 h.2.1.1 h.2.1.2 h.2.2
    | tail _ h ih => exact h3 _ i _ h.1.1 h.1.2 hi.1 hi.2 h.2.1.1 h.2.1.2 ih (h1 _ _ h.1.1 h.1.2 h.2.1.1 h.2.1.2 h.2.2)
  cases hm : M i j with
  | true => exact (dP_t (h2 i j hi.1 hi.2 hj.1 hj.2 hm)).symm
  | false => exact (dP_f (fun q => by rw [hin j q] at hm; cases hm)).symm

/-! ===== ways, plain: the longest ways ===== -/
theorem tg_head {α : Type} {R : α → α → Prop} {x y : α} (h : Relation.TransGen R x y) : ∃ u, R x u ∧ (u = y ∨ Relation.TransGen R u y) := by
  induction h with
  | single h => exact ⟨_, h, Or.inl rfl⟩
  | tail _ h ih =>
    obtain ⟨u, h1, h2⟩ := ih
    refine ⟨u, h1, Or.inr ?_⟩
    rcases h2 with rfl | h2
    · exact Relation.TransGen.single h
    · exact Relation.TransGen.tail h2 h
theorem tg_cons {α : Type} {R : α → α → Prop} {x u y : α} (h : R x u) (h2 : u = y ∨ Relation.TransGen R u y) : Relation.TransGen R x y := by
  rcases h2 with rfl | h2
  · exact Relation.TransGen.single h
  · induction h2 with
    | single h3 => exact Relation.TransGen.tail (Relation.TransGen.single h) h3
    | tail _ h3 ih => exact Relation.TransGen.tail ih h3
/-- a recipe, and all that it leads to has one -/
def OKT (g : Int → Int) (t : Int) : Prop := m_has g t = true ∧ ∀ k, Relation.TransGen (ED g false) t k → m_has g k = true
theorem ED_kid {g : Int → Int} {t k : Int} (hsw : SwOK g) (ht : 0 ≤ t ∧ t < 8) (hh : m_has g t = true) (hk : 0 ≤ k ∧ k < m_of g t 2) (hd : m_dir g t k = true) : ED g false t (m_stands g (m_need g t k)) := by
  refine ⟨ht, m_stands_r hsw (m_need_r g t k), ?_⟩
  unfold m_edge
  rw [hh, Bool.true_and]
  exact exB_iff.mpr ⟨k, hk.1, hk.2, by rw [Bool.false_or, hd, Bool.true_and]; exact decide_eq_true rfl⟩
theorem kid_ED {g : Int → Int} {t u : Int} (h : m_edge g false t u = true) : m_has g t = true ∧ ∃ k, 0 ≤ k ∧ k < m_of g t 2 ∧ m_dir g t k = true ∧ m_stands g (m_need g t k) = u := by
  unfold m_edge at h
  rw [Bool.and_eq_true] at h
  obtain ⟨k, h1, h2, h3⟩ := exB_iff.mp h.2
  rw [Bool.false_or, Bool.and_eq_true] at h3
  exact ⟨h.1, k, h1, h2, h3.1, of_decide_eq_true h3.2⟩
theorem OKT_iff {g : Int → Int} {t : Int} (hsw : SwOK g) (ht : 0 ≤ t ∧ t < 8) (hh : m_has g t = true) : OKT g t ↔ ∀ k, 0 ≤ k → k < m_of g t 2 → m_dir g t k = true → OKT g (m_stands g (m_need g t k)) := by
  constructor
  · rintro ⟨_, h⟩ k h1 h2 h3
    have he := ED_kid hsw ht hh ⟨h1, h2⟩ h3
    exact ⟨h _ (Relation.TransGen.single he), fun v hv => h v (tg_cons he (Or.inr hv))⟩
  · intro h
    refine ⟨hh, fun v hv => ?_⟩
    obtain ⟨u, h1, h2⟩ := tg_head hv
    obtain ⟨_, k, a1, a2, a3, a4⟩ := kid_ED h1.2.2
    have h3 := h k a1 a2 a3
    rw [a4] at h3
    rcases h2 with rfl | h2
    · exact h3.1
    · exact h3.2 v h2
theorem maxN_congr {f h : Int → Int} (n : Nat) (e : ∀ k : Int, 0 ≤ k → k < n → f k = h k) : maxN f n = maxN h n := by
  induction n with
  | zero => rfl
  | succ n ih =>
    simp only [maxN]
    rw [ih (fun k a b => e k a (by omega)), e n (by omega) (by omega)]
theorem maxI_congr {f h : Int → Int} {n : Int} (e : ∀ k : Int, 0 ≤ k → k < n → f k = h k) : maxI f n = maxI h n := maxN_congr n.toNat (fun k a b => e k a (by omega))
theorem maxN_le {f : Int → Int} (n : Nat) {k : Int} (h : 0 ≤ k ∧ k < n) : f k ≤ maxN f n := by
  induction n with
  | zero => omega
  | succ n ih =>
    simp only [maxN]
    by_cases hk : k = n
    · rw [hk]; omega
    · have := ih (by omega); omega
theorem maxN_is {f : Int → Int} (n : Nat) : maxN f n = 0 ∨ ∃ k : Int, 0 ≤ k ∧ k < n ∧ maxN f n = f k := by
  induction n with
  | zero => exact Or.inl rfl
  | succ n ih =>
    simp only [maxN]
    by_cases h : maxN f n ≤ f n
    · exact Or.inr ⟨n, by omega, by omega, by omega⟩
    · rw [show max (maxN f n) (f n) = maxN f n by omega]
      rcases ih with ih | ⟨k, h1, h2, h3⟩
      · exact Or.inl ih
      · exact Or.inr ⟨k, h1, by omega, h3⟩
theorem maxN_0 (f : Int → Int) (n : Nat) : 0 ≤ maxN f n := by
  induction n with
  | zero => exact Int.le_refl 0
  | succ n ih => simp only [maxN]; omega
theorem maxI_eq {f h : Int → Int} {m n : Int} (h1 : ∀ k, 0 ≤ k → k < m → 0 < f k → ∃ j, 0 ≤ j ∧ j < n ∧ f k ≤ h j) (h2 : ∀ k, 0 ≤ k → k < n → 0 < h k → ∃ j, 0 ≤ j ∧ j < m ∧ h k ≤ f j) : maxI f m = maxI h n := by
  have a1 := maxN_is (f := f) m.toNat
  have a2 := maxN_is (f := h) n.toNat
  have a3 := maxN_0 f m.toNat
  have a4 := maxN_0 h n.toNat
  have b1 : maxN f m.toNat ≤ maxN h n.toNat := by
    rcases a1 with a1 | ⟨k, q1, q2, q3⟩
    · omega
    · by_cases hz : 0 < f k
      · obtain ⟨j, p1, p2, p3⟩ := h1 k q1 (by omega) hz
        have := maxN_le (f := h) n.toNat (k := j) (by omega)
        omega
      · omega
  have b2 : maxN h n.toNat ≤ maxN f m.toNat := by
    rcases a2 with a2 | ⟨k, q1, q2, q3⟩
    · omega
    · by_cases hz : 0 < h k
      · obtain ⟨j, p1, p2, p3⟩ := h2 k q1 (by omega) hz
        have := maxN_le (f := f) m.toNat (k := j) (by omega)
        omega
      · omega
  show maxN f m.toNat = maxN h n.toNat
  omega
/-- the book's longest way is the reference's -/
theorem k_lng_eq {g : Int → Int} {r : Int → Nat} (htw : TW g) (hsw : SwOK g) (htm : TM g) (hrk : RK g r) : ∀ (d : Nat) (t : Int), 0 ≤ t ∧ t < 8 → r t < d → (OKT g t → k_lng g d t = m_lng g d t) ∧ (¬ OKT g t → k_lng g d t = -1) := by
  intro d
  induction d with
  | zero => intro t _ h; omega
  | succ d ih =>
    intro t ht hd
    have ihk : ∀ k, 0 ≤ k → k < m_of g t 2 → m_dir g t k = true → (OKT g (m_stands g (m_need g t k)) → k_lng g d (m_stands g (m_need g t k)) = m_lng g d (m_stands g (m_need g t k))) ∧ (¬ OKT g (m_stands g (m_need g t k)) → k_lng g d (m_stands g (m_need g t k)) = -1) := fun k h1 h2 h3 => ih _ (m_stands_r hsw (m_need_r g t k)) (by have := hrk t k ht.1 ht.2 h1 h2 h3; omega)
    have hb : ∀ k, 0 ≤ m_lng g d (m_stands g (m_need g t k)) := fun k => (m_lng_r htw hsw htm d _ (m_stands_r hsw (m_need_r g t k)).1 (m_stands_r hsw (m_need_r g t k)).2).1
    refine ⟨fun hok => ?_, fun hok => ?_⟩
    · have hk := (OKT_iff hsw ht hok.1).mp hok
      simp only [k_lng, m_lng]
      rw [if_pos hok.1, if_neg, Int.add_comm]
      · congr 1
        refine maxI_congr (fun k h1 h2 => ?_)
        show (if m_dir g t k = true then k_lng g d (m_stands g (m_need g t k)) else 0) = (if m_dir g t k = true then m_lng g d (m_stands g (m_need g t k)) else 0)
        split
        · rename_i h3; exact (ihk k h1 h2 h3).1 (hk k h1 h2 h3)
        · rfl
      · intro hex
        obtain ⟨k, h1, h2, h3⟩ := exB_iff.mp hex
        rw [Bool.and_eq_true] at h3
        have h4 := of_decide_eq_true h3.2
        rw [(ihk k h1 h2 h3.1).1 (hk k h1 h2 h3.1)] at h4
        have := hb k
        omega
    · simp only [k_lng]
      by_cases hh : m_has g t = true
      · rw [if_pos hh, if_pos]
        apply Classical.byContradiction
        intro hne
        apply hok
        refine (OKT_iff hsw ht hh).mpr (fun k h1 h2 h3 => ?_)
        apply Classical.byContradiction
        intro hno
        apply hne
        exact exB_iff.mpr ⟨k, h1, h2, by rw [h3, Bool.true_and]; exact decide_eq_true ((ihk k h1 h2 h3).2 hno)⟩
      · rw [if_neg hh]
/-- the sums after some rounds -/
noncomputable def k_rnd (g : Int → Int) : Nat → Int → Int
  | 0, _ => 0
  | n + 1, t => if m_has g t = true then (if exB (fun u => m_edge g false t u && decide (k_rnd g n u = -1)) 8 = true then -1 else m_of g t 1 + maxI (fun u => if m_edge g false t u = true then k_rnd g n u else 0) 8) else -1
theorem k_rnd_eq {g : Int → Int} {r : Int → Nat} (hsw : SwOK g) (hrk : RK g r) : ∀ (d : Nat) (t : Int), 0 ≤ t ∧ t < 8 → r t < d → k_rnd g d t = k_lng g d t := by
  intro d
  induction d with
  | zero => intro t _ h; omega
  | succ d ih =>
    intro t ht hd
    simp only [k_rnd, k_lng]
    by_cases hh : m_has g t = true
    · rw [if_pos hh, if_pos hh]
      have ihk : ∀ k, 0 ≤ k → k < m_of g t 2 → m_dir g t k = true → k_rnd g d (m_stands g (m_need g t k)) = k_lng g d (m_stands g (m_need g t k)) := fun k h1 h2 h3 => ih _ (m_stands_r hsw (m_need_r g t k)) (by have := hrk t k ht.1 ht.2 h1 h2 h3; omega)
      have e1 : exB (fun u => m_edge g false t u && decide (k_rnd g d u = -1)) 8 = exB (fun k => m_dir g t k && decide (k_lng g d (m_stands g (m_need g t k)) = -1)) (m_of g t 2) := by
        rw [Bool.eq_iff_iff, exB_iff, exB_iff]
        constructor
        · rintro ⟨u, h1, h2, h3⟩
          rw [Bool.and_eq_true] at h3
          obtain ⟨_, k, a1, a2, a3, a4⟩ := kid_ED h3.1
          refine ⟨k, a1, a2, ?_⟩
          have h4 := of_decide_eq_true h3.2
          rw [← a4, ihk k a1 a2 a3] at h4
          rw [a3, Bool.true_and]
          exact decide_eq_true h4
        · rintro ⟨k, h1, h2, h3⟩
          rw [Bool.and_eq_true] at h3
          have h5 := m_stands_r hsw (m_need_r g t k)
          refine ⟨m_stands g (m_need g t k), h5.1, h5.2, ?_⟩
          rw [(ED_kid hsw ht hh ⟨h1, h2⟩ h3.1).2.2, Bool.true_and, ihk k h1 h2 h3.1]
          exact h3.2
      rw [e1]
      congr 2
      refine maxI_eq (fun u h1 h2 h3 => ?_) (fun k h1 h2 h3 => ?_)
      · by_cases he : m_edge g false t u = true
        · obtain ⟨_, k, a1, a2, a3, a4⟩ := kid_ED he
          refine ⟨k, a1, a2, ?_⟩
          show (if m_edge g false t u = true then k_rnd g d u else 0) ≤ (if m_dir g t k = true then k_lng g d (m_stands g (m_need g t k)) else 0)
          rw [if_pos he, if_pos a3, ← a4, ihk k a1 a2 a3]
          exact Int.le_refl _
        · rw [if_neg he] at h3; omega
      · by_cases hd3 : m_dir g t k = true
        · have h5 := m_stands_r hsw (m_need_r g t k)
          refine ⟨m_stands g (m_need g t k), h5.1, h5.2, ?_⟩
          show (if m_dir g t k = true then k_lng g d (m_stands g (m_need g t k)) else 0) ≤ (if m_edge g false t (m_stands g (m_need g t k)) = true then k_rnd g d (m_stands g (m_need g t k)) else 0)
          rw [if_pos hd3, if_pos (ED_kid hsw ht hh ⟨h1, h2⟩ hd3).2.2, ihk k h1 h2 hd3]
          exact Int.le_refl _
        · rw [if_neg hd3] at h3; omega
    · rw [if_neg hh, if_neg hh]
theorem OKT_way {g : Int → Int} {t : Int} : (c_way g (t + 97) = 0 → 0 ≤ t ∧ t < 8 ∧ OKT g t) ∧ (0 ≤ t ∧ t < 8 → ¬ c_way g (t + 97) = 0 → c_way g (t + 97) = 2 ∧ ¬ OKT g t) := by
  unfold c_way c_none
  rw [show t + 97 - 97 = t by omega]
  constructor
  · intro h
    by_cases h1 : 97 ≤ t + 97 ∧ t + 97 ≤ 104
    · rw [if_pos h1] at h
      by_cases h2 : m_has g t = true
      · rw [if_pos h2, if_neg (by omega)] at h
        refine ⟨by omega, by omega, h2, fun k hk => ?_⟩
        apply Classical.byContradiction
        intro hno
        have hr : 0 ≤ k ∧ k < 8 := by cases hk with
          | single q => exact q.2.1
          | tail _ q => exact q.2.1
        rw [if_pos (exB_iff.mpr ⟨k, hr.1, hr.2, by rw [show m_reach g false t k = true from dP_t hk, Bool.eq_false_iff.mpr hno]; rfl⟩)] at h
        omega
      · rw [if_neg h2, if_pos (by omega)] at h; omega
    · rw [if_neg h1, if_pos (by omega)] at h; omega
  · intro ht h
    rw [if_pos (show 97 ≤ t + 97 ∧ t + 97 ≤ 104 by omega)] at h ⊢
    by_cases h2 : m_has g t = true
    · rw [if_pos h2, if_neg (by omega)] at h ⊢
      by_cases h3 : exB (fun k => m_reach g false t k && !(m_has g k)) 8 = true
      · rw [if_pos h3]
        refine ⟨rfl, fun hok => ?_⟩
        obtain ⟨k, q1, q2, q3⟩ := exB_iff.mp h3
        rw [Bool.and_eq_true] at q3
        have := hok.2 k (dP_iff.mp q3.1)
        rw [this] at q3
        exact absurd q3.2 (by decide)
      · rw [if_neg h3] at h; omega
    · rw [if_neg h2, if_pos (by omega)]
      exact ⟨rfl, fun hok => h2 hok.1⟩

/-! ===== ways, plain: the search for the sets of tools that lead to one another ===== -/
def RR (g : Int → Int) (v w : Int) : Prop := v = w ∨ Relation.TransGen (ED g true) v w
theorem RR_trans {g : Int → Int} {x y z : Int} (h1 : RR g x y) (h2 : RR g y z) : RR g x z := by
  rcases h1 with rfl | h1
  · exact h2
  · rcases h2 with rfl | h2
    · exact Or.inr h1
    · exact Or.inr (tg_trans h1 h2)
theorem RR_edge {g : Int → Int} {x y : Int} (h : ED g true x y) : RR g x y := Or.inr (Relation.TransGen.single h)
/-- gy: the tools under visit -/
def TJ (g : Int → Int) (gy : Int → Bool) (ord io qv : Int → Int) (tl fnd sum : Int) : Prop :=
  0 ≤ tl ∧ (∀ i, 0 ≤ i → i < tl → (0 ≤ qv i ∧ qv i < 8) ∧ io (qv i) = 1) ∧ (∀ v, 0 ≤ v → v < 8 → (io v = 0 ∨ io v = 1) ∧ (io v = 1 → ∃ i, 0 ≤ i ∧ i < tl ∧ qv i = v)) ∧
  (∀ i j, 0 ≤ i → i < j → j < tl → ord (qv i) < ord (qv j)) ∧ (∀ v, 0 ≤ v → v < 8 → (0 ≤ ord v ∧ ord v ≤ fnd) ∧ (io v = 1 → 0 < ord v) ∧ (gy v = true → io v = 1)) ∧
  (∀ v, 0 ≤ v → v < 8 → io v = 1 → ∃ y, (0 ≤ y ∧ y < 8) ∧ gy y = true ∧ ord y ≤ ord v ∧ RR g v y) ∧
  (∀ y v, 0 ≤ y → y < 8 → 0 ≤ v → v < 8 → gy y = true → io v = 1 → ord y ≤ ord v → RR g y v) ∧
  (∀ v w, ED g true v w → 0 < ord v → gy v = false → 0 < ord w) ∧
  (∀ v w, ED g true v w → 0 < ord v → io v = 0 → 0 < ord w ∧ io w = 0) ∧
  sum = sumI (fun v => b2 (decide (0 < ord v ∧ io v = 0) && m_reach g true v v)) 8 ∧ sumI (fun v => b2 (decide (0 < ord v))) 8 = fnd
theorem TJ.f8 {g : Int → Int} {gy : Int → Bool} {ord io qv : Int → Int} {tl fnd sum : Int} (h : TJ g gy ord io qv tl fnd sum) : 0 ≤ fnd ∧ fnd ≤ 8 := by
  have h1 := h.2.2.2.2.2.2.2.2.2.2
  have := sumN_b (f := fun v => b2 (decide (0 < ord v))) (lo := 0) (hi := 1) 8 (fun k _ _ => b2_r _)
  have h2 : sumN (fun v => b2 (decide (0 < ord v))) 8 = fnd := h1
  omega
theorem TJ.f7 {g : Int → Int} {gy : Int → Bool} {ord io qv : Int → Int} {tl fnd sum x : Int} (h : TJ g gy ord io qv tl fnd sum) (hx : 0 ≤ x ∧ x < 8) (h0 : ord x = 0) : fnd ≤ 7 := by
  have h1 := h.2.2.2.2.2.2.2.2.2.2
  have := sumN_lt (f := fun v => b2 (decide (0 < ord v))) (h := fun _ => 1) 8 (fun k _ _ => (b2_r _).2) (k := x) ⟨hx.1, by omega⟩ (by show b2 (decide (0 < ord x)) < 1; rw [h0]; decide)
  have e2 : sumN (fun _ => 1) 8 = 8 := by decide
  have h2 : sumN (fun v => b2 (decide (0 < ord v))) 8 = fnd := h1
  omega
theorem TJ.tl {g : Int → Int} {gy : Int → Bool} {ord io qv : Int → Int} {tl fnd sum : Int} (h : TJ g gy ord io qv tl fnd sum) : tl ≤ fnd := by
  have f8 := h.f8
  obtain ⟨a0, a1, a2, a3, a4, -⟩ := h
  have : ∀ n : Nat, (n : Int) < tl → (n : Int) + 1 ≤ ord (qv n) := by
    intro n
    induction n with
    | zero =>
      intro hn
      have q := a1 0 (by omega) (by omega)
      have := (a4 _ q.1.1 q.1.2).2.1 q.2
      show (0 : Int) + 1 ≤ ord (qv 0)
      omega
    | succ n ih =>
      intro hn
      have h1 := ih (by omega)
      have h2 := a3 n ((n : Int) + 1) (by omega) (by omega) (by omega)
      show ((n : Int) + 1) + 1 ≤ ord (qv ((n : Int) + 1))
      omega
  by_cases h0 : tl = 0
  · omega
  · have h1 := this (tl - 1).toNat (by omega)
    have e : (((tl - 1).toNat : Nat) : Int) = tl - 1 := by omega
    rw [e] at h1
    have q := a1 (tl - 1) (by omega) (by omega)
    have := (a4 _ q.1.1 q.1.2).1.2
    omega
theorem TJ.qinj {g : Int → Int} {gy : Int → Bool} {ord io qv : Int → Int} {tl fnd sum i j : Int} (h : TJ g gy ord io qv tl fnd sum) (hi : 0 ≤ i ∧ i < tl) (hj : 0 ≤ j ∧ j < tl) (e : qv i = qv j) : i = j := by
  obtain ⟨a0, a1, a2, a3, -⟩ := h
  apply Classical.byContradiction
  intro hne
  by_cases hlt : i < j
  · have := a3 i j hi.1 hlt hj.2
    rw [e] at this; omega
  · have := a3 j i hj.1 (by omega) hi.2
    rw [e] at this; omega
theorem TJ_init {g : Int → Int} {qv : Int → Int} : TJ g (fun _ => false) (fun _ => 0) (fun _ => 0) qv 0 0 0 := by
  have n01 : ¬ (0 : Int) = 1 := by decide
  have nft : ¬ false = true := by decide
  refine ⟨by omega, fun i _ _ => by omega, fun v _ _ => ⟨Or.inl rfl, fun h => absurd h n01⟩, fun i j _ _ _ => by omega, fun v _ _ => ⟨⟨Int.le_refl 0, Int.le_refl 0⟩, fun h => absurd h n01, fun h => absurd h nft⟩, fun v _ _ h => absurd h n01, fun y v _ _ _ _ h => absurd h nft, fun v w _ h => absurd h (Int.lt_irrefl 0), fun v w _ h => absurd h (Int.lt_irrefl 0), ?_, by decide⟩
  have : (fun v : Int => b2 (decide ((0 : Int) < 0 ∧ (0 : Int) = 0) && m_reach g true v v)) = fun _ => 0 := funext fun v => by rw [decide_eq_false (by omega)]; rfl
  show 0 = sumI (fun v => b2 (decide ((0 : Int) < 0 ∧ (0 : Int) = 0) && m_reach g true v v)) 8
  rw [this]
  decide
/-- behind the visit of x -/
def VP (g : Int → Int) (gy : Int → Bool) (x : Int) (ord io qv low : Int → Int) (tl fnd : Int) (ord' io' qv' low' : Int → Int) (tl' fnd' sum' : Int) : Prop :=
  TJ g gy ord' io' qv' tl' fnd' sum' ∧ (∀ v, 0 ≤ v → v < 8 → 0 < ord v → ord' v = ord v ∧ low' v = low v ∧ io' v = io v) ∧ (∀ v, 0 ≤ v → v < 8 → ord v = 0 → 0 < ord' v → fnd < ord' v) ∧
  (tl ≤ tl' ∧ ∀ i, 0 ≤ i → i < tl → qv' i = qv i) ∧ (0 < ord' x ∧ fnd < fnd') ∧ (0 < low' x ∧ low' x ≤ ord' x) ∧
  ((io' x = 1 → ∃ y, (0 ≤ y ∧ y < 8) ∧ io y = 1 ∧ ord y = low' x ∧ RR g x y) ∧ (io' x = 0 → low' x = ord' x)) ∧
  ∀ y z, ED g true y z → ord y = 0 → io' y = 1 → io z = 1 → low' x ≤ ord z
def g1 (gy : Int → Bool) (x : Int) : Int → Bool := fun v => gy v || decide (v = x)
/-- within the visit of x, its nexts before k looked at -/
def VL (g : Int → Int) (gy : Int → Bool) (x k : Int) (ord io qv low : Int → Int) (tl fnd : Int) (ord' io' qv' low' : Int → Int) (tl' fnd' sum' : Int) : Prop :=
  TJ g (g1 gy x) ord' io' qv' tl' fnd' sum' ∧ (∀ v, 0 ≤ v → v < 8 → 0 < ord v → ord' v = ord v ∧ low' v = low v ∧ io' v = io v) ∧ (∀ v, 0 ≤ v → v < 8 → ord v = 0 → 0 < ord' v → fnd < ord' v) ∧
  (tl < tl' ∧ (∀ i, 0 ≤ i → i < tl → qv' i = qv i) ∧ qv' tl = x) ∧ (ord x = 0 ∧ ord' x = fnd + 1 ∧ io' x = 1 ∧ fnd < fnd') ∧ (0 < low' x ∧ low' x ≤ ord' x) ∧
  (low' x = ord' x ∨ ∃ y, (0 ≤ y ∧ y < 8) ∧ io y = 1 ∧ ord y = low' x ∧ RR g x y) ∧
  (∀ y z, ED g true y z → ord y = 0 → io' y = 1 → io z = 1 → (y = x → z < k) → low' x ≤ ord z) ∧ ∀ z, ED g true x z → z < k → 0 < ord' z
section TARJ
variable {g : Int → Int} {gy : Int → Bool} {x k : Int} {ord io qv low ord' io' qv' low' ord2 io2 qv2 low2 : Int → Int} {tl fnd sum tl' fnd' sum' tl2 fnd2 sum2 : Int}
theorem V0 (h : TJ g gy ord io qv tl fnd sum) (hx : 0 ≤ x ∧ x < 8) (h0 : ord x = 0) (hg : ∀ y, 0 ≤ y → y < 8 → gy y = true → RR g y x) : VL g gy x 0 ord io qv low tl fnd (ui ord x (fnd + 1)) (ui io x 1) (ui qv tl x) (ui low x (fnd + 1)) (tl + 1) (fnd + 1) sum := by
  have f8 := h.f8
  obtain ⟨a0, a1, a2, a3, a4, a5, a6, a7, a8, a9, a10⟩ := h
  have hio : io x = 0 := by
    rcases (a2 x hx.1 hx.2).1 with q | q
    · exact q
    · have := (a4 x hx.1 hx.2).2.1 q; omega
  have o1 : ui ord x (fnd + 1) x = fnd + 1 := ui_s
  have o2 : ∀ v, v ≠ x → ui ord x (fnd + 1) v = ord v := fun v hv => ui_n hv
  have i1 : ui io x 1 x = 1 := ui_s
  have i2 : ∀ v, v ≠ x → ui io x 1 v = io v := fun v hv => ui_n hv
  have q1 : ui qv tl x tl = x := ui_s
  have q2 : ∀ i, i < tl → ui qv tl x i = qv i := fun i hi => ui_n (by omega)
  have hqx : ∀ i, 0 ≤ i → i < tl → qv i ≠ x := fun i h1 h2 e => by have := (a1 i h1 h2).2; rw [e] at this; omega
  have hv0 : ∀ v, 0 < ord v → v ≠ x := fun v h1 e => by rw [e] at h1; omega
  have hgx : gy x = false := by
    cases hq : gy x with
    | false => rfl
    | true => have := (a4 x hx.1 hx.2).2.2 hq; omega
  refine ⟨⟨by omega, fun i h1 h2 => ?_, fun v h1 h2 => ⟨?_, fun h3 => ?_⟩, fun i j h1 h2 h3 => ?_, fun v h1 h2 => ⟨?_, fun h3 => ?_, fun h3 => ?_⟩, fun v h1 h2 h3 => ?_, fun y v h1 h2 h3 h4 h5 h6 h7 => ?_, fun v w h1 h2 h3 => ?_, fun v w h1 h2 h3 => ?_, ?_, ?_⟩, fun v h1 h2 h3 => ?_, fun v h1 h2 h3 h4 => ?_, ⟨by omega, fun i h1 h2 => q2 i h2, q1⟩, ⟨h0, o1, i1, by omega⟩, ?_, Or.inl ?_, fun y z h1 h2 h3 h4 h5 => ?_, fun z h1 h2 => ?_⟩
  · by_cases hi : i = tl
    · rw [hi, q1]; exact ⟨hx, i1⟩
    · rw [q2 i (by omega), i2 _ (hqx i h1 (by omega))]; exact a1 i h1 (by omega)
  · by_cases hv : v = x
    · rw [hv, i1]; exact Or.inr rfl
    · rw [i2 v hv]; exact (a2 v h1 h2).1
  · by_cases hv : v = x
    · exact ⟨tl, by omega, by omega, by rw [q1, hv]⟩
    · rw [i2 v hv] at h3
      obtain ⟨i, b1, b2, b3⟩ := (a2 v h1 h2).2 h3
      exact ⟨i, b1, by omega, by rw [q2 i b2]; exact b3⟩
  · rw [q2 i (by omega), o2 _ (hqx i h1 (by omega))]
    by_cases hj : j = tl
    · rw [hj, q1, o1]
      have q := a1 i h1 (by omega)
      have := (a4 _ q.1.1 q.1.2).1.2
      omega
    · rw [q2 j (by omega), o2 _ (hqx j (by omega) (by omega))]; exact a3 i j h1 h2 (by omega)
  · by_cases hv : v = x
    · rw [hv, o1]; omega
    · rw [o2 v hv]; have := (a4 v h1 h2).1; omega
  · by_cases hv : v = x
    · rw [hv, o1]; omega
    · rw [i2 v hv] at h3; rw [o2 v hv]; exact (a4 v h1 h2).2.1 h3
  · by_cases hv : v = x
    · rw [hv, i1]
    · rw [i2 v hv]
      have h4 : (gy v || decide (v = x)) = true := h3
      rw [decide_eq_false hv, Bool.or_false] at h4
      exact (a4 v h1 h2).2.2 h4
  · by_cases hv : v = x
    · refine ⟨x, hx, ?_, by rw [hv]; omega, Or.inl hv⟩
      show (gy x || decide (x = x)) = true
      rw [decide_eq_true rfl, Bool.or_true]
    · rw [i2 v hv] at h3
      obtain ⟨y, b1, b2, b3, b4⟩ := a5 v h1 h2 h3
      refine ⟨y, b1, ?_, ?_, b4⟩
      · show (gy y || decide (y = x)) = true
        rw [b2, Bool.true_or]
      · rw [o2 v hv, o2 y (fun e => by rw [e, hgx] at b2; cases b2)]; exact b3
  · have h8 : (gy y || decide (y = x)) = true := h5
    by_cases hv : v = x
    · by_cases hy : y = x
      · rw [hv, hy]; exact Or.inl rfl
      · rw [decide_eq_false hy, Bool.or_false] at h8
        rw [hv]; exact hg y h1 h2 h8
    · rw [i2 v hv] at h6
      by_cases hy : y = x
      · rw [hy, o1, o2 v hv] at h7
        have := (a4 v h3 h4).1.2
        omega
      · rw [decide_eq_false hy, Bool.or_false] at h8
        rw [o2 v hv, o2 y hy] at h7
        exact a6 y v h1 h2 h3 h4 h8 h6 h7
  · have h8 : (gy v || decide (v = x)) = false := h3
    rw [Bool.or_eq_false_iff] at h8
    have hv : v ≠ x := of_decide_eq_false h8.2
    rw [o2 v hv] at h2
    by_cases hw : w = x
    · rw [hw, o1]; omega
    · rw [o2 w hw]; exact a7 v w h1 h2 h8.1
  · have hv : v ≠ x := fun e => by rw [e, i1] at h3; omega
    rw [o2 v hv] at h2
    rw [i2 v hv] at h3
    have h9 := a8 v w h1 h2 h3
    have hw : w ≠ x := hv0 w h9.1
    rw [o2 w hw, i2 w hw]; exact h9
  · rw [a9]
    congr 1
    funext v
    by_cases hv : v = x
    · rw [hv, i1, h0, o1, decide_eq_false (by omega), decide_eq_false (by omega)]
    · rw [o2 v hv, i2 v hv]
  · have c : sumN (fun v => b2 (decide (0 < ord v))) 8 = fnd := a10
    show sumN (fun v => b2 (decide (0 < ui ord x (fnd + 1) v))) 8 = fnd + 1
    rw [sumN_ui (f := fun v => b2 (decide (0 < ord v))) (x := x) (d := 1) 8 ⟨hx.1, by omega⟩ (fun v hv => by show b2 (decide (0 < ui ord x (fnd + 1) v)) = _; rw [o2 v hv]) (by show b2 (decide (0 < ui ord x (fnd + 1) x)) = b2 (decide (0 < ord x)) + 1; rw [o1, h0, b2_pos (by omega)]; rfl), c]
  · have hv := hv0 v h3
    exact ⟨o2 v hv, ui_n hv, i2 v hv⟩
  · by_cases hv : v = x
    · rw [hv, o1]; omega
    · rw [o2 v hv] at h4; omega
  · rw [o1, show ui low x (fnd + 1) x = fnd + 1 from ui_s]; omega
  · rw [o1, show ui low x (fnd + 1) x = fnd + 1 from ui_s]
  · by_cases hy : y = x
    · have := h5 hy
      have := h1.2.1.1
      omega
    · rw [i2 y hy] at h3
      have := (a4 y h1.1.1 h1.1.2).2.1 h3
      omega
  · have := h1.2.1.1
    omega
theorem VL.skip (h : VL g gy x k ord io qv low tl fnd ord' io' qv' low' tl' fnd' sum') (hn : m_edge g true x k = false) : VL g gy x (k + 1) ord io qv low tl fnd ord' io' qv' low' tl' fnd' sum' := by
  obtain ⟨b0, b1, b2, b3, b4, b5, b6, b7, b8⟩ := h
  refine ⟨b0, b1, b2, b3, b4, b5, b6, fun y z h1 h2 h3 h4 h5 => b7 y z h1 h2 h3 h4 (fun e => ?_), fun z h1 h2 => b8 z h1 ?_⟩
  · have := h5 e
    by_cases hz : z = k
    · subst e; subst hz; rw [h1.2.2] at hn; cases hn
    · omega
  · by_cases hz : z = k
    · subst hz; rw [h1.2.2] at hn; cases hn
    · omega
theorem VL.closed (h0 : TJ g gy ord io qv tl fnd sum) (h : VL g gy x k ord io qv low tl fnd ord' io' qv' low' tl' fnd' sum') (hk : 0 ≤ k ∧ k < 8) (ho : ¬ ord' k = 0) (hi : io' k = 0) : VL g gy x (k + 1) ord io qv low tl fnd ord' io' qv' low' tl' fnd' sum' := by
  have t := h.1
  obtain ⟨b0, b1, b2, b3, b4, b5, b6, b7, b8⟩ := h
  refine ⟨b0, b1, b2, b3, b4, b5, b6, fun y z h1 h2 h3 h4 h5 => ?_, fun z h1 h2 => ?_⟩
  · by_cases hz : y = x ∧ z = k
    · exfalso
      obtain ⟨rfl, rfl⟩ := hz
      have := (b1 z hk.1 hk.2 ((h0.2.2.2.2.1 z hk.1 hk.2).2.1 h4)).2.2
      omega
    · exact b7 y z h1 h2 h3 h4 (fun e => by have := h5 e; omega)
  · by_cases hz : z = k
    · subst hz
      have := (t.2.2.2.2.1 z hk.1 hk.2).1.1
      omega
    · exact b8 z h1 (by omega)
theorem VL.opened (h0 : TJ g gy ord io qv tl fnd sum) (h : VL g gy x k ord io qv low tl fnd ord' io' qv' low' tl' fnd' sum') (hx : 0 ≤ x ∧ x < 8) (hk : 0 ≤ k ∧ k < 8) (he : m_edge g true x k = true) (ho : ¬ ord' k = 0) (hi : io' k = 1) : VL g gy x (k + 1) ord io qv low tl fnd ord' io' qv' (ui low' x (min (low' x) (ord' k))) tl' fnd' sum' := by
  have t := h.1
  obtain ⟨b0, b1, b2, b3, b4, b5, b6, b7, b8⟩ := h
  have hok := (t.2.2.2.2.1 k hk.1 hk.2).1
  have l1 : ui low' x (min (low' x) (ord' k)) x = min (low' x) (ord' k) := ui_s
  have l2 : ∀ v, v ≠ x → ui low' x (min (low' x) (ord' k)) v = low' v := fun v hv => ui_n hv
  have hE : ED g true x k := ⟨hx, hk, he⟩
  refine ⟨b0, fun v h1 h2 h3 => ?_, b2, b3, b4, ?_, ?_, fun y z h1 h2 h3 h4 h5 => ?_, fun z h1 h2 => ?_⟩
  · have hv : v ≠ x := fun e => by rw [e, b4.1] at h3; omega
    rw [l2 v hv]; exact b1 v h1 h2 h3
  · rw [l1]; omega
  · rw [l1]
    by_cases hl : low' x ≤ ord' k
    · rw [show min (low' x) (ord' k) = low' x by omega]; exact b6
    · rw [show min (low' x) (ord' k) = ord' k by omega]
      by_cases hn : ord k = 0
      · have := b2 k hk.1 hk.2 hn (by omega)
        omega
      · have q := (h0.2.2.2.2.1 k hk.1 hk.2).1.1
        have q2 := b1 k hk.1 hk.2 (by omega)
        exact Or.inr ⟨k, hk, by rw [← q2.2.2]; exact hi, q2.1.symm, RR_edge hE⟩
  · rw [l1]
    by_cases hz : y = x ∧ z = k
    · obtain ⟨rfl, rfl⟩ := hz
      have q := (h0.2.2.2.2.1 z hk.1 hk.2).2.1 h4
      have q2 := b1 z hk.1 hk.2 q
      omega
    · have := b7 y z h1 h2 h3 h4 (fun e => by have := h5 e; omega)
      omega
  · by_cases hz : z = k
    · subst hz; omega
    · exact b8 z h1 (by omega)
theorem VL.pre (h0 : TJ g gy ord io qv tl fnd sum) (h : VL g gy x k ord io qv low tl fnd ord' io' qv' low' tl' fnd' sum') (hx : 0 ≤ x ∧ x < 8) (hk : 0 ≤ k ∧ k < 8) (he : m_edge g true x k = true) : ∀ y, 0 ≤ y → y < 8 → g1 gy x y = true → RR g y k := by
  have t := h.1
  obtain ⟨b0, b1, b2, b3, b4, b5, b6, b7, b8⟩ := h
  have hE : ED g true x k := ⟨hx, hk, he⟩
  intro y h1 h2 h3
  refine RR_trans (t.2.2.2.2.2.2.1 y x h1 h2 hx.1 hx.2 h3 b4.2.2.1 ?_) (RR_edge hE)
  have h4 : (gy y || decide (y = x)) = true := h3
  by_cases hy : y = x
  · rw [hy]; omega
  · rw [decide_eq_false hy, Bool.or_false] at h4
    have q := h0.2.2.2.2.1 y h1 h2
    have q2 := b1 y h1 h2 (q.2.1 (q.2.2 h4))
    omega
theorem VL.visit (h0 : TJ g gy ord io qv tl fnd sum) (h : VL g gy x k ord io qv low tl fnd ord' io' qv' low' tl' fnd' sum') (hx : 0 ≤ x ∧ x < 8) (hk : 0 ≤ k ∧ k < 8) (he : m_edge g true x k = true) (ho : ord' k = 0) (hp : VP g (g1 gy x) k ord' io' qv' low' tl' fnd' ord2 io2 qv2 low2 tl2 fnd2 sum2) : VL g gy x (k + 1) ord io qv low tl fnd ord2 io2 qv2 (ui low2 x (min (low2 x) (low2 k))) tl2 fnd2 sum2 := by
  have t := h.1
  obtain ⟨b0, b1, b2, b3, b4, b5, b6, b7, b8⟩ := h
  obtain ⟨c0, c1, c2, c3, c4, c5, c6, c7⟩ := hp
  have hE : ED g true x k := ⟨hx, hk, he⟩
  have kx := c1 x hx.1 hx.2 (by omega)
  have dk := c0.2.2.2.2.1 k hk.1 hk.2
  have l1 : ui low2 x (min (low2 x) (low2 k)) x = min (low2 x) (low2 k) := ui_s
  have l2 : ∀ v, v ≠ x → ui low2 x (min (low2 x) (low2 k)) v = low2 v := fun v hv => ui_n hv
  have hkk : 0 < ord2 k := c4.1
  have hle : ord' k = 0 → fnd' < ord2 k := fun e => c2 k hk.1 hk.2 e hkk
  have hvis : ∀ v, 0 ≤ v → v < 8 → 0 < ord v → 0 < ord' v := fun v a1 a2 a3 => by rw [(b1 v a1 a2 a3).1]; exact a3
  refine ⟨c0, fun v h1 h2 h3 => ?_, fun v h1 h2 h3 h4 => ?_, ⟨by omega, fun i h1 h2 => ?_, ?_⟩, ⟨b4.1, by rw [kx.1]; exact b4.2.1, by rw [kx.2.2]; exact b4.2.2.1, by omega⟩, ?_, ?_, fun y z h1 h2 h3 h4 h5 => ?_, fun z h1 h2 => ?_⟩
  · have hv : v ≠ x := fun e => by rw [e, b4.1] at h3; omega
    have q1 := b1 v h1 h2 h3
    have q2 := c1 v h1 h2 (by omega)
    rw [l2 v hv]
    exact ⟨q2.1.trans q1.1, q2.2.1.trans q1.2.1, q2.2.2.trans q1.2.2⟩
  · by_cases hz : ord' v = 0
    · have := c2 v h1 h2 hz h4; omega
    · have q := (t.2.2.2.2.1 v h1 h2).1.1
      have q2 := c1 v h1 h2 (by omega)
      have := b2 v h1 h2 h3 (by omega)
      omega
  · rw [c3.2 i h1 (by omega)]; exact b3.2.1 i h1 h2
  · rw [c3.2 tl (by have := h0.1; omega) (by omega)]; exact b3.2.2
  · rw [l1, kx.1, kx.2.1]; omega
  · rw [l1, kx.2.1, kx.1]
    by_cases hl : low' x ≤ low2 k
    · rw [show min (low' x) (low2 k) = low' x by omega]; exact b6
    · rw [show min (low' x) (low2 k) = low2 k by omega]
      rcases (c0.2.2.1 k hk.1 hk.2).1 with hc | hc
      · have e1 := c6.2 hc
        have := hle ho; omega
      · obtain ⟨y, y1, y2, y3, y4⟩ := c6.1 hc
        by_cases hn : ord y = 0
        · have q := (t.2.2.2.2.1 y y1.1 y1.2)
          have := b2 y y1.1 y1.2 hn (q.2.1 y2)
          omega
        · have q := (h0.2.2.2.2.1 y y1.1 y1.2).1.1
          have q2 := b1 y y1.1 y1.2 (by omega)
          exact Or.inr ⟨y, y1, by rw [← q2.2.2]; exact y2, by rw [← q2.1]; exact y3, RR_trans (RR_edge hE) y4⟩
  · rw [l1, kx.2.1]
    by_cases hz : ord' y = 0
    · have q := h0.2.2.2.2.1 z h1.2.1.1 h1.2.1.2
      have q1 := b1 z h1.2.1.1 h1.2.1.2 (q.2.1 h4)
      have := c7 y z h1 hz h3 (by rw [q1.2.2]; exact h4)
      omega
    · have q := (t.2.2.2.2.1 y h1.1.1 h1.1.2).1.1
      have q2 := c1 y h1.1.1 h1.1.2 (by omega)
      rw [q2.2.2] at h3
      by_cases hyz : y = x ∧ z = k
      · exfalso
        obtain ⟨rfl, rfl⟩ := hyz
        have q3 := (h0.2.2.2.2.1 z hk.1 hk.2).2.1 h4
        have q4 := hvis z hk.1 hk.2 q3
        omega
      · have := b7 y z h1 h2 h3 h4 (fun e => by have := h5 e; omega)
        omega
  · by_cases hz : z = k
    · rw [hz]; exact hkk
    · have q := b8 z h1 (by omega)
      rw [(c1 z h1.2.1.1 h1.2.1.2 q).1]; exact q
/-- what x leads out of: nothing of the set is led to by .. (the set: what is closed once x's set is closed) -/
theorem VL.doneO (h0 : TJ g gy ord io qv tl fnd sum) (h : VL g gy x 8 ord io qv low tl fnd ord' io' qv' low' tl' fnd' sum') (hx : 0 ≤ x ∧ x < 8) (hl : ¬ low' x = ord' x) : VP g gy x ord io qv low tl fnd ord' io' qv' low' tl' fnd' sum' := by
  have t := h.1
  obtain ⟨b0, b1, b2, b3, b4, b5, b6, b7, b8⟩ := h
  obtain ⟨a0, a1, a2, a3, a4, a5, a6, a7, a8, a9, a10⟩ := t
  have hgy : ∀ v, gy v = true → g1 gy x v = true := fun v hv => by show (gy v || decide (v = x)) = true; rw [hv, Bool.true_or]
  obtain ⟨y, y1, y2, y3, y4⟩ : ∃ y, (0 ≤ y ∧ y < 8) ∧ io y = 1 ∧ ord y = low' x ∧ RR g x y := by
    rcases b6 with q | q
    · exact absurd q hl
    · exact q
  have hyo := (h0.2.2.2.2.1 y y1.1 y1.2)
  have hy' := b1 y y1.1 y1.2 (hyo.2.1 y2)
  refine ⟨⟨a0, a1, a2, a3, fun v h1 h2 => ⟨(a4 v h1 h2).1, (a4 v h1 h2).2.1, fun h3 => (a4 v h1 h2).2.2 (hgy v h3)⟩, fun v h1 h2 h3 => ?_, fun y v h1 h2 h3 h4 h5 => a6 y v h1 h2 h3 h4 (hgy y h5), fun v w h1 h2 h3 => ?_, a8, a9, a10⟩, b1, b2, ⟨by omega, b3.2.1⟩, ⟨by omega, b4.2.2.2⟩, b5, ⟨fun _ => ⟨y, y1, y2, y3, y4⟩, fun h1 => by have := b4.2.2.1; omega⟩, fun y z h1 h2 h3 h4 => b7 y z h1 h2 h3 h4 (fun _ => h1.2.1.2)⟩
  · obtain ⟨u, u1, u2, u3, u4⟩ := a5 v h1 h2 h3
    have u5 : (gy u || decide (u = x)) = true := u2
    by_cases hu : u = x
    · obtain ⟨w, w1, w2, w3, w4⟩ := a5 y y1.1 y1.2 (by rw [hy'.2.2]; exact y2)
      have w5 : (gy w || decide (w = x)) = true := w2
      have hwx : w ≠ x := fun e => by rw [e] at w3; omega
      rw [decide_eq_false hwx, Bool.or_false] at w5
      refine ⟨w, w1, w5, by rw [hu] at u3; omega, RR_trans u4 (RR_trans (by rw [hu]; exact y4) w4)⟩
    · rw [decide_eq_false hu, Bool.or_false] at u5
      exact ⟨u, u1, u5, u3, u4⟩
  · by_cases hv : v = x
    · subst hv; exact b8 w h1 h1.2.1.2
    · exact a7 v w h1 h2 (by show (gy v || decide (v = x)) = false; rw [h3, decide_eq_false hv]; rfl)
/-- the tools qv a .. qv (b - 1) are closed -/
def CLo (qv io : Int → Int) (a b : Int) (io' : Int → Int) : Prop := (∀ i, a ≤ i → i < b → io' (qv i) = 0) ∧ ∀ v, 0 ≤ v → v < 8 → (∀ i, a ≤ i → i < b → qv i ≠ v) → io' v = io v
theorem CLo_sum {wt : Int → Bool} {c : Bool} : ∀ (n : Nat) {a b : Int} {io io' : Int → Int}, b - a = n → 0 ≤ a → (∀ i, a ≤ i → i < b → (0 ≤ qv i ∧ qv i < 8) ∧ 0 < ord (qv i) ∧ io (qv i) = 1 ∧ wt (qv i) = c) → (∀ i j, a ≤ i → i < b → a ≤ j → j < b → qv i = qv j → i = j) → CLo qv io a b io' →
    sumI (fun v => b2 (decide (0 < ord v ∧ io' v = 0) && wt v)) 8 = sumI (fun v => b2 (decide (0 < ord v ∧ io v = 0) && wt v)) 8 + (if c = true then b - a else 0) := by
  intro n
  have ext : ∀ {f h : Int → Int}, (∀ k, 0 ≤ k → k < 8 → f k = h k) → sumN f 8 = sumN h 8 := fun {f h} e => Int.le_antisymm (sumN_le 8 fun k a b => by rw [e k a (by omega)]; exact Int.le_refl _) (sumN_le 8 fun k a b => by rw [e k a (by omega)]; exact Int.le_refl _)
  induction n with
  | zero =>
    intro a b io io' hn ha h1 h2 h3
    rw [show b - a = 0 by omega, show (if c = true then (0 : Int) else 0) = 0 by split <;> rfl, Int.add_zero]
    exact ext (fun v q1 q2 => by rw [h3.2 v q1 q2 (fun i a1 a2 => by omega)])
  | succ n ih =>
    intro a b io io' hn ha h1 h2 h3
    have qa := h1 a (by omega) (by omega)
    have u1 : ui io' (qv a) 1 (qv a) = 1 := ui_s
    have u2 : ∀ v, v ≠ qv a → ui io' (qv a) 1 v = io' v := fun v hv => ui_n hv
    have ih1 := ih (a := a + 1) (b := b) (io := io) (io' := ui io' (qv a) 1) (by omega) (by omega) (fun i q1 q2 => h1 i (by omega) q2) (fun i j q1 q2 q3 q4 => h2 i j (by omega) q2 (by omega) q4) ⟨fun i q1 q2 => by
      rw [u2 _ (fun e => by have := h2 i a (by omega) q2 (by omega) (by omega) e; omega)]
      exact h3.1 i (by omega) q2, fun v q1 q2 q3 => by
      by_cases hv : v = qv a
      · rw [hv, u1]; exact qa.2.2.1.symm
      · rw [u2 v hv]
        exact h3.2 v q1 q2 (fun i p1 p2 e => by
          by_cases hi : i = a
          · rw [hi] at e; exact hv e.symm
          · exact q3 i (by omega) p2 e)⟩
    have key : sumI (fun v => b2 (decide (0 < ord v ∧ io' v = 0) && wt v)) 8 = sumI (fun v => b2 (decide (0 < ord v ∧ ui io' (qv a) 1 v = 0) && wt v)) 8 + b2 c := by
      refine sumN_ui (f := fun v => b2 (decide (0 < ord v ∧ ui io' (qv a) 1 v = 0) && wt v)) (x := qv a) (d := b2 c) 8 ⟨qa.1.1, by omega⟩ (fun v hv => ?_) ?_
      · show _ = b2 (decide (0 < ord v ∧ ui io' (qv a) 1 v = 0) && wt v)
        rw [u2 v hv]
      · show b2 (decide (0 < ord (qv a) ∧ io' (qv a) = 0) && wt (qv a)) = b2 (decide (0 < ord (qv a) ∧ ui io' (qv a) 1 (qv a) = 0) && wt (qv a)) + b2 c
        rw [u1, decide_eq_false (show ¬ (0 < ord (qv a) ∧ (1 : Int) = 0) by omega), decide_eq_true (show 0 < ord (qv a) ∧ io' (qv a) = 0 from ⟨qa.2.1, h3.1 a (by omega) (by omega)⟩), qa.2.2.2, Bool.true_and, Bool.false_and, b2_f]
        omega
    rw [key, ih1]
    cases c
    · rw [if_neg (by decide), if_neg (by decide), b2_f]; omega
    · simp only [if_true, b2_t]; omega
theorem VL.doneC (h0 : TJ g gy ord io qv tl fnd sum) (h : VL g gy x 8 ord io qv low tl fnd ord' io' qv' low' tl' fnd' sum') (hx : 0 ≤ x ∧ x < 8) (hl : low' x = ord' x) (hc : CLo qv' io' tl tl' io2) : VP g gy x ord io qv low tl fnd ord' io2 qv' low' tl fnd' (sum' + if 1 < tl' - tl ∨ m_edge g true x x = true then tl' - tl else 0) := by
  have t := h.1
  have hinj := fun {i j : Int} (h1 : 0 ≤ i ∧ i < tl') (h2 : 0 ≤ j ∧ j < tl') (e : qv' i = qv' j) => t.qinj h1 h2 e
  have f0 := h0.f8
  obtain ⟨b0, b1, b2_, b3, b4, b5, b6, b7, b8⟩ := h
  obtain ⟨a0, a1, a2, a3, a4, a5, a6, a7, a8, a9, a10⟩ := t
  have z0 := h0.1
  have hgy : ∀ v, gy v = true → g1 gy x v = true := fun v hv => by show (gy v || decide (v = x)) = true; rw [hv, Bool.true_or]
  -- x's set: what stands from tl on
  have hseg : ∀ i, tl ≤ i → i < tl' → ord (qv' i) = 0 ∧ ord' x ≤ ord' (qv' i) := by
    intro i h1 h2
    have hge : ord' x ≤ ord' (qv' i) := by
      by_cases hi : i = tl
      · rw [hi, b3.2.2]; exact Int.le_refl _
      · have := a3 tl i z0 (by omega) h2
        rw [b3.2.2] at this; omega
    refine ⟨?_, hge⟩
    have q := a1 i (by omega) h2
    have q2 := h0.2.2.2.2.1 _ q.1.1 q.1.2
    apply Classical.byContradiction
    intro hne
    have q3 := (b1 _ q.1.1 q.1.2 (by omega)).1
    omega
  have hpre : ∀ i, 0 ≤ i → i < tl → io (qv i) = 1 ∧ qv' i = qv i ∧ ord' (qv i) ≤ fnd := by
    intro i h1 h2
    have q := h0.2.1 i h1 h2
    have q2 := h0.2.2.2.2.1 _ q.1.1 q.1.2
    have q3 := b1 _ q.1.1 q.1.2 (q2.2.1 q.2)
    exact ⟨q.2, b3.2.1 i h1 h2, by rw [q3.1]; omega⟩
  -- open afterwards: what was open before
  have hop : ∀ v, 0 ≤ v → v < 8 → (io2 v = 1 ↔ io v = 1) := by
    intro v h1 h2
    by_cases hs : ∃ i, tl ≤ i ∧ i < tl' ∧ qv' i = v
    · obtain ⟨i, i1, i2, i3⟩ := hs
      have q1 := hc.1 i i1 i2
      have q2 := (hseg i i1 i2).1
      rw [i3] at q1 q2
      have q3 := (h0.2.2.2.2.1 v h1 h2).2.1
      constructor
      · intro h; omega
      · intro h; have := q3 h; omega
    · have q1 := hc.2 v h1 h2 (fun i i1 i2 i3 => hs ⟨i, i1, i2, i3⟩)
      rw [q1]
      constructor
      · intro h
        obtain ⟨i, i1, i2, i3⟩ := (a2 v h1 h2).2 h
        by_cases hi : i < tl
        · have := hpre i i1 hi
          rw [← i3, this.2.1]; exact this.1
        · exact absurd ⟨i, by omega, i2, i3⟩ hs
      · intro h
        have q3 := (h0.2.2.2.2.1 v h1 h2).2.1 h
        rw [(b1 v h1 h2 q3).2.2]; exact h
  have hle : ∀ v, 0 ≤ v → v < 8 → io2 v = 1 → io' v = 1 := by
    intro v h1 h2 h3
    have q := (hop v h1 h2).mp h3
    rw [(b1 v h1 h2 ((h0.2.2.2.2.1 v h1 h2).2.1 q)).2.2]; exact q
  have h01 : ∀ v, 0 ≤ v → v < 8 → io2 v = 0 ∨ io2 v = 1 := by
    intro v h1 h2
    by_cases hs : ∃ i, tl ≤ i ∧ i < tl' ∧ qv' i = v
    · obtain ⟨i, i1, i2, i3⟩ := hs
      left; rw [← i3]; exact hc.1 i i1 i2
    · rw [hc.2 v h1 h2 (fun i i1 i2 i3 => hs ⟨i, i1, i2, i3⟩)]; exact (a2 v h1 h2).1
  have hin : ∀ v, 0 ≤ v → v < 8 → io' v = 1 → io2 v = 0 → ∃ i, tl ≤ i ∧ i < tl' ∧ qv' i = v := by
    intro v h1 h2 h3 h4
    apply Classical.byContradiction
    intro hs
    have := hc.2 v h1 h2 (fun i i1 i2 i3 => hs ⟨i, i1, i2, i3⟩)
    omega
  -- nothing leads out of what is closed
  have hcl : ∀ v w, ED g true v w → 0 < ord' v → io2 v = 0 → 0 < ord' w ∧ io2 w = 0 := by
    intro v w h1 h2 h3
    have hv := h1.1
    have hw := h1.2.1
    rcases (a2 v hv.1 hv.2).1 with q | q
    · have q2 := a8 v w h1 h2 q
      refine ⟨q2.1, ?_⟩
      rcases h01 w hw.1 hw.2 with p | p
      · exact p
      · have := hle w hw.1 hw.2 p; omega
    · obtain ⟨i, i1, i2, i3⟩ := hin v hv.1 hv.2 q h3
      have hw0 : 0 < ord' w := by
        by_cases hvx : v = x
        · subst hvx; exact b8 w h1 hw.2
        · by_cases hg : gy v = true
          · have q5 := (h0.2.2.2.2.1 v hv.1 hv.2).2.2 hg
            have q6 := (hop v hv.1 hv.2).mpr q5
            omega
          · exact a7 v w h1 h2 (by show (gy v || decide (v = x)) = false; rw [Bool.eq_false_iff.mpr hg, decide_eq_false hvx]; rfl)
      refine ⟨hw0, ?_⟩
      rcases h01 w hw.1 hw.2 with p | p
      · exact p
      · exfalso
        have p2 := (hop w hw.1 hw.2).mp p
        have p3 := b7 v w h1 (by rw [← i3]; exact (hseg i i1 i2).1) q p2 (fun _ => hw.2)
        have p4 := (h0.2.2.2.2.1 w hw.1 hw.2).1.2
        omega
  have hcR : ∀ v w, RR g v w → 0 < ord' v → io2 v = 0 → 0 < ord' w ∧ io2 w = 0 := by
    intro v w h1 h2 h3
    rcases h1 with rfl | h1
    · exact ⟨h2, h3⟩
    · induction h1 with
      | single q => exact hcl _ _ q h2 h3
      | tail _ q ih => exact hcl _ _ q ih.1 ih.2
  -- all of x's set lead to x, and x to them
  have hxs : ∀ i, tl ≤ i → i < tl' → RR g x (qv' i) ∧ RR g (qv' i) x := by
    intro i h1 h2
    have q := a1 i (by omega) h2
    have q0 := a4 _ q.1.1 q.1.2
    refine ⟨a6 x (qv' i) hx.1 hx.2 q.1.1 q.1.2 (by show (gy x || decide (x = x)) = true; rw [decide_eq_true rfl, Bool.or_true]) q.2 (hseg i h1 h2).2, ?_⟩
    obtain ⟨y, y1, y2, y3, y4⟩ := a5 _ q.1.1 q.1.2 q.2
    by_cases hy : y = x
    · rw [← hy]; exact y4
    · exfalso
      have y5 : (gy y || decide (y = x)) = true := y2
      rw [decide_eq_false hy, Bool.or_false] at y5
      have q5 := (hop y y1.1 y1.2).mpr ((h0.2.2.2.2.1 y y1.1 y1.2).2.2 y5)
      have q6 := hcR _ _ y4 (q0.2.1 q.2) (hc.1 i h1 h2)
      omega
  have hcir : ∀ i, tl ≤ i → i < tl' → m_reach g true (qv' i) (qv' i) = decide (1 < tl' - tl ∨ m_edge g true x x = true) := by
    intro i h1 h2
    have nz : ∀ v w, RR g v w → v ≠ w → Relation.TransGen (ED g true) v w := fun v w h hne => by
      rcases h with h | h
      · exact absurd h hne
      · exact h
    by_cases hcc : 1 < tl' - tl ∨ m_edge g true x x = true
    · rw [decide_eq_true hcc]
      refine dP_t ?_
      have q := hxs i h1 h2
      by_cases hi : qv' i = x
      · rw [hi]
        by_cases hself : m_edge g true x x = true
        · exact Relation.TransGen.single ⟨hx, hx, hself⟩
        · have hsz : 1 < tl' - tl := by
            rcases hcc with h | h
            · exact h
            · exact absurd h hself
          have q2 := hxs (tl + 1) (by omega) (by omega)
          have hne : qv' (tl + 1) ≠ x := fun e => by
            have := hinj (i := tl + 1) (j := tl) (by omega) (by omega) (by rw [e, b3.2.2])
            omega
          exact tg_trans (nz _ _ q2.1 (fun e => hne e.symm)) (nz _ _ q2.2 hne)
      · exact tg_trans (nz _ _ q.2 hi) (nz _ _ q.1 (fun e => hi e.symm))
    · rw [decide_eq_false hcc]
      refine dP_f (fun htg => hcc (Or.inr ?_))
      have hi : i = tl := by
        apply Classical.byContradiction
        intro hne
        exact hcc (Or.inl (by omega))
      rw [hi, b3.2.2] at htg
      obtain ⟨w, w1, w2⟩ := tg_head htg
      have hx2 : io2 x = 0 := by rw [← b3.2.2]; exact hc.1 tl (Int.le_refl _) b3.1
      have q := hcl x w w1 (by omega) hx2
      have hwr : RR g w x := by
        rcases w2 with rfl | w2
        · exact Or.inl rfl
        · exact Or.inr w2
      rcases (a2 w w1.2.1.1 w1.2.1.2).1 with p | p
      · exfalso
        -- w was closed before: then x would be closed
        have hcl2 : ∀ u, RR g w u → 0 < ord' u ∧ io' u = 0 := by
          intro u hu
          rcases hu with rfl | hu
          · exact ⟨q.1, p⟩
          · induction hu with
            | single r => exact a8 _ _ r q.1 p
            | tail _ r ih => exact a8 _ _ r ih.1 ih.2
        have := (hcl2 x hwr).2
        omega
      · obtain ⟨j, j1, j2, j3⟩ := hin w w1.2.1.1 w1.2.1.2 p q.2
        have hj : j = tl := by
          apply Classical.byContradiction
          intro hne
          exact hcc (Or.inl (by omega))
        rw [hj, b3.2.2] at j3
        rw [← j3] at w1
        exact w1.2.2
  have hsum := CLo_sum (wt := fun v => m_reach g true v v) (ord := ord') (qv := qv') (io := io') (io' := io2) (c := decide (1 < tl' - tl ∨ m_edge g true x x = true)) (tl' - tl).toNat (a := tl) (b := tl') (by omega) z0 (fun i h1 h2 => by
    have q := a1 i (by omega) h2
    exact ⟨q.1, (a4 _ q.1.1 q.1.2).2.1 q.2, q.2, hcir i h1 h2⟩) (fun i j h1 h2 h3 h4 e => hinj ⟨by omega, h2⟩ ⟨by omega, h4⟩ e) hc
  have hx2 : io2 x = 0 := by rw [← b3.2.2]; exact hc.1 tl (Int.le_refl _) b3.1
  refine ⟨⟨z0, fun i h1 h2 => ?_, fun v h1 h2 => ⟨h01 v h1 h2, fun h3 => ?_⟩, fun i j h1 h2 h3 => a3 i j h1 h2 (by omega), fun v h1 h2 => ⟨(a4 v h1 h2).1, fun h3 => (a4 v h1 h2).2.1 (hle v h1 h2 h3), fun h3 => ?_⟩, fun v h1 h2 h3 => ?_, fun y v h1 h2 h3 h4 h5 h6 => a6 y v h1 h2 h3 h4 (hgy y h5) (hle v h3 h4 h6), fun v w h1 h2 h3 => ?_, hcl, ?_, a10⟩, fun v h1 h2 h3 => ?_, b2_, ⟨Int.le_refl _, b3.2.1⟩, ⟨by omega, b4.2.2.2⟩, b5, ⟨fun h => by omega, fun _ => hl⟩, fun y z h1 h2 h3 h4 => ?_⟩
  · have q := hpre i h1 h2
    have q2 := h0.2.1 i h1 h2
    rw [q.2.1]
    exact ⟨q2.1, (hop _ q2.1.1 q2.1.2).mpr q2.2⟩
  · obtain ⟨i, i1, i2, i3⟩ := (h0.2.2.1 v h1 h2).2 ((hop v h1 h2).mp h3)
    exact ⟨i, i1, i2, by rw [(hpre i i1 i2).2.1]; exact i3⟩
  · exact (hop v h1 h2).mpr ((h0.2.2.2.2.1 v h1 h2).2.2 h3)
  · obtain ⟨y, y1, y2, y3, y4⟩ := a5 v h1 h2 (hle v h1 h2 h3)
    have y5 : (gy y || decide (y = x)) = true := y2
    have q := (hop v h1 h2).mp h3
    have q2 := h0.2.2.2.2.1 v h1 h2
    have q3 := b1 v h1 h2 (q2.2.1 q)
    have hy : y ≠ x := fun e => by rw [e] at y3; omega
    rw [decide_eq_false hy, Bool.or_false] at y5
    exact ⟨y, y1, y5, y3, y4⟩
  · by_cases hv : v = x
    · subst hv; exact b8 w h1 h1.2.1.2
    · exact a7 v w h1 h2 (by show (gy v || decide (v = x)) = false; rw [h3, decide_eq_false hv]; rfl)
  · rw [hsum, ← a9]
    congr 1
    by_cases hcc : 1 < tl' - tl ∨ m_edge g true x x = true
    · rw [if_pos hcc, if_pos (decide_eq_true hcc)]
    · rw [if_neg hcc, if_neg (fun e => hcc (of_decide_eq_true e))]
  · have q := b1 v h1 h2 h3
    refine ⟨q.1, q.2.1, ?_⟩
    rcases (h0.2.2.1 v h1 h2).1 with p | p
    · rcases h01 v h1 h2 with r | r
      · rw [p, r]
      · have := (hop v h1 h2).mp r; omega
    · rw [p]; exact (hop v h1 h2).mpr p
  · have := hle y h1.1.1 h1.1.2 h3
    exact b7 y z h1 h2 this h4 (fun _ => h1.2.1.2)
theorem TJ.fin (h : TJ g (fun _ => false) ord io qv tl fnd sum) (hall : ∀ v, 0 ≤ v → v < 8 → 0 < ord v) : sum = sumI (fun v => b2 (m_reach g true v v)) 8 := by
  obtain ⟨a0, a1, a2, a3, a4, a5, a6, a7, a8, a9, a10⟩ := h
  rw [a9]
  have : ∀ v, 0 ≤ v → v < 8 → io v = 0 := fun v h1 h2 => by
    rcases (a2 v h1 h2).1 with q | q
    · exact q
    · obtain ⟨y, _, y2, _⟩ := a5 v h1 h2 q
      cases y2
  show sumN _ 8 = sumN _ 8
  refine Int.le_antisymm (sumN_le 8 fun v h1 h2 => ?_) (sumN_le 8 fun v h1 h2 => ?_) <;> (show b2 _ ≤ b2 _; rw [decide_eq_true ⟨hall v h1 (by omega), this v h1 (by omega)⟩, Bool.true_and]; exact Int.le_refl _)
theorem VL.lw (h : VL g gy x k ord io qv low tl fnd ord' io' qv' low' tl' fnd' sum') : 0 < low' x ∧ low' x ≤ 9 := by
  have f8 := h.1.f8
  have q := h.2.2.2.2.1
  have r := h.2.2.2.2.2.1
  omega
theorem VP.lw (h : VP g gy x ord io qv low tl fnd ord' io' qv' low' tl' fnd' sum') (hx : 0 ≤ x ∧ x < 8) : 0 < low' x ∧ low' x ≤ 8 := by
  have f8 := h.1.f8
  have q := (h.1.2.2.2.2.1 x hx.1 hx.2).1.2
  have r := h.2.2.2.2.2.1
  omega
theorem TJ.od (h : TJ g gy ord io qv tl fnd sum) {v : Int} (hv : 0 ≤ v ∧ v < 8) : 0 ≤ ord v ∧ ord v ≤ 8 := by
  have f8 := h.f8
  have q := (h.2.2.2.2.1 v hv.1 hv.2).1
  omega
theorem TJ.ir (h : TJ g gy ord io qv tl fnd sum) {v : Int} (hv : 0 ≤ v ∧ v < 8) : 0 ≤ io v ∧ io v ≤ 1 := by
  have q := (h.2.2.1 v hv.1 hv.2).1
  omega
theorem CLo_0 : CLo qv io tl tl io := ⟨fun i h1 h2 => by omega, fun _ _ _ _ => rfl⟩
theorem CLo_s {a b : Int} (h : CLo qv io a b io') (ha : 1 ≤ a ∧ a ≤ b) (hinj : ∀ i j, 0 ≤ i → i < b → 0 ≤ j → j < b → qv i = qv j → i = j) : CLo qv io (a - 1) b (ui io' (qv (a - 1)) 0) := by
  refine ⟨fun i h1 h2 => ?_, fun v h1 h2 h3 => ?_⟩
  · by_cases hi : i = a - 1
    · rw [hi]; exact ui_s
    · rw [ui_n (fun e => hi (hinj i (a - 1) (by omega) h2 (by omega) (by omega) e))]
      exact h.1 i (by omega) h2
  · rw [ui_n (fun e => h3 (a - 1) (Int.le_refl _) (by omega) e.symm)]
    exact h.2 v h1 h2 (fun i i1 i2 => h3 i (by omega) i2)
end TARJ
