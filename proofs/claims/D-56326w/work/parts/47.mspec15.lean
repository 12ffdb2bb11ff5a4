/-! ===== words, commands, texts ===== -/
def p_wd (inp : Int → Int) (len : Int) : List Int → PS → PR
  | [], x => (true, x)
  | v :: L, x => if (p_skip inp len v x).1 = true then p_wd inp len L (p_skip inp len v x).2 else (false, (p_skip inp len v x).2)
def p_word (inp : Int → Int) (len pl w : Int) (L : List Int) (x : PS) : PR := p_wd inp len L (x.1, ui x.2 pl w)
theorem p_wd_s {inp : Int → Int} {len : Int} {L : List Int} {i : Int} (h0 : 0 ≤ i) (h1 : i < (L.length : Int)) (x : PS) : p_wd inp len (L.drop i.toNat) x = if (p_skip inp len (L.getD i.toNat 0) x).1 = true then p_wd inp len (L.drop (i + 1).toNat) (p_skip inp len (L.getD i.toNat 0) x).2 else (false, (p_skip inp len (L.getD i.toNat 0) x).2) := by
  have h2 : i.toNat < L.length := by omega
  rw [List.drop_eq_getElem_cons h2, gd_in h2, show (i + 1).toNat = i.toNat + 1 by omega]
  rfl
theorem p_wd_1 {inp : Int → Int} {len : Int} {L : List Int} {i : Int} (h0 : 0 ≤ i) (h1 : i < (L.length : Int)) {x : PS} {T q : PR} (hi : p_wd inp len (L.drop i.toNat) x = T) (hq : q = p_skip inp len (L.getD i.toNat 0) x) (hc : q.1 = true) : p_wd inp len (L.drop (i + 1).toNat) (q.2.1, q.2.2) = T := by
  rw [p_wd_s h0 h1, ← hq, if_pos hc] at hi
  exact hi
theorem p_wd_0 {inp : Int → Int} {len : Int} {L : List Int} {i : Int} (h0 : 0 ≤ i) (h1 : i < (L.length : Int)) {x : PS} {T q : PR} (hi : p_wd inp len (L.drop i.toNat) x = T) (hq : q = p_skip inp len (L.getD i.toNat 0) x) (hc : q.1 = false) : T = (false, q.2) := by
  rw [p_wd_s h0 h1, ← hq, if_neg (by rw [hc]; decide)] at hi
  exact hi.symm
theorem p_wd_e {inp : Int → Int} {len : Int} {L : List Int} {i : Int} (h1 : i = (L.length : Int)) {x : PS} {T : PR} (hi : p_wd inp len (L.drop i.toNat) x = T) : T = (true, x) := by
  rw [List.drop_eq_nil_of_le (by omega)] at hi
  exact hi.symm
theorem p_wd_r {inp : Int → Int} (hI : ∀ x, 0 ≤ inp x ∧ inp x < 65536) {len : Int} : ∀ (L : List Int) (x : PS), (∀ v ∈ L, 0 ≤ v) → 0 ≤ x.1 ∧ x.1 ≤ len → 0 ≤ (p_wd inp len L x).2.1 ∧ (p_wd inp len L x).2.1 ≤ len ∧ x.1 ≤ (p_wd inp len L x).2.1 ∧ ((p_wd inp len L x).1 = true → (p_wd inp len L x).2.1 = x.1 + L.length) := by
  intro L
  induction L with
  | nil => intro x _ h; exact ⟨h.1, h.2, Int.le_refl _, fun _ => by show x.1 = x.1 + 0; omega⟩
  | cons v L ih =>
    intro x hL h
    have h1 := p_skip_r hI (hL v (List.mem_cons_self ..)) h
    unfold p_wd
    split
    · next hc =>
      have h2 := ih (p_skip inp len v x).2 (fun w hw => hL w (List.mem_cons_of_mem _ hw)) ⟨h1.1, h1.2.1⟩
      have h3 := h1.2.2.2 hc
      refine ⟨h2.1, h2.2.1, by omega, fun e => ?_⟩
      have h4 := h2.2.2.2 e
      rw [List.length_cons]
      push_cast
      omega
    · exact ⟨h1.1, h1.2.1, h1.2.2.1, fun e => by cases e⟩
theorem tx_0 (k : Nat) : ∀ v ∈ TX.getD k [], 0 ≤ v := by
  intro v hv
  obtain ⟨j, hj, rfl⟩ := List.mem_iff_getElem.mp hv
  have := tx_b k j
  rw [gd_in hj] at this
  exact this.1
theorem p_word_r {inp : Int → Int} (hI : ∀ x, 0 ≤ inp x ∧ inp x < 65536) {len pl w : Int} {k : Nat} {x : PS} (h : 0 ≤ x.1 ∧ x.1 ≤ len) : 0 ≤ (p_word inp len pl w (TX.getD k []) x).2.1 ∧ (p_word inp len pl w (TX.getD k []) x).2.1 ≤ len ∧ x.1 ≤ (p_word inp len pl w (TX.getD k []) x).2.1 ∧ ((p_word inp len pl w (TX.getD k []) x).1 = true → (p_word inp len pl w (TX.getD k []) x).2.1 = x.1 + (TX.getD k []).length) := p_wd_r hI _ (x.1, ui x.2 pl w) (tx_0 k) h
def p_if (F G K : PS → PR) (x : PS) : PR := if (F x).1 = true then G (F x).2 else K (F x).2
/-- a command, the tm-th -/
def p_cmd (inp : Int → Int) (len tm : Int) : PS → PR :=
  p_if (p_skip inp len 114) (p_and (p_word inp len (4 * tm) 0 (TX.getD 21 [])) (p_and (p_one p_tl inp len (4 * tm + 1)) (p_and (p_one p_sc inp len (4 * tm + 1 + 1)) (p_fig inp len (4 * tm + 1 + 2) 2))))
  (p_if (p_skip inp len 100) (p_and (p_word inp len (4 * tm) 1 (TX.getD 22 [])) (p_one p_tl inp len (4 * tm + 1)))
  (p_if (p_skip inp len 110) (p_and (p_word inp len (4 * tm) 2 (TX.getD 23 [])) (p_tools inp len (4 * tm + 1)))
  (p_if (p_skip inp len 108) (p_and (p_word inp len (4 * tm) 3 (TX.getD 24 [])) (p_tools inp len (4 * tm + 1)))
  (p_if (p_skip inp len 99) (p_if (p_skip inp len 117) (p_and (p_word inp len (4 * tm) 4 (TX.getD 25 [])) (p_tools inp len (4 * tm + 1))) (p_and (p_word inp len (4 * tm) 8 (TX.getD 26 [])) (p_fig inp len (4 * tm + 1) 1)))
  (p_if (p_skip inp len 115) (p_and (p_word inp len (4 * tm) 5 (TX.getD 27 [])) (p_tools inp len (4 * tm + 1)))
  (p_if (p_skip inp len 98) (p_and (p_word inp len (4 * tm) 6 (TX.getD 28 [])) (p_one p_tl inp len (4 * tm + 1)))
  (p_if (p_skip inp len 111) (p_word inp len (4 * tm) 7 (TX.getD 29 []))
  (p_if (p_skip inp len 109) (p_and (p_word inp len (4 * tm) 9 (TX.getD 30 [])) (p_and (p_one p_tl inp len (4 * tm + 1)) (p_fig inp len (4 * tm + 1 + 1) 1)))
  (p_and (p_skip inp len 116) (p_and (p_word inp len (4 * tm) 10 (TX.getD 31 [])) (p_and (p_fig inp len (4 * tm + 1) 2) (p_and (p_fig inp len (4 * tm + 1 + 1) 1) (p_fig inp len (4 * tm + 1 + 2) 1)))))))))))))
