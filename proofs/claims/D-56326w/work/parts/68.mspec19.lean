/-! ===== what is told stays a char ===== -/
def TB (f : Int → Int) : Prop := ∀ y, 0 ≤ f y ∧ f y < 65536
def GB (len : Int) (F : PS → PR) : Prop := ∀ x : PS, 0 ≤ x.1 ∧ x.1 ≤ len → TB x.2 → TB (F x).2.2
theorem TB_ui {f : Int → Int} {i v : Int} (h : TB f) (hv : 0 ≤ v ∧ v < 65536) : TB (ui f i v) := by
  intro y
  unfold ui
  split
  · exact hv
  · exact h y
theorem GB_and {len k : Int} {F G : PS → PR} (hF : GB len F) (hr : GR len k F) (hG : GB len G) : GB len (p_and F G) := by
  intro x hx h
  have h1 := hr x hx
  unfold p_and
  split
  · exact hG (F x).2 ⟨h1.1, h1.2.1⟩ (hF x hx h)
  · exact hF x hx h
theorem GB_if {len k : Int} {F G K : PS → PR} (hF : GB len F) (hr : GR len k F) (hG : GB len G) (hK : GB len K) : GB len (p_if F G K) := by
  intro x hx h
  have h1 := hr x hx
  unfold p_if
  split
  · exact hG (F x).2 ⟨h1.1, h1.2.1⟩ (hF x hx h)
  · exact hK (F x).2 ⟨h1.1, h1.2.1⟩ (hF x hx h)
theorem GB_skip (inp : Int → Int) (len v : Int) : GB len (p_skip inp len v) := by
  intro x _ h
  rw [p_skip_t]
  exact h
theorem GB_one {ok : Int → Bool} (ho : ∀ v, ok v = true → 0 ≤ v) {inp : Int → Int} (hI : ∀ x, 0 ≤ inp x ∧ inp x < 65536) (len pl : Int) : GB len (p_one ok inp len pl) := by
  intro x hx h
  have h1 := GB_skip inp len 32 x hx h
  unfold p_one
  split
  · split
    · next h3 =>
      have := p_here_r hI len (p_skip inp len 32 x).2.1
      exact TB_ui h1 ⟨ho _ h3, this.2.1⟩
    · exact h1
  · exact h1
theorem GB_fig {inp : Int → Int} (hI : ∀ x, 0 ≤ inp x ∧ inp x < 65536) (len pl dg : Int) (hd : dg ≤ 2) : GB len (p_fig inp len pl dg) := by
  intro x hx h
  have h0 := p_skip_r (len := len) (v := 32) hI (by decide) hx
  have h1 := GB_skip inp len 32 x hx h
  have h2 := p_figN_r hI (len := len) dg.toNat 0 (p_skip inp len 32 x).2.1 h0.1 h0.2.1 (by decide)
  have h3 : (10 : Int) ^ dg.toNat ≤ 10 ^ 2 := by
    have h4 : dg.toNat = 0 ∨ dg.toNat = 1 ∨ dg.toNat = 2 := by omega
    rcases h4 with e | e | e <;> rw [e] <;> decide
  have h5 : (10 : Int) ^ 2 = 100 := by decide
  unfold p_fig
  split
  · split
    · exact TB_ui h1 (by omega)
    · exact h1
  · exact h1
theorem GB_word {inp : Int → Int} (len pl w : Int) (hw : 0 ≤ w ∧ w < 65536) : ∀ (L : List Int), GB len (p_word inp len pl w L) := by
  have key : ∀ (L : List Int) (x : PS), TB x.2 → TB (p_wd inp len L x).2.2 := by
    intro L
    induction L with
    | nil => intro x h; exact h
    | cons v L ih =>
      intro x h
      have h1 : TB (p_skip inp len v x).2.2 := by rw [p_skip_t]; exact h
      unfold p_wd
      split
      · exact ih _ h1
      · exact h1
  intro L x _ h
  exact key L (x.1, ui x.2 pl w) (TB_ui h hw)
