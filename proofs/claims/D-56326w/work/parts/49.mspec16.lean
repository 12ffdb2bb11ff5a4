/-- F reads on within len, and at least k signs if it succeeds -/
def GR (len k : Int) (F : PS → PR) : Prop := ∀ x : PS, 0 ≤ x.1 ∧ x.1 ≤ len → 0 ≤ (F x).2.1 ∧ (F x).2.1 ≤ len ∧ x.1 ≤ (F x).2.1 ∧ ((F x).1 = true → x.1 + k ≤ (F x).2.1)
theorem GR_and {len j k : Int} {F G : PS → PR} (hF : GR len j F) (hG : GR len k G) : GR len (j + k) (p_and F G) := by
  intro x h
  have h1 := hF x h
  unfold p_and
  split
  · next hc =>
    have h2 := hG (F x).2 ⟨h1.1, h1.2.1⟩
    have h3 := h1.2.2.2 hc
    exact ⟨h2.1, h2.2.1, by omega, fun e => by have := h2.2.2.2 e; omega⟩
  · exact ⟨h1.1, h1.2.1, h1.2.2.1, fun e => by cases e⟩
theorem GR_if {len i j k : Int} {F G K : PS → PR} (hF : GR len i F) (hG : GR len j G) (hK : GR len k K) (h2 : k ≤ i + j) : GR len k (p_if F G K) := by
  intro x h
  have h1 := hF x h
  unfold p_if
  split
  · next hc =>
    have h3 := hG (F x).2 ⟨h1.1, h1.2.1⟩
    have h4 := h1.2.2.2 hc
    exact ⟨h3.1, h3.2.1, by omega, fun e => by have := h3.2.2.2 e; omega⟩
  · have h3 := hK (F x).2 ⟨h1.1, h1.2.1⟩
    exact ⟨h3.1, h3.2.1, by omega, fun e => by have := h3.2.2.2 e; omega⟩
theorem GR_0 {len : Int} {F : PS → PR} (h : ∀ x : PS, 0 ≤ x.1 ∧ x.1 ≤ len → 0 ≤ (F x).2.1 ∧ (F x).2.1 ≤ len ∧ x.1 ≤ (F x).2.1) : GR len 0 F := fun x hx => ⟨(h x hx).1, (h x hx).2.1, (h x hx).2.2, fun _ => by have := (h x hx).2.2; omega⟩
theorem GR_le {len j k : Int} {F : PS → PR} (h : GR len j F) (hl : k ≤ j) : GR len k F := fun x hx => ⟨(h x hx).1, (h x hx).2.1, (h x hx).2.2.1, fun e => by have := (h x hx).2.2.2 e; omega⟩
theorem p_cmd_r {inp : Int → Int} (hI : ∀ x, 0 ≤ inp x ∧ inp x < 65536) (len tm : Int) : GR len 3 (p_cmd inp len tm) := by
  have hs : ∀ v : Int, 0 ≤ v → GR len 1 (p_skip inp len v) := fun v hv x hx => by
    have := p_skip_r hI hv hx
    exact ⟨this.1, this.2.1, this.2.2.1, fun e => by have := this.2.2.2 e; omega⟩
  have hw : ∀ (pl w : Int) (k : Nat), GR len ((TX.getD k []).length : Int) (p_word inp len pl w (TX.getD k [])) := fun pl w k x hx => by
    have := p_word_r hI (pl := pl) (w := w) (k := k) hx
    exact ⟨this.1, this.2.1, this.2.2.1, fun e => by have := this.2.2.2 e; omega⟩
  have ht : ∀ pl : Int, GR len 0 (p_one p_tl inp len pl) := fun pl => GR_0 (fun x hx => p_one_r p_tl_0 hI hx)
  have hc : ∀ pl : Int, GR len 0 (p_one p_sc inp len pl) := fun pl => GR_0 (fun x hx => p_one_r p_sc_0 hI hx)
  have hf : ∀ pl dg : Int, GR len 0 (p_fig inp len pl dg) := fun pl dg => GR_0 (fun x hx => p_fig_r hI hx)
  have h2 : ∀ pl : Int, GR len 0 (p_tools inp len pl) := fun pl => GR_0 (fun x hx => p_tools_r hI hx)
  have l21 := hw (4 * tm) 0 21
  have l22 := hw (4 * tm) 1 22
  have l23 := hw (4 * tm) 2 23
  have l24 := hw (4 * tm) 3 24
  have l25 := hw (4 * tm) 4 25
  have l26 := hw (4 * tm) 8 26
  have l27 := hw (4 * tm) 5 27
  have l28 := hw (4 * tm) 6 28
  have l29 := hw (4 * tm) 7 29
  have l30 := hw (4 * tm) 9 30
  have l31 := hw (4 * tm) 10 31
  unfold p_cmd
  refine GR_if (hs _ (by decide)) (GR_le (GR_and l21 (GR_and (ht _) (GR_and (hc _) (hf _ _)))) (k := 2) (by decide)) ?_ (by decide)
  refine GR_if (hs _ (by decide)) (GR_le (GR_and l22 (ht _)) (k := 2) (by decide)) ?_ (by decide)
  refine GR_if (hs _ (by decide)) (GR_le (GR_and l23 (h2 _)) (k := 2) (by decide)) ?_ (by decide)
  refine GR_if (hs _ (by decide)) (GR_le (GR_and l24 (h2 _)) (k := 2) (by decide)) ?_ (by decide)
  refine GR_if (hs _ (by decide)) (GR_if (hs _ (by decide)) (GR_le (GR_and l25 (h2 _)) (k := 1) (by decide)) (GR_le (GR_and l26 (hf _ _)) (k := 2) (by decide)) (by decide)) ?_ (by decide)
  refine GR_if (hs _ (by decide)) (GR_le (GR_and l27 (h2 _)) (k := 2) (by decide)) ?_ (by decide)
  refine GR_if (hs _ (by decide)) (GR_le (GR_and l28 (ht _)) (k := 2) (by decide)) ?_ (by decide)
  refine GR_if (hs _ (by decide)) (GR_le l29 (k := 2) (by decide)) ?_ (by decide)
  refine GR_if (hs _ (by decide)) (GR_le (GR_and l30 (GR_and (ht _) (hf _ _))) (k := 2) (by decide)) ?_ (by decide)
  exact GR_le (GR_and (hs _ (by decide)) (GR_and l31 (GR_and (hf _ _) (GR_and (hf _ _) (hf _ _))))) (by decide)
/-- a text: is it one; how many commands; the state -/
def p_txN (inp : Int → Int) (len : Int) : Nat → Int → PS → Bool × Int × PS
  | 0, tm, x => (false, tm, x)
  | n + 1, tm, x => if (p_cmd inp len tm x).1 = true then (if (p_skip inp len 59 (p_cmd inp len tm x).2).1 = true then p_txN inp len n (tm + 1) (p_skip inp len 59 (p_cmd inp len tm x).2).2 else (decide ((p_skip inp len 59 (p_cmd inp len tm x).2).2.1 = len), tm + 1, (p_skip inp len 59 (p_cmd inp len tm x).2).2)) else (false, tm, (p_cmd inp len tm x).2)
def p_txt (inp : Int → Int) (len : Int) (told : Int → Int) : Bool × Int × PS := p_txN inp len 61 0 (0, told)
theorem p_tx_0 {inp : Int → Int} {len tm : Int} {z : Nat} {x : PS} {T : Bool × Int × PS} {q : PR} (h : p_txN inp len (z + 1) tm x = T) (hq : q = p_cmd inp len tm x) (hc : q.1 = false) : T = (false, tm, q.2) := by
  unfold p_txN at h
  rw [← hq, if_neg (by rw [hc]; decide)] at h
  exact h.symm
theorem p_tx_1 {inp : Int → Int} {len tm : Int} {z : Nat} {x : PS} {T : Bool × Int × PS} {q r : PR} (h : p_txN inp len (z + 1) tm x = T) (hq : q = p_cmd inp len tm x) (hc : q.1 = true) (hr : r = p_skip inp len 59 q.2) (hd : r.1 = true) : p_txN inp len z (tm + 1) (r.2.1, r.2.2) = T := by
  unfold p_txN at h
  rw [← hq, if_pos hc, ← hr, if_pos hd] at h
  exact h
theorem p_tx_2 {inp : Int → Int} {len tm : Int} {z : Nat} {x : PS} {T : Bool × Int × PS} {q r : PR} (h : p_txN inp len (z + 1) tm x = T) (hq : q = p_cmd inp len tm x) (hc : q.1 = true) (hr : r = p_skip inp len 59 q.2) (hd : r.1 = false) : T = (decide (r.2.1 = len), tm + 1, r.2) := by
  unfold p_txN at h
  rw [← hq, if_pos hc, ← hr, if_neg (by rw [hd]; decide)] at h
  exact h.symm
