theorem GB_cmd {inp : Int → Int} (hI : ∀ x, 0 ≤ inp x ∧ inp x < 65536) (len tm : Int) : GB len (p_cmd inp len tm) := by
  have hs : ∀ v : Int, 0 ≤ v → GR len 1 (p_skip inp len v) := fun v hv x hx => by
    have := p_skip_r hI hv hx
    exact ⟨this.1, this.2.1, this.2.2.1, fun e => by have := this.2.2.2 e; omega⟩
  have hw : ∀ (pl w : Int) (k : Nat), GR len ((TX.getD k []).length : Int) (p_word inp len pl w (TX.getD k [])) := fun pl w k x hx => by
    have := p_word_r hI (pl := pl) (w := w) (k := k) hx
    exact ⟨this.1, this.2.1, this.2.2.1, fun e => by have := this.2.2.2 e; omega⟩
  have ht : ∀ pl : Int, GR len 0 (p_one p_tl inp len pl) := fun pl => GR_0 (fun x hx => p_one_r p_tl_0 hI hx)
  have hc : ∀ pl : Int, GR len 0 (p_one p_sc inp len pl) := fun pl => GR_0 (fun x hx => p_one_r p_sc_0 hI hx)
  have hf : ∀ pl dg : Int, GR len 0 (p_fig inp len pl dg) := fun pl dg => GR_0 (fun x hx => p_fig_r hI hx)
  have bs := GB_skip inp len
  have bw : ∀ (pl w : Int) (k : Nat), 0 ≤ w ∧ w < 65536 → GB len (p_word inp len pl w (TX.getD k [])) := fun pl w k h => GB_word len pl w h _
  have bt := GB_one p_tl_0 hI len
  have bc := GB_one p_sc_0 hI len
  have bf := GB_fig hI len
  have b2 : ∀ pl : Int, GB len (p_tools inp len pl) := fun pl => GB_and (bt _) (ht _) (bt _)
  unfold p_cmd
  refine GB_if (bs _) (hs _ (by decide)) (GB_and (bw _ _ 21 (by decide)) (hw _ _ 21) (GB_and (bt _) (ht _) (GB_and (bc _) (hc _) (bf _ _ (by decide))))) ?_
  refine GB_if (bs _) (hs _ (by decide)) (GB_and (bw _ _ 22 (by decide)) (hw _ _ 22) (bt _)) ?_
  refine GB_if (bs _) (hs _ (by decide)) (GB_and (bw _ _ 23 (by decide)) (hw _ _ 23) (b2 _)) ?_
  refine GB_if (bs _) (hs _ (by decide)) (GB_and (bw _ _ 24 (by decide)) (hw _ _ 24) (b2 _)) ?_
  refine GB_if (bs _) (hs _ (by decide)) (GB_if (bs _) (hs _ (by decide)) (GB_and (bw _ _ 25 (by decide)) (hw _ _ 25) (b2 _)) (GB_and (bw _ _ 26 (by decide)) (hw _ _ 26) (bf _ _ (by decide)))) ?_
  refine GB_if (bs _) (hs _ (by decide)) (GB_and (bw _ _ 27 (by decide)) (hw _ _ 27) (b2 _)) ?_
  refine GB_if (bs _) (hs _ (by decide)) (GB_and (bw _ _ 28 (by decide)) (hw _ _ 28) (bt _)) ?_
  refine GB_if (bs _) (hs _ (by decide)) (bw _ _ 29 (by decide)) ?_
  refine GB_if (bs _) (hs _ (by decide)) (GB_and (bw _ _ 30 (by decide)) (hw _ _ 30) (GB_and (bt _) (ht _) (bf _ _ (by decide)))) ?_
  exact GB_and (bs _) (hs _ (by decide)) (GB_and (bw _ _ 31 (by decide)) (hw _ _ 31) (GB_and (bf _ _ (by decide)) (hf _ _) (GB_and (bf _ _ (by decide)) (hf _ _) (bf _ _ (by decide)))))
theorem p_txN_b {inp : Int → Int} (hI : ∀ x, 0 ≤ inp x ∧ inp x < 65536) (len : Int) : ∀ (n : Nat) (tm : Int) (x : PS), 0 ≤ x.1 ∧ x.1 ≤ len → TB x.2 → TB (p_txN inp len n tm x).2.2.2 ∧ tm ≤ (p_txN inp len n tm x).2.1 ∧ 4 * ((p_txN inp len n tm x).2.1 - tm) ≤ len + 1 - x.1 := by
  intro n
  induction n with
  | zero => intro tm x hx h; exact ⟨h, Int.le_refl _, by show 4 * (tm - tm) ≤ _; omega⟩
  | succ n ih =>
    intro tm x hx h
    have h1 := p_cmd_r hI len tm x hx
    have b1 := GB_cmd hI len tm x hx h
    unfold p_txN
    split
    · next hc =>
      have h2 := p_skip_r hI (len := len) (v := 59) (x := (p_cmd inp len tm x).2) (by decide) ⟨h1.1, h1.2.1⟩
      have b2 := GB_skip inp len 59 (p_cmd inp len tm x).2 ⟨h1.1, h1.2.1⟩ b1
      have h3 := h1.2.2.2 hc
      split
      · next hd =>
        have h4 := h2.2.2.2 hd
        have := ih (tm + 1) (p_skip inp len 59 (p_cmd inp len tm x).2).2 ⟨h2.1, h2.2.1⟩ b2
        exact ⟨this.1, by omega, by omega⟩
      · exact ⟨b2, by show tm ≤ tm + 1; omega, by show 4 * (tm + 1 - tm) ≤ _; omega⟩
    · exact ⟨b1, Int.le_refl _, by show 4 * (tm - tm) ≤ _; omega⟩
