/-! ===== texts: the state of a reading is (place, what was told) ===== -/
abbrev PS : Type := Int × (Int → Int)
abbrev PR : Type := Bool × PS
def p_here (inp : Int → Int) (len a : Int) : Int := if a < len then inp a else -1
theorem p_here_r {inp : Int → Int} (h : ∀ x, 0 ≤ inp x ∧ inp x < 65536) (len a : Int) : -1 ≤ p_here inp len a ∧ p_here inp len a < 65536 ∧ (0 ≤ p_here inp len a → a < len) := by
  unfold p_here
  have := h a
  split <;> omega
def p_skip (inp : Int → Int) (len v : Int) (x : PS) : PR := if p_here inp len x.1 = v then (true, x.1 + 1, x.2) else (false, x)
theorem p_skip_r {inp : Int → Int} (hI : ∀ x, 0 ≤ inp x ∧ inp x < 65536) {len v : Int} {x : PS} (hv : 0 ≤ v) (h : 0 ≤ x.1 ∧ x.1 ≤ len) : 0 ≤ (p_skip inp len v x).2.1 ∧ (p_skip inp len v x).2.1 ≤ len ∧ x.1 ≤ (p_skip inp len v x).2.1 ∧ ((p_skip inp len v x).1 = true → (p_skip inp len v x).2.1 = x.1 + 1) := by
  unfold p_skip
  have hr := p_here_r hI len x.1
  split
  · exact ⟨by show 0 ≤ x.1 + 1; omega, by show x.1 + 1 ≤ len; omega, by show x.1 ≤ x.1 + 1; omega, fun _ => rfl⟩
  · exact ⟨h.1, h.2, Int.le_refl _, fun e => by cases e⟩
def p_tl (v : Int) : Bool := decide (97 ≤ v ∧ v ≤ 104)
def p_sc (v : Int) : Bool := decide (v = 115 ∨ v = 116 ∨ v = 101)
def p_one (ok : Int → Bool) (inp : Int → Int) (len pl : Int) (x : PS) : PR := if (p_skip inp len 32 x).1 = true then (if ok (p_here inp len (p_skip inp len 32 x).2.1) = true then (true, (p_skip inp len 32 x).2.1 + 1, ui (p_skip inp len 32 x).2.2 pl (p_here inp len (p_skip inp len 32 x).2.1)) else (false, (p_skip inp len 32 x).2)) else (false, (p_skip inp len 32 x).2)
theorem p_skip_t (inp : Int → Int) (len v : Int) (x : PS) : (p_skip inp len v x).2.2 = x.2 := by unfold p_skip; split <;> rfl
def p_figN (inp : Int → Int) (len : Int) : Nat → Int → Int → Int × Int
  | 0, v, a => (v, a)
  | n + 1, v, a => if 48 ≤ p_here inp len a ∧ p_here inp len a ≤ 57 then p_figN inp len n (10 * v + p_here inp len a - 48) (a + 1) else (v, a)
def p_dg (v : Int) : Bool := decide (48 ≤ v ∧ v ≤ 57)
def p_fig (inp : Int → Int) (len pl dg : Int) (x : PS) : PR := if (p_skip inp len 32 x).1 = true then (if p_dg (p_here inp len (p_skip inp len 32 x).2.1) = true then (true, (p_figN inp len dg.toNat 0 (p_skip inp len 32 x).2.1).2, ui (p_skip inp len 32 x).2.2 pl (p_figN inp len dg.toNat 0 (p_skip inp len 32 x).2.1).1) else (false, (p_skip inp len 32 x).2)) else (false, (p_skip inp len 32 x).2)
theorem p_figN_e {inp : Int → Int} {len : Int} {n : Nat} {v a : Int} (h : n = 0 ∨ ¬ (48 ≤ p_here inp len a ∧ p_here inp len a ≤ 57)) : p_figN inp len n v a = (v, a) := by
  cases n with
  | zero => rfl
  | succ n => exact if_neg (h.resolve_left (by omega))
theorem ui_ui (f : Int → Int) (i a b : Int) : ui (ui f i a) i b = ui f i b := by
  funext x
  unfold ui
  split <;> rfl
def p_and (F G : PS → PR) (x : PS) : PR := if (F x).1 = true then G (F x).2 else (false, (F x).2)
def p_tools (inp : Int → Int) (len pl : Int) : PS → PR := p_and (p_one p_tl inp len pl) (p_one p_tl inp len (pl + 1))
theorem p_one_r {ok : Int → Bool} (ho : ∀ v, ok v = true → 0 ≤ v) {inp : Int → Int} (hI : ∀ x, 0 ≤ inp x ∧ inp x < 65536) {len pl : Int} {x : PS} (h : 0 ≤ x.1 ∧ x.1 ≤ len) : 0 ≤ (p_one ok inp len pl x).2.1 ∧ (p_one ok inp len pl x).2.1 ≤ len ∧ x.1 ≤ (p_one ok inp len pl x).2.1 := by
  have h1 := p_skip_r (len := len) (v := 32) hI (by decide) h
  unfold p_one
  split
  · split
    · next h3 =>
      have h2 := ho _ h3
      have hr := p_here_r hI len (p_skip inp len 32 x).2.1
      exact ⟨by show 0 ≤ (p_skip inp len 32 x).2.1 + 1; omega, by show (p_skip inp len 32 x).2.1 + 1 ≤ len; omega, by show x.1 ≤ (p_skip inp len 32 x).2.1 + 1; omega⟩
    · exact ⟨h1.1, h1.2.1, h1.2.2.1⟩
  · exact ⟨h1.1, h1.2.1, h1.2.2.1⟩
theorem p_tl_0 (v : Int) (h : p_tl v = true) : 0 ≤ v := by
  have := of_decide_eq_true h
  omega
theorem p_sc_0 (v : Int) (h : p_sc v = true) : 0 ≤ v := by
  have := of_decide_eq_true h
  omega
theorem p_figN_r {inp : Int → Int} (hI : ∀ x, 0 ≤ inp x ∧ inp x < 65536) {len : Int} : ∀ (n : Nat) (v a : Int), 0 ≤ a → a ≤ len → 0 ≤ v → a ≤ (p_figN inp len n v a).2 ∧ (p_figN inp len n v a).2 ≤ len ∧ 0 ≤ (p_figN inp len n v a).1 ∧ (p_figN inp len n v a).1 < (v + 1) * 10 ^ n := by
  intro n
  induction n with
  | zero =>
    intro v a h0 h1 hv
    exact ⟨Int.le_refl _, h1, hv, by show v < (v + 1) * 1; omega⟩
  | succ n ih =>
    intro v a h0 h1 hv
    unfold p_figN
    split
    · next hd =>
      have hr := p_here_r hI len a
      have := ih (10 * v + p_here inp len a - 48) (a + 1) (by omega) (by omega) (by omega)
      refine ⟨by omega, this.2.1, this.2.2.1, Int.lt_of_lt_of_le this.2.2.2 ?_⟩
      rw [Int.pow_succ, Int.mul_comm (10 ^ n) 10, ← Int.mul_assoc]
      exact Int.mul_le_mul_of_nonneg_right (by omega) (Int.pow_nonneg (by decide))
    · refine ⟨Int.le_refl _, h1, hv, Int.lt_of_lt_of_le (show v < (v + 1) * 1 by omega) (Int.mul_le_mul_of_nonneg_left ?_ (by omega))⟩
      exact Int.add_one_le_iff.mpr (Int.pow_pos (by decide))
theorem p_fig_r {inp : Int → Int} (hI : ∀ x, 0 ≤ inp x ∧ inp x < 65536) {len pl dg : Int} {x : PS} (h : 0 ≤ x.1 ∧ x.1 ≤ len) : 0 ≤ (p_fig inp len pl dg x).2.1 ∧ (p_fig inp len pl dg x).2.1 ≤ len ∧ x.1 ≤ (p_fig inp len pl dg x).2.1 := by
  have h1 := p_skip_r (len := len) (v := 32) hI (by decide) h
  have h2 := p_figN_r hI (len := len) dg.toNat 0 (p_skip inp len 32 x).2.1 h1.1 h1.2.1 (by decide)
  unfold p_fig
  split
  · split
    · exact ⟨by show 0 ≤ (p_figN inp len dg.toNat 0 (p_skip inp len 32 x).2.1).2; omega, h2.2.1, by show x.1 ≤ (p_figN inp len dg.toNat 0 (p_skip inp len 32 x).2.1).2; omega⟩
    · exact ⟨h1.1, h1.2.1, h1.2.2.1⟩
  · exact ⟨h1.1, h1.2.1, h1.2.2.1⟩
theorem p_and_r {F G : PS → PR} {len : Int} (hF : ∀ x : PS, 0 ≤ x.1 ∧ x.1 ≤ len → 0 ≤ (F x).2.1 ∧ (F x).2.1 ≤ len ∧ x.1 ≤ (F x).2.1) (hG : ∀ x : PS, 0 ≤ x.1 ∧ x.1 ≤ len → 0 ≤ (G x).2.1 ∧ (G x).2.1 ≤ len ∧ x.1 ≤ (G x).2.1) {x : PS} (h : 0 ≤ x.1 ∧ x.1 ≤ len) : 0 ≤ (p_and F G x).2.1 ∧ (p_and F G x).2.1 ≤ len ∧ x.1 ≤ (p_and F G x).2.1 := by
  have h1 := hF x h
  unfold p_and
  split
  · have h2 := hG (F x).2 ⟨h1.1, h1.2.1⟩
    exact ⟨h2.1, h2.2.1, Int.le_trans h1.2.2 h2.2.2⟩
  · exact h1
theorem p_tools_r {inp : Int → Int} (hI : ∀ x, 0 ≤ inp x ∧ inp x < 65536) {len pl : Int} {x : PS} (h : 0 ≤ x.1 ∧ x.1 ≤ len) : 0 ≤ (p_tools inp len pl x).2.1 ∧ (p_tools inp len pl x).2.1 ≤ len ∧ x.1 ≤ (p_tools inp len pl x).2.1 := p_and_r (fun x h => p_one_r p_tl_0 hI h) (fun x h => p_one_r p_tl_0 hI h) h
theorem p_fig_s {inp : Int → Int} {len v a : Int} {z : Nat} {t : Int × Int} (h : p_figN inp len (z + 1) v a = t) (hd : 48 ≤ p_here inp len a ∧ p_here inp len a ≤ 57) : p_figN inp len z (10 * v + p_here inp len a - 48) (a + 1) = t := (if_pos hd).symm.trans h
