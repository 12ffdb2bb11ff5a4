/-! ===== states, 2: threads opened and closed ===== -/
/-- an object that is here is of a tool with a recipe -/
def HH (g : Int → Int) : Prop := ∀ k, 0 ≤ k → k < g 1 → m_here g k = true → m_has g (m_thing g k 0) = true
/-- at most one object is here of a tool that is made once -/
def SI (g : Int → Int) : Prop := ∀ j k, 0 ≤ j → j < k → k < g 1 → m_here g j = true → m_here g k = true → m_thing g j 0 = m_thing g k 0 → ¬ m_of g (m_thing g k 0) 0 = 115
theorem op_bit {g : Int → Int} (hg : 0 ≤ g 0) {k : Int} (hk : 0 ≤ k ∧ k ≤ 3) : m_opened g k = (g 0).toNat.testBit k.toNat := by
  obtain ⟨a, ha⟩ := Int.eq_ofNat_of_zero_le hg
  obtain ⟨j, rfl⟩ := Int.eq_ofNat_of_zero_le hk.1
  unfold m_opened shr pw
  rw [ha, decide_eq_true hk, Bool.true_and, Nat.testBit_eq_decide_div_mod_eq]
  apply decide_eq_decide.mpr
  simp only [Int.toNat_natCast]
  rw [← Int.natCast_ediv]
  omega
theorem pw_bit {k j : Int} (hk : 0 ≤ k) (hj : 0 ≤ j) : (pw k).toNat.testBit j.toNat = decide (j = k) := by
  unfold pw
  rw [Int.toNat_natCast, Nat.testBit_two_pow]
  apply decide_eq_decide.mpr
  omega
theorem op_or {g : Int → Int} (hg : 0 ≤ g 0) {f k : Int} (hf : 0 ≤ f ∧ f ≤ 3) (hk : 0 ≤ k ∧ k ≤ 3) : m_opened (ui g 0 (bor (g 0) (pw f))) k = (m_opened g k || decide (k = f)) := by
  have h0 : ui g 0 (bor (g 0) (pw f)) 0 = bor (g 0) (pw f) := ui_s
  have hb : 0 ≤ bor (g 0) (pw f) := by unfold bor; omega
  rw [op_bit (by rw [h0]; exact hb) hk, op_bit hg hk, h0]
  unfold bor
  rw [Int.toNat_natCast, Nat.testBit_or, pw_bit hf.1 hk.1]
theorem op_xor {g : Int → Int} (hg : 0 ≤ g 0) {th k : Int} {g2 : Int → Int} (h2 : g2 0 = bxr (g 0) (pw th)) (ht : 0 ≤ th ∧ th ≤ 3) (ho : m_opened g th = true) (hk : 0 ≤ k ∧ k ≤ 3) : m_opened g2 k = (m_opened g k && !(decide (k = th))) := by
  have hb : 0 ≤ bxr (g 0) (pw th) := by unfold bxr; omega
  rw [op_bit (by rw [h2]; exact hb) hk, op_bit hg hk, h2]
  unfold bxr
  rw [Int.toNat_natCast, Nat.testBit_xor, pw_bit ht.1 hk.1]
  by_cases hq : k = th
  · subst hq
    rw [← op_bit hg hk, ho, decide_eq_true rfl]
    rfl
  · rw [decide_eq_false hq]
    cases (g 0).toNat.testBit k.toNat <;> rfl
theorem cl_here {g : Int → Int} {th k : Int} (hk : 0 ≤ k ∧ k < g 1) : m_here (s_close g th) k = (m_here g k && !(m_goes g th k)) := by
  unfold m_here m_thing s_close
  rw [if_neg (by omega)]
  cases hq : m_goes g th k with
  | true =>
    rw [if_pos (exB_iff.mpr ⟨k, hk.1, hk.2, by rw [hq, Bool.and_true]; exact decide_eq_true (by omega)⟩)]
    rw [show (!true) = false from rfl, Bool.and_false]
    rfl
  | false =>
    rw [if_neg, show (!false) = true from rfl, Bool.and_true]
    intro h
    obtain ⟨j, j0, j1, hj⟩ := exB_iff.mp h
    rw [Bool.and_eq_true] at hj
    have h1 := of_decide_eq_true hj.1
    obtain rfl : j = k := by omega
    rw [hq] at hj
    exact absurd hj.2 (by decide)
theorem cl_of {g : Int → Int} {th y : Int} (h0 : y ≠ 0) (hn : ∀ k, 0 ≤ k → k < g 1 → y ≠ 63 + 10 * k) : s_close g th y = g y := cl_keep (g := g) (gv := s_close g th) (th := th) (n := g 1) (c := bxr (g 0) (pw th)) (fun _ => rfl) h0 hn
theorem cl_tm {g : Int → Int} {th t w : Int} (ht : 0 ≤ t ∧ t < 8) (hw : 0 ≤ w ∧ w < 7) : m_of (s_close g th) t w = m_of g t w := cl_of (by omega) (fun k a b => by omega)
theorem cl_th {g : Int → Int} {th k w : Int} (hk : 0 ≤ k) (hw : 0 ≤ w ∧ w < 10 ∧ w ≠ 2) : m_thing (s_close g th) k w = m_thing g k w := cl_of (by omega) (fun j a b => by omega)
/-- the row's objects with the ones gone that go with a thread -/
def clA (g : Int → Int) (th : Int) (f : Int → Int) (n : Int) : Int → Int := fun x => if (0 ≤ x ∧ x < n) ∧ m_goes g th x = true then 0 else f x
theorem SR.jn {g : Int → Int} {sc : Nat → Int} {ar : Nat → Int → Int} (h : SR g sc ar) : OJ g sc ar := h.2.2.1
theorem SR_open {g : Int → Int} {sc : Nat → Int} {ar : Nat → Int → Int} (h : SR g sc ar) (hg : 0 ≤ g 0) {f : Int} (hf : 0 ≤ f ∧ f ≤ 3) : SR (ui g 0 (bor (g 0) (pw f))) sc (ua ar 9 (ui (ar 9) f 1)) := by
  obtain ⟨hb, hy, ⟨h1, h2, h3⟩, hd⟩ := h
  have e : ∀ x, x ≠ 0 → ui g 0 (bor (g 0) (pw f)) x = g x := fun x hx => ui_n hx
  generalize hG : ui g 0 (bor (g 0) (pw f)) = G at e ⊢
  have em : ∀ t w, 0 ≤ t → 0 ≤ w → m_of G t w = m_of g t w := fun t w a b => e _ (by omega)
  have et : ∀ t w, 0 ≤ t → 0 ≤ w → m_thing G t w = m_thing g t w := fun t w a b => e _ (by omega)
  refine ⟨fun t t0 t8 => ?_, hy, ⟨by rw [e 1 (by decide), e 2 (by decide), e 3 (by decide), e 4 (by decide)]; exact h1, fun k k0 k4 => ?_, fun k k0 k1 => ?_⟩, hd⟩
  · have hh : m_has G t = m_has g t := by unfold m_has; rw [em t 0 t0 (by decide)]
    have := hb t t0 t8
    rw [hh, em t 6 t0 (by decide), em t 0 t0 (by decide), em t 1 t0 (by decide), em t 2 t0 (by decide)]
    refine ⟨this.1, this.2.1, fun q => ?_⟩
    obtain ⟨a, b, c, d⟩ := this.2.2 q
    refine ⟨a, b, c, fun k k0 k3 kn => ?_⟩
    unfold m_need m_dir
    rw [em t _ t0 (by omega)]
    exact d k k0 k3 kn
  · show ui (ar 9) f 1 k = _
    rw [← hG, op_or hg hf (by omega)]
    by_cases hq : k = f
    · subst hq
      rw [ui_s, decide_eq_true rfl, Bool.or_true]; rfl
    · rw [ui_n hq, decide_eq_false hq, Bool.or_false]; exact h2 k k0 k4
  · rw [e 1 (by decide)] at k1
    have := h3 k k0 k1
    unfold m_here
    rw [et k 0 k0 (by decide), et k 1 k0 (by decide), et k 2 k0 (by decide), et k 3 k0 (by decide)]
    refine ⟨this.1, this.2.1, this.2.2.1, this.2.2.2.1, fun j j0 j3 jn => ?_⟩
    rw [et k _ k0 (by omega), et k _ k0 (by omega)]
    exact this.2.2.2.2 j j0 j3 jn
theorem SR_close {g : Int → Int} {sc : Nat → Int} {ar : Nat → Int → Int} (h : SR g sc ar) (hg : 0 ≤ g 0) {th : Int} (ht : 0 ≤ th ∧ th ≤ 3) (ho : m_opened g th = true) : SR (s_close g th) sc (ua (ua ar 9 (ui (ar 9) th 0)) 12 (clA g th (ar 12) (g 1))) := by
  obtain ⟨hb, hy, ⟨h1, h2, h3⟩, hd⟩ := h
  have e : ∀ x, 0 < x → x < 61 → s_close g th x = g x := fun x a b => cl_of (by omega) (fun k _ _ => by omega)
  refine ⟨fun t t0 t8 => ?_, hy, ⟨by rw [e 1 (by decide) (by decide), e 2 (by decide) (by decide), e 3 (by decide) (by decide), e 4 (by decide) (by decide)]; exact h1, fun k k0 k4 => ?_, fun k k0 k1 => ?_⟩, hd⟩
  · have em : ∀ w, 0 ≤ w → w < 7 → m_of (s_close g th) t w = m_of g t w := fun w a b => cl_tm ⟨t0, t8⟩ ⟨a, b⟩
    have hh : m_has (s_close g th) t = m_has g t := by unfold m_has; rw [em 0 (by decide) (by decide)]
    have := hb t t0 t8
    rw [hh, em 6 (by decide) (by decide), em 0 (by decide) (by decide), em 1 (by decide) (by decide), em 2 (by decide) (by decide)]
    refine ⟨this.1, this.2.1, fun q => ?_⟩
    obtain ⟨a, b, c, d⟩ := this.2.2 q
    refine ⟨a, b, c, fun k k0 k3 kn => ?_⟩
    unfold m_need m_dir
    rw [em _ (by omega) (by omega)]
    exact d k k0 k3 kn
  · show ui (ar 9) th 0 k = _
    rw [op_xor hg (g2 := s_close g th) rfl ht ho (by omega)]
    by_cases hq : k = th
    · subst hq
      rw [ui_s, decide_eq_true rfl]
      cases m_opened g k <;> rfl
    · rw [ui_n hq, decide_eq_false hq, h2 k k0 k4]
      cases m_opened g k <;> rfl
  · rw [e 1 (by decide) (by decide)] at k1
    have := h3 k k0 k1
    rw [cl_here ⟨k0, k1⟩, cl_th k0 (by decide), cl_th k0 (by decide), cl_th k0 (by decide)]
    refine ⟨this.1, this.2.1, ?_, this.2.2.2.1, fun j j0 j3 jn => ?_⟩
    · show clA g th (ar 12) (g 1) k = _
      unfold clA
      cases hq : m_goes g th k with
      | true => rw [if_pos ⟨⟨k0, k1⟩, rfl⟩]; cases m_here g k <;> rfl
      | false => rw [if_neg (by simp), this.2.2.1]; cases m_here g k <;> rfl
    · rw [cl_th k0 (by omega), cl_th k0 (by omega)]
      exact this.2.2.2.2 j j0 j3 jn
/-- who is a single, seen among the first n -/
def sngS (g : Int → Int) (n : Int) : Int → Bool := fun v => exB (fun k => (m_here g k && decide (m_of g (m_thing g k 0) 0 = 115)) && decide (m_thing g k 0 = v)) n
theorem sng_no {g : Int → Int} (hs : SI g) {k : Int} (hk : 0 ≤ k ∧ k < g 1) (hh : m_here g k = true) (h5 : m_of g (m_thing g k 0) 0 = 115) : sngS g k (m_thing g k 0) = false := by
  apply exB_none
  intro j j0 j1
  cases hq : m_here g j with
  | false => rfl
  | true =>
    by_cases he : m_thing g j 0 = m_thing g k 0
    · exact absurd h5 (hs j k j0 j1 hk.2 hq hh he)
    · rw [decide_eq_false he, Bool.and_false]
