/-! ===== states copied ===== -/
theorem SR_cp {g : Int → Int} {sc sc2 : Nat → Int} {ar ar2 : Nat → Int → Int} (h : SR g sc2 ar2) (hs : sc 2 = sc2 2 ∧ sc 9 = sc2 9 ∧ sc 10 = sc2 10 ∧ sc 11 = sc2 11 ∧ sc 13 = 0)
    (h8 : ∀ x, 0 ≤ x → x < 8 → ar 2 x = ar2 2 x ∧ ar 3 x = ar2 3 x ∧ ar 4 x = ar2 4 x ∧ ar 5 x = ar2 5 x ∧ ar 8 x = ar2 8 x) (h24 : ∀ x, 0 ≤ x → x < 24 → ar 6 x = ar2 6 x ∧ ar 7 x = ar2 7 x) (h4 : ∀ x, 0 ≤ x → x < 4 → ar 9 x = ar2 9 x)
    (hn : ∀ x, 0 ≤ x → x < g 1 → ar 10 x = ar2 10 x ∧ ar 11 x = ar2 11 x ∧ ar 12 x = ar2 12 x ∧ ar 13 x = ar2 13 x) (h3 : ∀ x, 0 ≤ x → x < g 1 * 3 → ar 14 x = ar2 14 x ∧ ar 15 x = ar2 15 x) : SR g sc ar := by
  obtain ⟨hb, hy, ⟨h1, h2, h5⟩, hd⟩ := h
  refine ⟨fun t t0 t8 => ?_, ⟨fun t t0 t8 => ?_, fun x x0 x1 => ?_⟩, ⟨by rw [hs.1, hs.2.1, hs.2.2.1, hs.2.2.2.1]; exact h1, fun k k0 k4 => by rw [h4 k k0 k4]; exact h2 k k0 k4, fun k k0 k1 => ?_⟩, hs.2.2.2.2⟩
  · obtain ⟨e2, e3, e4, e5, e8⟩ := h8 t t0 t8
    obtain ⟨a, b, c⟩ := hb t t0 t8
    rw [e2, e3, e4, e5, e8]
    refine ⟨a, b, fun hh => ⟨(c hh).1, (c hh).2.1, (c hh).2.2.1, fun k k0 k3 kn => ?_⟩⟩
    obtain ⟨e6, e7⟩ := h24 (3 * t + k) (by omega) (by omega)
    rw [e6, e7]
    exact (c hh).2.2.2 k k0 k3 kn
  · rw [(h8 t t0 t8).2.1]
    exact hy.1 t t0 t8
  · rw [(h24 x x0 x1).2]
    exact hy.2 x x0 x1
  · obtain ⟨e10, e11, e12, e13⟩ := hn k k0 k1
    rw [e10, e11, e12, e13]
    have := h5 k k0 k1
    refine ⟨this.1, this.2.1, this.2.2.1, this.2.2.2.1, fun j j0 j3 jn => ?_⟩
    obtain ⟨e14, e15⟩ := h3 (3 * k + j) (by omega) (by omega)
    rw [e14, e15]
    exact this.2.2.2.2 j j0 j3 jn
theorem BR.r2 {g : Int → Int} {ar : Nat → Int → Int} (h : BR g ar) : ∀ x, 0 ≤ x → x < 8 → 0 ≤ ar 2 x ∧ ar 2 x ≤ 1 := fun x a b => by rw [(h x a b).1]; exact b2_r _
theorem SR.r9 {g : Int → Int} {sc : Nat → Int} {ar : Nat → Int → Int} (h : SR g sc ar) : ∀ x, 0 ≤ x → x < 4 → 0 ≤ ar 9 x ∧ ar 9 x ≤ 1 := fun x a b => by rw [h.op ⟨a, b⟩]; exact b2_r _
theorem SR.r12 {g : Int → Int} {sc : Nat → Int} {ar : Nat → Int → Int} (h : SR g sc ar) : ∀ x, 0 ≤ x → x < sc 2 → 0 ≤ ar 12 x ∧ ar 12 x ≤ 1 := fun x a b => by rw [h.her ⟨a, by rw [← h.n1.1]; exact b⟩]; exact b2_r _
