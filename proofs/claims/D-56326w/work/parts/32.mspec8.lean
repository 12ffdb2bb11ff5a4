/-! ===== commands, 3: swaps, threads ===== -/
theorem s_rem_r {g : Int → Int} {t p : Int} : m_of (s_rem g t p) t 2 = m_of g t 2 - 1 := if_pos rfl
def chN (g : Int → Int) : Nat → Int → Int → Int
  | 0, _, _ => 0
  | n + 1, k, t => if k = t then 1 else if 0 < m_of g k 6 then (if chN g n (m_of g k 6 - 1) t = 0 then 0 else chN g n (m_of g k 6 - 1) t + 1) else 0
theorem chN_r (g : Int → Int) : ∀ (n : Nat) (k t : Int), 0 ≤ chN g n k t := by
  intro n
  induction n with
  | zero => intro k t; exact Int.le_refl 0
  | succ n ih =>
    intro k t
    have := ih (m_of g k 6 - 1) t
    simp only [chN]
    repeat' split
    all_goals omega
/-- the place of t in the swaps from b on, 0: it isn't there -/
noncomputable def m_chain (g : Int → Int) (b t : Int) : Int := chN g (m_len g b + 1) b t
def chR (g : Int → Int) (z : Nat) (k t : Int) : Int := if k < 0 then 0 else chN g (z + 1) k t
theorem chR_end {g : Int → Int} {z : Nat} {k t : Int} (hk : 0 ≤ k) (hn : ¬ k = t) (h : m_of g k 6 = 0) : chR g z k t = 0 := by
  unfold chR
  rw [if_neg (by omega)]
  simp only [chN]
  rw [if_neg hn, if_neg (by omega)]
theorem chR_hit {g : Int → Int} {z : Nat} {t : Int} (hk : 0 ≤ t) : chR g z t t = 1 := by
  unfold chR
  rw [if_neg (by omega)]
  simp only [chN]
  rw [if_pos True.intro]
theorem chR_step {g : Int → Int} {z : Nat} {k t : Int} (hk : 0 ≤ k) (hn : ¬ k = t) (h : 0 < m_of g k 6) : chR g (z + 1) k t = if chR g z (m_of g k 6 - 1) t = 0 then 0 else chR g z (m_of g k 6 - 1) t + 1 := by
  have e : chR g z (m_of g k 6 - 1) t = chN g (z + 1) (m_of g k 6 - 1) t := if_neg (by omega)
  rw [e]
  unfold chR
  rw [if_neg (by omega)]
  show (if k = t then _ else if 0 < m_of g k 6 then _ else _) = _
  rw [if_neg hn, if_pos h]
theorem chR_r (g : Int → Int) (z : Nat) (k t : Int) : 0 ≤ chR g z k t := by
  have := chN_r g (z + 1) k t
  unfold chR
  split <;> omega
theorem sw_same {g : Int → Int} {t v : Int} {u : Int} (hn : u ≠ t) : m_of (m_set g t 6 v) u 6 = m_of g u 6 := m_set_n (by omega) (by omega) (Or.inl hn)
theorem chain_ends {g : Int → Int} {t v : Int} : ∀ (n : Nat) (k : Int), chN g (n + 1) k t = 0 → m_of g (m_stN g n k) 6 = 0 → ∃ q, m_of (m_set g t 6 v) (m_stN (m_set g t 6 v) q k) 6 = 0 := by
  intro n
  induction n with
  | zero =>
    intro k h1 h2
    have hk : k ≠ t := by
      intro e
      simp only [chN] at h1
      rw [if_pos e] at h1
      cases h1
    exact ⟨0, by show m_of (m_set g t 6 v) k 6 = 0; rw [sw_same hk]; exact h2⟩
  | succ n ih =>
    intro k h1 h2
    have hk : k ≠ t := by
      intro e
      simp only [chN] at h1
      rw [if_pos e] at h1
      cases h1
    by_cases hs : 0 < m_of g k 6
    · have h3 : chN g (n + 1) (m_of g k 6 - 1) t = 0 := by
        have h4 : (if k = t then (1 : Int) else if 0 < m_of g k 6 then (if chN g (n + 1) (m_of g k 6 - 1) t = 0 then 0 else chN g (n + 1) (m_of g k 6 - 1) t + 1) else 0) = 0 := h1
        rw [if_neg hk, if_pos hs] at h4
        have h5 := chN_r g (n + 1) (m_of g k 6 - 1) t
        split at h4
        · assumption
        · omega
      have h4 : m_of g (m_stN g n (m_of g k 6 - 1)) 6 = 0 := by
        simp only [m_stN] at h2
        rw [if_pos hs] at h2
        exact h2
      obtain ⟨q, hq⟩ := ih _ h3 h4
      refine ⟨q + 1, ?_⟩
      simp only [m_stN]
      rw [sw_same hk, if_pos hs]
      exact hq
    · have h6 : m_of g k 6 = 0 := by
        rw [m_stN_end (by omega)] at h2
        exact h2
      exact ⟨0, by show m_of (m_set g t 6 v) k 6 = 0; rw [sw_same hk]; exact h6⟩
theorem swap_ends {g : Int → Int} {t b : Int} (hb : 0 ≤ b) (hc : ∃ q, m_of (m_set g t 6 (b + 1)) (m_stN (m_set g t 6 (b + 1)) q b) 6 = 0) : ∀ (n : Nat) (k : Int), m_of g (m_stN g n k) 6 = 0 → ∃ q, m_of (m_set g t 6 (b + 1)) (m_stN (m_set g t 6 (b + 1)) q k) 6 = 0 := by
  intro n
  induction n with
  | zero =>
    intro k h
    by_cases hk : k = t
    · subst hk
      obtain ⟨q, hq⟩ := hc
      refine ⟨q + 1, ?_⟩
      simp only [m_stN]
      rw [m_set_s, if_pos (by omega), show b + 1 - 1 = b by omega]
      exact hq
    · exact ⟨0, by show m_of (m_set g t 6 (b + 1)) k 6 = 0; rw [sw_same hk]; exact h⟩
  | succ n ih =>
    intro k h
    by_cases hk : k = t
    · subst hk
      obtain ⟨q, hq⟩ := hc
      refine ⟨q + 1, ?_⟩
      simp only [m_stN]
      rw [m_set_s, if_pos (by omega), show b + 1 - 1 = b by omega]
      exact hq
    · by_cases hs : 0 < m_of g k 6
      · simp only [m_stN] at h
        rw [if_pos hs] at h
        obtain ⟨q, hq⟩ := ih _ h
        refine ⟨q + 1, ?_⟩
        simp only [m_stN]
        rw [sw_same hk, if_pos hs]
        exact hq
      · rw [m_stN_end (by omega)] at h
        exact ⟨0, by show m_of (m_set g t 6 (b + 1)) k 6 = 0; rw [sw_same hk]; exact h⟩
theorem cut_ends {g : Int → Int} {t : Int} : ∀ (n : Nat) (k : Int), m_of g (m_stN g n k) 6 = 0 → ∃ q, m_of (m_set g t 6 0) (m_stN (m_set g t 6 0) q k) 6 = 0 := by
  intro n
  induction n with
  | zero =>
    intro k h
    by_cases hk : k = t
    · subst hk; exact ⟨0, m_set_s _ _ _ _⟩
    · exact ⟨0, by show m_of (m_set g t 6 0) k 6 = 0; rw [sw_same hk]; exact h⟩
  | succ n ih =>
    intro k h
    by_cases hk : k = t
    · subst hk; exact ⟨0, m_set_s _ _ _ _⟩
    · by_cases hs : 0 < m_of g k 6
      · simp only [m_stN] at h
        rw [if_pos hs] at h
        obtain ⟨q, hq⟩ := ih _ h
        refine ⟨q + 1, ?_⟩
        simp only [m_stN]
        rw [sw_same hk, if_pos hs]
        exact hq
      · rw [m_stN_end (by omega)] at h
        exact ⟨0, by show m_of (m_set g t 6 0) k 6 = 0; rw [sw_same hk]; exact h⟩
theorem swap_ok {g : Int → Int} {t b : Int} (hsw : SwOK g) (ht : 0 ≤ t ∧ t < 8) (hb : 0 ≤ b ∧ b < 8) (h : m_chain g b t = 0) : SwOK (m_set g t 6 (b + 1)) := by
  have h1 := hsw b hb.1 hb.2
  have hc := chain_ends (v := b + 1) _ _ h h1.2.2
  intro u u1 u2
  have h2 := hsw u u1 u2
  have h3 := m_stands_end (swap_ends hb.1 hc _ _ h2.2.2)
  refine ⟨?_, ?_, h3⟩
  · by_cases hu : u = t
    · subst hu; rw [m_set_s]; omega
    · rw [sw_same hu]; exact h2.1
  · by_cases hu : u = t
    · subst hu; rw [m_set_s]; omega
    · rw [sw_same hu]; exact h2.2.1
theorem cut_ok {g : Int → Int} {t : Int} (hsw : SwOK g) : SwOK (m_set g t 6 0) := by
  intro u u1 u2
  have h2 := hsw u u1 u2
  have h3 := m_stands_end (cut_ends (t := t) _ _ h2.2.2)
  refine ⟨?_, ?_, h3⟩
  · by_cases hu : u = t
    · subst hu; rw [m_set_s]; omega
    · rw [sw_same hu]; exact h2.1
  · by_cases hu : u = t
    · subst hu; rw [m_set_s]; omega
    · rw [sw_same hu]; exact h2.2.1
theorem set_tw {g : Int → Int} {t v : Int} (h : TW g) : TW (m_set g t 6 v) := by
  intro u h1 h2
  rw [m_set_n (by omega) (by omega) (Or.inr (by omega))]
  exact h u h1 h2
theorem set_back {g g1 g2 : Int → Int} {i v h : Int} (hh : g i = h) (e1 : g1 = ui g i v) (e2 : g2 = ui g1 i h) : g2 = g := by
  funext x
  rw [e2, e1]
  unfold ui
  split
  · rename_i q; rw [q]; exact hh.symm
  · rfl
def c_repl (t b : Int) : Int := if (97 ≤ t ∧ t ≤ 104) ∧ (97 ≤ b ∧ b ≤ 104) ∧ ¬ t = b then 0 else 1
theorem c_repl_r (t b : Int) : 0 ≤ c_repl t b ∧ c_repl t b ≤ 1 := by unfold c_repl; split <;> omega
theorem c_repl_ok {t b : Int} (h : ¬ 0 < c_repl t b) : (97 ≤ t ∧ t ≤ 104) ∧ (97 ≤ b ∧ b ≤ 104) ∧ ¬ t = b := by
  unfold c_repl at h
  split at h
  · assumption
  · omega
def m_swaps (g : Int → Int) : Int := sumI (fun k => b2 (decide (0 < m_of g k 6))) 8
noncomputable def A_repl (g : Int → Int) (t b : Int) : Res := if 0 < c_repl t b then .inl (c_repl t b)
  else if 0 < m_chain g (b - 97) (t - 97) then .inr (.inl (4, m_chain g (b - 97) (t - 97)))
  else if 0 < m_circ (m_set g (t - 97) 6 (b - 97 + 1)) then .inr (.inl (3, m_circ (m_set g (t - 97) 6 (b - 97 + 1))))
  else .inr (.inr (m_swaps (m_set g (t - 97) 6 (b - 97 + 1)), m_set g (t - 97) 6 (b - 97 + 1)))
def c_back (g : Int → Int) (t : Int) : Int := if 97 ≤ t ∧ t ≤ 104 then (if m_of g (t - 97) 6 = 0 then 2 else 0) else 1
theorem c_back_r (g : Int → Int) (t : Int) : 0 ≤ c_back g t ∧ c_back g t ≤ 2 := by unfold c_back; repeat' split <;> omega
theorem c_back_ok {g : Int → Int} {t : Int} (h : ¬ 0 < c_back g t) : (97 ≤ t ∧ t ≤ 104) ∧ ¬ m_of g (t - 97) 6 = 0 := by
  unfold c_back at h
  split at h
  · rename_i h1
    split at h
    · omega
    · rename_i h2; exact ⟨h1, h2⟩
  · omega
noncomputable def A_back (g : Int → Int) (t : Int) : Res := if 0 < c_back g t then .inl (c_back g t)
  else if 0 < m_circ (m_set g (t - 97) 6 0) then .inr (.inl (3, m_circ (m_set g (t - 97) 6 0)))
  else .inr (.inr (97 + (m_of g (t - 97) 6 - 1), m_set g (t - 97) 6 0))
/-! threads -/
theorem bor_r {a b : Int} (ha : 0 ≤ a ∧ a < 2147483648) (hb : 0 ≤ b ∧ b < 2147483648) : 0 ≤ bor a b ∧ bor a b < 2147483648 := by
  have h := Nat.or_lt_two_pow (n := 31) (x := a.toNat) (y := b.toNat) (by omega) (by omega)
  unfold bor
  omega
def bxr (a b : Int) : Int := ((a.toNat ^^^ b.toNat : Nat) : Int)
def m_free (g : Int → Int) : Int := fnd (fun k => !(m_opened g k)) 4
def A_open (g : Int → Int) : Res := if m_free g = -1 then .inl 1 else .inr (.inr (m_free g, ui g 0 (bor (g 0) (pw (m_free g)))))
/-- an object that goes with its thread -/
def m_goes (g : Int → Int) (th k : Int) : Bool := m_here g k && (decide (m_thing g k 1 = th) && !(decide (m_of g (m_thing g k 0) 0 = 115)))
def s_close (g : Int → Int) (th : Int) : Int → Int := fun x => if x = 0 then bxr (g 0) (pw th) else if exB (fun k => decide (x = 63 + 10 * k) && m_goes g th k) (g 1) = true then 1 else g x
def A_close (g : Int → Int) (th : Int) : Res := if m_opened g th = true then .inr (.inr (sumI (fun k => b2 (m_goes g th k)) (g 1), s_close g th)) else .inl 1
theorem bxr_r {a b : Int} (ha : 0 ≤ a ∧ a < 2147483648) (hb : 0 ≤ b ∧ b < 2147483648) : 0 ≤ bxr a b ∧ bxr a b < 2147483648 := by
  have h := Nat.xor_lt_two_pow (n := 31) (x := a.toNat) (y := b.toNat) (by omega) (by omega)
  unfold bxr
  omega
theorem nI_xor (a b : Nat) : nI a ^^^ nI b = nI (a ^^^ b) := by
  apply Int32.toBitVec_inj.1
  show BitVec.ofNat 32 a ^^^ BitVec.ofNat 32 b = BitVec.ofNat 32 (a ^^^ b)
  apply BitVec.eq_of_getLsbD_eq
  intro i hi
  simp [hi]
theorem iI_xor {a b : Int} (ha : 0 ≤ a) (hb : 0 ≤ b) : iI a ^^^ iI b = iI (bxr a b) := by
  rw [iI_nI ha, iI_nI hb, nI_xor]
  exact (Int32.ofInt_eq_ofNat).symm
section NXOR
variable {p : Program} {l : Launch} {e : Env} {R : Room} {s : State} {m : MethodId} {args : Array Value} {below : List Frame} {meth : Method} {c : Code} {H : Heap} {locs : List Loc} {cells slots : Nat} {Q : State → Prop}
variable {cc : ByteArray} {pc : Nat} {ls : Array Slot} {rest : List Value}
theorem n_ixor (hexec : p.tables.exec = Jvm.exec) (hb : c.code = cc) {x y : Int} (hx : 0 ≤ x) (hy : 0 ≤ y) (hdg : decode cc pc = .ok (.ixor, 1)) (k : W p l e R s m args below meth c H locs cells slots Q (F0 m (pc + 1) ls (iv (bxr x y) :: rest))) : W p l e R s m args below meth c H locs cells slots Q (F0 m pc ls (iv y :: iv x :: rest)) := lv_ixor hexec hb hdg (by rw [iI_xor hx hy]; exact k)
end NXOR
theorem exB_none {f : Int → Bool} {n : Int} (h : ∀ k, 0 ≤ k → k < n → f k = false) : exB f n = false := by
  cases hq : exB f n with
  | false => rfl
  | true =>
    obtain ⟨k, h1, h2, h3⟩ := exB_iff.mp hq
    rw [h k h1 h2] at h3
    cases h3
theorem cl_keep {g gv : Int → Int} {th n c : Int} (h : ∀ x, gv x = if x = 0 then c else if exB (fun k => decide (x = 63 + 10 * k) && m_goes g th k) n = true then 1 else g x) {y : Int} (h0 : y ≠ 0) (hn : ∀ k, 0 ≤ k → k < n → y ≠ 63 + 10 * k) : gv y = g y := by
  rw [h, if_neg h0, exB_none (fun k a b => by rw [decide_eq_false (hn k a b)]; rfl), if_neg (by decide)]
theorem exB_sB {f : Int → Bool} {n : Int} (h : 0 ≤ n) : exB f (n + 1) = (exB f n || f n) := exB_s h
