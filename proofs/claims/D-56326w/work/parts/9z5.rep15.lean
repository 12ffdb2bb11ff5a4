/-! ===== the lines, again ===== -/
theorem m_wrec_1 {g : Int → Int} {t : Int} {Lq : List Int} (h : Lq = itI (m_wn g t) (m_of g t 2) (dgR (m_of g t 1) [m_of g t 0, 97 + t])) (h6 : 0 < m_of g t 6) : m_wrec g (97 + t) = (97 + (m_of g t 6 - 1)) :: 62 :: Lq := by
  unfold m_wrec
  rw [show 97 + t - 97 = t by omega, if_pos h6, ← h]
theorem m_wrec_0 {g : Int → Int} {t : Int} {Lq : List Int} (h : Lq = itI (m_wn g t) (m_of g t 2) (dgR (m_of g t 1) [m_of g t 0, 97 + t])) (h6 : ¬ 0 < m_of g t 6) : m_wrec g (97 + t) = Lq := by
  unfold m_wrec
  rw [show 97 + t - 97 = t by omega, if_neg h6, ← h]
/-- figures and signs are signs of seven bits -/
def B7 (f : Int → Int) : Prop := ∀ x, 0 ≤ f x ∧ f x < 128
theorem c_type_1 {n v : Int} (h : ¬ (32 ≤ v ∧ v ≤ 126)) : c_type n v = 1 := if_neg h
theorem c_type_2 {n v : Int} (h : 32 ≤ v ∧ v ≤ 126) (hn : n ≤ 60) (h2 : ¬ n < 60) : c_type n v = 2 := by unfold c_type; rw [if_pos h, if_pos (by omega)]
theorem c_type_0 {n v : Int} (h : 32 ≤ v ∧ v ≤ 126) (h2 : n < 60) : c_type n v = 0 := by unfold c_type; rw [if_pos h, if_neg (by omega)]
theorem c_line_1 {n k : Int} (h : ¬ (0 ≤ k ∧ k ≤ n - 1)) : c_line n k = 1 := if_neg h
theorem c_line_0 {n k : Int} (h : 0 ≤ k ∧ k ≤ n - 1) : c_line n k = 0 := if_pos h
/-! the history's entries go back to the spare ones -/
def RSL (ns nh n9 : Int) (LS LH LW : Int → Nat) : Prop := (∀ i, 0 ≤ i → i < ns → LW i = LS i) ∧ ∀ i, 0 ≤ i → i < nh - n9 → LW (ns + i) = LH (nh - 1 - i)
theorem RSL_0 {ns nh : Int} {LS LH : Int → Nat} : RSL ns nh nh LS LH LS := ⟨fun _ _ _ => rfl, fun i h1 h2 => by omega⟩
theorem RSL_s {ns nh n9 m9 : Int} {LS LH LW : Int → Nat} (h : RSL ns nh n9 LS LH LW) (hm : m9 = ns + nh - n9) (hn : n9 ≤ nh) : RSL ns nh (n9 - 1) LS LH (fun i => if i = m9 then LH (n9 - 1) else LW i) := by
  refine ⟨fun i h1 h2 => ?_, fun i h1 h2 => ?_⟩
  · show (if i = m9 then _ else _) = _
    rw [if_neg (by omega)]
    exact h.1 i h1 h2
  · show (if ns + i = m9 then _ else _) = _
    by_cases e : ns + i = m9
    · rw [if_pos e]
      congr 1
      omega
    · rw [if_neg e]
      exact h.2 i h1 (by omega)
theorem n_recvW {E : EE} {s : State} {H : Heap} {ws : va_W} {q ci : Nat} {r : vw_C} {vs : List Value} (hK : va_K E.1 CL (TY E) s) (hP : va_P E.1 CL ws H) (hc : CL[ci]? = some r) (hm : (q, .inr (ci, vs)) ∈ ws) : ∃ cell : Cell, H[q]? = some cell ∧ cell.vm.isStatics = false ∧ s.vm.findClass r.1 = some cell.cls := by
  obtain ⟨k, hk⟩ := List.mem_iff_getElem?.mp hm
  exact va_recv hK hP hc hk
