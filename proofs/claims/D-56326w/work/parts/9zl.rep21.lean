/-! ===== a text's changes, one after the other ===== -/
theorem po_perm {α : Type} (W s t : List α) (x : α) : (W ++ (s ++ x :: t)).Perm ((W ++ [x]) ++ (s ++ t)) := by
  rw [List.append_assoc]
  refine List.Perm.append_left W ?_
  exact List.perm_middle
theorem D_posI {g fl : Int → Int} {k a b c : Int} : PC (D_res g fl k a b c) := D_pos _ _ _ _ _ _
theorem OSH_no {R : Res} {q : Nat} {vs : List Value} {pl : Int} (h : OSH R q vs) (hp : PC R) (hl : 1 ≤ pl) : ¬ rs_code pl R = 0 := by
  obtain ⟨-, h2⟩ := h
  match R with
  | .inl v =>
    have h3 : 0 < v := hp
    intro e
    have e : v = 0 := e
    omega
  | .inr (.inl w) =>
    intro e
    have e : pl = 0 := e
    omega
  | .inr (.inr z) => exact absurd ⟨z, rfl⟩ h2
/-- what a row that is in order gives the commands -/
theorem J_all {N : Int} {g : Int → Int} (hi : RIV N g) (hc : CI g) : OY g ∧ 0 ≤ g 0 ∧ (∀ k, 0 ≤ k → k < g 1 → 0 ≤ m_thing g k 1 ∧ m_thing g k 1 < 2147483648) ∧ g 1 ≤ 60 ∧ ∀ t, 0 ≤ t → t < 8 → ∀ th, g 1 + (m_dues g t th).1 ≤ 160 := by
  have h60 := hi.2.2.2.1
  have hb := hi.2.2.2.2.1
  have hoy := OX_OY hi.2.1 (by omega) hb
  refine ⟨hoy, (hb 0).1, fun k a b => (hoy.2.2 k a b).2.2.2, h60.2, fun t a b th => ?_⟩
  have := dues_96 hi.1 hc.2.1 (t := t) (th := th) ⟨a, b⟩
  omega
