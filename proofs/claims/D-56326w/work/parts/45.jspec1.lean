/-! ===== constants' texts ===== -/
theorem iI_ofNat (n : Nat) : Int32.ofNat n = iI (n : Int) := (iI_nI (Int.natCast_nonneg n)).symm
theorem gd_in {α : Type} {L : List α} {n : Nat} (h : n < L.length) (d : α) : L.getD n d = L[n] := by
  rw [List.getD_eq_getElem?_getD, List.getElem?_eq_getElem h]
  rfl
theorem gd_out {α : Type} {L : List α} {n : Nat} (h : L.length ≤ n) (d : α) : L.getD n d = d := by
  rw [List.getD_eq_getElem?_getD, List.getElem?_eq_none h]
  rfl
theorem tx_l (k : Nat) : 0 ≤ ((TX.getD k []).length : Int) ∧ ((TX.getD k []).length : Int) ≤ 30 := by
  by_cases h : k < 32
  · have : ∀ j, j < 32 → (TX.getD j []).length ≤ 30 := by decide +kernel
    have := this k h
    omega
  · have h2 : TX.getD k [] = [] := gd_out (show 32 ≤ k by omega) _
    rw [h2]
    decide
theorem tx_b (k j : Nat) : 0 ≤ (TX.getD k []).getD j 0 ∧ (TX.getD k []).getD j 0 < 128 := by
  have h1 : ∀ L ∈ TX, ∀ v ∈ L, 0 ≤ v ∧ v < 128 := by decide +kernel
  have h2 : ∀ L : List Int, (L = [] ∨ L ∈ TX) → 0 ≤ L.getD j 0 ∧ L.getD j 0 < 128 := by
    intro L hL
    by_cases h : j < L.length
    · rw [gd_in h]
      rcases hL with rfl | hL
      · exact absurd h (Nat.not_lt_zero _)
      · exact h1 L hL _ (List.getElem_mem h)
    · rw [gd_out (by omega)]
      decide
  refine h2 _ ?_
  by_cases hk : k < TX.length
  · rw [gd_in hk]
    exact Or.inr (List.getElem_mem hk)
  · exact Or.inl (gd_out (by omega) _)
theorem SQ.recv {q b : Nat} {L : List Int} {A : Nat → Prop} {s : State} {H : Heap} {locs : List Loc} (h : SQ q b L A s s.heap) (hS : va_S A s.heap H locs) : Recv s H "java/lang/String" q := by
  obtain ⟨cell, h1, h2, h3, -⟩ := h.1.kept hS.2.1
  exact ⟨cell, h1, h2, h3⟩
/-- nothing is answered, nothing changed -/
def NPv : Array Value → State → Outcome → State → Prop := fun _ st o t => o = .returned none ∧ t.heap = st.heap
section NCALLP
variable {p : Program} {l : Launch} {e : Env} {R : Room} {s : State} {m : MethodId} {args : Array Value} {below : List Frame} {meth : Method} {c : Code} {H : Heap} {locs : List Loc} {cells slots : Nat} {Q : State → Prop}
variable {pc : Nat} {ls : Array Slot} {rest st0 : List Value} {a : Array Value} {cc : ByteArray}
theorem n_csv (hr : CallRun p l e R s m args below meth c H locs cells slots 0 0 (F0 m pc ls st0) rest (NPv a) (fun _ => False)) (kk : W p l e R s m args below meth c H locs cells slots Q (F0 m (pc + 3) ls rest)) : W p l e R s m args below meth c H locs cells slots Q (F0 m pc ls st0) := by
  intro T hT X
  obtain ⟨v, st₀, t, T', L, h0, X', hL, e1, ⟨hv, hh⟩, st⟩ := hr T hT X
  cases hv
  obtain ⟨t2, a1, b1⟩ := kk T' (by rw [e1, hh, h0]) (Stand.forget X' (fun q h => (hL q h).elim))
  exact ⟨t2, st t2 a1, b1⟩
theorem n_iand255 (hexec : p.tables.exec = Jvm.exec) (hb : c.code = cc) {x : Int} (h : 0 ≤ x ∧ x < 128) (hdg : decode cc pc = .ok (.iand, 1)) (kk : W p l e R s m args below meth c H locs cells slots Q (F0 m (pc + 1) ls (iv x :: rest))) : W p l e R s m args below meth c H locs cells slots Q (F0 m pc ls (iv 255 :: iv x :: rest)) := by
  have hx : iI x &&& iI 255 = iI x := by
    have h2 : ∀ n : Nat, n < 128 → iI (n : Int) &&& iI 255 = iI (n : Int) := by decide +kernel
    have := h2 x.toNat (by omega)
    rwa [Int.toNat_of_nonneg h.1] at this
  refine lv_iand hexec hb hdg ?_
  rw [hx]
  exact kk
theorem n_ishr0 (hexec : p.tables.exec = Jvm.exec) (hb : c.code = cc) {x : Int} (h : 0 ≤ x ∧ x < 2147483648) (hdg : decode cc pc = .ok (.ishr, 1)) (kk : W p l e R s m args below meth c H locs cells slots Q (F0 m (pc + 1) ls (iv x :: rest))) : W p l e R s m args below meth c H locs cells slots Q (F0 m pc ls (iv 0 :: iv x :: rest)) := by
  refine n_ishr hexec hb (by omega) (by omega) hdg ?_
  rw [show shr x 0 = x by show x / pw 0 = x; rw [show pw 0 = 1 by decide]; exact Int.ediv_one x]
  exact kk
end NCALLP
