set_option maxHeartbeats 4000000 in
set_option maxRecDepth 100000 in
theorem mt_X5_minutesSpent (l : Launch) (E : EE) (o : Nat → Nat) (sc : Nat → Int) (ar : Nat → Int → Int) (hB : ∀ k x, 0 ≤ ar k x ∧ ar k x < 2147483648) (sz : Nat) : Met l yX5_minutesSpent (ws_ yX5_minutesSpent cX5_minutesSpent 1 (some .long)) { frames := 0, cells := 0, slots := 0, locals := 0 } (va_Pc [.ref (o 0)] (UW E (MW E o sc ar) sz)) (UQl E ((ar 1) 4) (MW E o (us sc 8 0) ar) (va_A (MW E o sc ar) sz)) 0 0 (va_A (MW E o sc ar) sz) := by
  refine Met.ofW (cc := cX5_minutesSpent) (maxL := 1) (ret := (some .long)) (by decide) rfl ?_
  intro p e s m args below meth c s₁ B hml hv
  obtain ⟨rfl, hsz, hP, hK, hD0⟩ := hv
  have hx := B.exec
  have hb := B.bytes
  have hr := B.returns
  have hts := atoms_spec (ws := (ws_ yX5_minutesSpent cX5_minutesSpent 1 (some .long))) B.pre
  have hts : ∀ w ∈ lw_all, w.before _ s = true := fun w h => hts w (List.mem_cons_of_mem _ h)
  have hown : s.vm.findClass RX5 = some m.cls := findClass_of_methodNamed B.named
  have hlocks := B.notSynchronized
  subst hsz
  have hD := hD0.self (sz := s.heap.size)
  generalize hAe : va_A (MW E o sc ar) s.heap.size = A at hD ⊢
  have hA : ∀ q : Nat, s.heap.size ≤ q → A q := fun q h => by rw [← hAe]; exact Or.inr h
  have hS : va_S A s.heap s.heap [] := va_S.rf
  have hl := lv_entry ([.ref (o 0)]) (n := 1) (Nat.le_of_ble_eq_true rfl)
  rw [lg_entry_eq]
  generalize (lg_sl ([.ref (o 0)]) ++ List.replicate (1 - (lg_sl ([.ref (o 0)])).length) Slot.unset).toArray = ls at hl ⊢
  have hl : lv_has ls 1 [(0, .ref (o 0))] := hl
  have hq4 := hB 1 4
  refine lv_aload_n hx hb dX5_minutesSpent_0 rfl (lv_at hl 0 rfl) ?_
  refine lv_iconst (v := iI 0) hx hb dX5_minutesSpent_1 rfl ?_
  refine va_put (D := E.1) (ci := 0) (v := iv 0) (ty := .int) (C := RX5) (T := TX5) (N := 23) hx hb hts in_X5 tyX5 tyX5_ok nmX5 hown hK.1 hP hD hS 0 rfl rfl 8 (by decide) (hts _ q2037) (fun _ h9 => h9) rfl (by decide +kernel) rfl rfl (Nat.le_of_ble_eq_true rfl) dX5_minutesSpent_2 (fun H locs hP hD hS => ?_)
  have hP : va_P E.1 CL (MW E o (us sc 8 0) ar) H := hP
  have hD : va_D A (MW E o (us sc 8 0) ar) := hD
  refine lv_aload_n hx hb dX5_minutesSpent_5 rfl (lv_at hl 0 rfl) ?_
  refine va_get (D := E.1) (ci := 0) (v := .ref (o 1)) (C := RX5) (T := TX5) (N := 23) hx hb hts in_X5 hown hK.1 hP 0 rfl rfl 0 (by decide) (hts _ q2029) (fun _ h9 => h9) rfl dX5_minutesSpent_6 ?_
  refine lv_iconst (v := iI 4) hx hb dX5_minutesSpent_9 rfl ?_
  refine n_iald (f := ar 1) hx hb hK.1 hP 1 0 rfl rfl (by omega) (by decide) dX5_minutesSpent_10 ?_
  have b_1 := (hB 1) 4
  refine lv_i2l (v := lI (ar 1 4)) hx hb dX5_minutesSpent_11 (iI_l (by omega)) ?_
  have hfin : ar 1 4 = (ar 1) 4 := by
    first | rfl | omega
  exact W.lret (v := lI (ar 1 4)) hx hb hr (fun tt_ ht_ hW_ => ⟨⟨lI (ar 1 4), (), rfl, (congrArg lI hfin), by rw [ht_]; exact hP, hD⟩, hS.F ht_⟩) hS.2.2 dX5_minutesSpent_12
