/-- the reference: its object, its arrays g (1), kept (2), saved (3), before (4), input (5), signs (6), fills (7), told (8) -/
def MW (E : EE) (o : Nat → Nat) (sc : Nat → Int) (ar : Nat → Int → Int) : va_W := [(o 0, .inr (0, [.ref (o 1), .ref (o 2), .ref (o 3), .ref (o 4), iv (sc 4), iv (sc 5), iv (sc 6), iv (sc 7), iv (sc 8), iv (sc 9), iv (sc 10), iv (sc 11), .ref (o 5), iv (sc 13), iv (sc 14), .ref (o 6), iv (sc 16), iv (sc 17), iv (sc 18), .ref (o 7), iv (sc 20), .ref (o 8), iv (sc 22)])), (o 1, ia (E.2 0) 661 (ar 1)), (o 2, ia (E.2 0) 5288 (ar 2)), (o 3, ia (E.2 0) 661 (ar 3)), (o 4, ia (E.2 0) 661 (ar 4)), (o 5, ia (E.2 0) 60 (ar 5)), (o 6, ia (E.2 2) 40 (ar 6)), (o 7, ia (E.2 0) 30 (ar 7)), (o 8, ia (E.2 0) 124 (ar 8))]
set_option maxHeartbeats 4000000 in
set_option maxRecDepth 100000 in
/-- the code of the last refusal -/
theorem mt_X5_thrown (l : Launch) (E : EE) (o : Nat → Nat) (sc : Nat → Int) (ar : Nat → Int → Int) : Met l yX5_thrown (ws_ yX5_thrown cX5_thrown 1 (some .int)) { frames := 0, cells := 0, slots := 0, locals := 0 } (va_Pc [.ref (o 0)] (PW E (MW E o sc ar))) (NP (sc 8)) 0 0 (fun _ => False) := by
  refine Met.ofW (cc := cX5_thrown) (maxL := 1) (ret := (some .int)) (by decide) rfl ?_
  intro p e s m args below meth c s₁ B hml hv
  obtain ⟨rfl, hP, hK⟩ := hv
  have hx := B.exec
  have hb := B.bytes
  have hr := B.returns
  have hts := atoms_spec (ws := (ws_ yX5_thrown cX5_thrown 1 (some .int))) B.pre
  have hts : ∀ w ∈ lw_all, w.before _ s = true := fun w h => hts w (List.mem_cons_of_mem _ h)
  have hown : s.vm.findClass RX5 = some m.cls := findClass_of_methodNamed B.named
  have hlocks := B.notSynchronized
  have hl := lv_entry ([.ref (o 0)]) (n := 1) (Nat.le_of_ble_eq_true rfl)
  rw [lg_entry_eq]
  generalize (lg_sl ([.ref (o 0)]) ++ List.replicate (1 - (lg_sl ([.ref (o 0)])).length) Slot.unset).toArray = ls at hl ⊢
  have hl : lv_has ls 1 [(0, .ref (o 0))] := hl
  refine lv_aload_n hx hb dX5_thrown_0 rfl (lv_at hl 0 rfl) ?_
  refine va_get (D := E.1) (ci := 0) (v := iv (sc 8)) (C := RX5) (T := TX5) (N := 23) hx hb hts in_X5 hown hK.1 hP 0 rfl rfl 8 (by decide) (hts _ q2037) (fun _ h9 => h9) rfl dX5_thrown_1 ?_
  exact W.iret (v := iI (sc 8)) hx hb hr (fun tt_ ht_ hW_ => ⟨iI (sc 8), rfl, rfl, ht_⟩) (fun q h => by cases h) dX5_thrown_4
set_option maxHeartbeats 4000000 in
set_option maxRecDepth 100000 in
/-- the code is set; is it a refusal? -/
theorem mt_X5_fails (l : Launch) (E : EE) (o : Nat → Nat) (sc : Nat → Int) (ar : Nat → Int → Int) (v : Int) (hv : -2147483648 ≤ v ∧ v < 2147483648) (sz : Nat) : Met l yX5_fails (ws_ yX5_fails cX5_fails 2 (some .boolean)) { frames := 0, cells := 0, slots := 0, locals := 0 } (va_Pc [.ref (o 0), iv v] (UW E (MW E o sc ar) sz)) (UQi E (b2 (decide (0 < v))) (MW E o (us (us sc 7 0) 8 v) ar) (va_A (MW E o sc ar) sz)) 0 0 (va_A (MW E o sc ar) sz) := by
  refine Met.ofW (cc := cX5_fails) (maxL := 2) (ret := (some .boolean)) (by decide) rfl ?_
  intro p e s m args below meth c s₁ B hml hv
  obtain ⟨rfl, hsz, hP, hK, hD0⟩ := hv
  have hx := B.exec
  have hb := B.bytes
  have hr := B.returns
  have hts := atoms_spec (ws := (ws_ yX5_fails cX5_fails 2 (some .boolean))) B.pre
  have hts : ∀ w ∈ lw_all, w.before _ s = true := fun w h => hts w (List.mem_cons_of_mem _ h)
  have hown : s.vm.findClass RX5 = some m.cls := findClass_of_methodNamed B.named
  have hlocks := B.notSynchronized
  subst hsz
  have hD := hD0.self (sz := s.heap.size)
  generalize hAe : va_A (MW E o sc ar) s.heap.size = A at hD ⊢
  have hA : ∀ q : Nat, s.heap.size ≤ q → A q := fun q h => by rw [← hAe]; exact Or.inr h
  have hS : va_S A s.heap s.heap [] := va_S.rf
  have hl := lv_entry ([.ref (o 0), iv v]) (n := 2) (Nat.le_of_ble_eq_true rfl)
  rw [lg_entry_eq]
  generalize (lg_sl ([.ref (o 0), iv v]) ++ List.replicate (2 - (lg_sl ([.ref (o 0), iv v])).length) Slot.unset).toArray = ls at hl ⊢
  have hl : lv_has ls 2 [(0, .ref (o 0)), (1, iv v)] := hl
  refine lv_aload_n hx hb dX5_fails_0 rfl (lv_at hl 0 rfl) ?_
  refine lv_iload_n hx hb dX5_fails_1 rfl (lv_at hl 1 rfl) ?_
  refine va_put (D := E.1) (ci := 0) (v := iv v) (ty := .int) (C := RX5) (T := TX5) (N := 23) hx hb hts in_X5 tyX5 tyX5_ok nmX5 hown hK.1 hP hD hS 0 rfl rfl 8 (by decide) (hts _ q2037) (fun _ h9 => h9) rfl (by decide +kernel) rfl rfl (Nat.le_of_ble_eq_true rfl) dX5_fails_2 (fun H locs hP hD hS => ?_)
  have hP : va_P E.1 CL (MW E o (us sc 8 v) ar) H := hP
  have hD : va_D A (MW E o (us sc 8 v) ar) := hD
  refine lv_aload_n hx hb dX5_fails_5 rfl (lv_at hl 0 rfl) ?_
  refine lv_iconst (v := iI 0) hx hb dX5_fails_6 rfl ?_
  refine va_put (D := E.1) (ci := 0) (v := iv 0) (ty := .boolean) (C := RX5) (T := TX5) (N := 23) hx hb hts in_X5 tyX5 tyX5_ok nmX5 hown hK.1 hP hD hS 0 rfl rfl 7 (by decide) (hts _ q2036) (fun _ h9 => h9) rfl (by decide +kernel) (nr_b (by decide)) (ft_b (by decide)) (Nat.le_of_ble_eq_true rfl) dX5_fails_7 (fun H locs hP hD hS => ?_)
  have hP : va_P E.1 CL (MW E o (us (us sc 7 0) 8 v) ar) H := hP
  have hD : va_D A (MW E o (us (us sc 7 0) 8 v) ar) := hD
  refine lv_iload_n hx hb dX5_fails_10 rfl (lv_at hl 1 rfl) ?_
  refine n_if_le (tgt := 18) hx hb dX5_fails_11 (by decide) (by omega) (fun c_1 => ?_) (fun c_1 => ?_)
  · refine lv_iconst (v := iI 0) hx hb dX5_fails_18 rfl ?_
    have hfin : 0 = b2 (decide (0 < v)) := by
      first | rfl | exact (b2_pos (by omega)).symm | exact (b2_neg (by omega)).symm
    exact W.zret (v := iI 0) hx hb hr (nr_b (by decide)) (fun tt_ ht_ hW_ => ⟨⟨iI 0, (), rfl, (congrArg iI hfin), by rw [ht_]; exact hP, hD⟩, hS.F ht_⟩) hS.2.2 dX5_fails_19
  · refine lv_iconst (v := iI 1) hx hb dX5_fails_14 rfl ?_
    refine lv_goto (tgt := 19) hx hb dX5_fails_15 (by decide) ?_
    have hfin : 1 = b2 (decide (0 < v)) := by
      first | rfl | exact (b2_pos (by omega)).symm | exact (b2_neg (by omega)).symm
    exact W.zret (v := iI 1) hx hb hr (nr_b (by decide)) (fun tt_ ht_ hW_ => ⟨⟨iI 1, (), rfl, (congrArg iI hfin), by rw [ht_]; exact hP, hD⟩, hS.F ht_⟩) hS.2.2 dX5_fails_19
set_option maxHeartbeats 4000000 in
set_option maxRecDepth 100000 in
theorem mt_X5_refuses (l : Launch) (E : EE) (o : Nat → Nat) (sc : Nat → Int) (ar : Nat → Int → Int) (v : Int) (w : Int) (x : Int) (sz : Nat) : Met l yX5_refuses (ws_ yX5_refuses cX5_refuses 4 (some .int)) { frames := 0, cells := 0, slots := 0, locals := 0 } (va_Pc [.ref (o 0), iv v, iv w, iv x] (UW E (MW E o sc ar) sz)) (UQi E 0 (MW E o (us (us (us (us (us sc 7 1) 8 v) 9 w) 10 x) 11 0) ar) (va_A (MW E o sc ar) sz)) 0 0 (va_A (MW E o sc ar) sz) := by
  refine Met.ofW (cc := cX5_refuses) (maxL := 4) (ret := (some .int)) (by decide) rfl ?_
  intro p e s m args below meth c s₁ B hml hv
  obtain ⟨rfl, hsz, hP, hK, hD0⟩ := hv
  have hx := B.exec
  have hb := B.bytes
  have hr := B.returns
  have hts := atoms_spec (ws := (ws_ yX5_refuses cX5_refuses 4 (some .int))) B.pre
  have hts : ∀ w ∈ lw_all, w.before _ s = true := fun w h => hts w (List.mem_cons_of_mem _ h)
  have hown : s.vm.findClass RX5 = some m.cls := findClass_of_methodNamed B.named
  have hlocks := B.notSynchronized
  subst hsz
  have hD := hD0.self (sz := s.heap.size)
  generalize hAe : va_A (MW E o sc ar) s.heap.size = A at hD ⊢
  have hA : ∀ q : Nat, s.heap.size ≤ q → A q := fun q h => by rw [← hAe]; exact Or.inr h
  have hS : va_S A s.heap s.heap [] := va_S.rf
  have hl := lv_entry ([.ref (o 0), iv v, iv w, iv x]) (n := 4) (Nat.le_of_ble_eq_true rfl)
  rw [lg_entry_eq]
  generalize (lg_sl ([.ref (o 0), iv v, iv w, iv x]) ++ List.replicate (4 - (lg_sl ([.ref (o 0), iv v, iv w, iv x])).length) Slot.unset).toArray = ls at hl ⊢
  have hl : lv_has ls 4 [(0, .ref (o 0)), (1, iv v), (2, iv w), (3, iv x)] := hl
  refine lv_aload_n hx hb dX5_refuses_0 rfl (lv_at hl 0 rfl) ?_
  refine lv_iload_n hx hb dX5_refuses_1 rfl (lv_at hl 1 rfl) ?_
  refine va_put (D := E.1) (ci := 0) (v := iv v) (ty := .int) (C := RX5) (T := TX5) (N := 23) hx hb hts in_X5 tyX5 tyX5_ok nmX5 hown hK.1 hP hD hS 0 rfl rfl 8 (by decide) (hts _ q2037) (fun _ h9 => h9) rfl (by decide +kernel) rfl rfl (Nat.le_of_ble_eq_true rfl) dX5_refuses_2 (fun H locs hP hD hS => ?_)
  have hP : va_P E.1 CL (MW E o (us sc 8 v) ar) H := hP
  have hD : va_D A (MW E o (us sc 8 v) ar) := hD
  refine lv_aload_n hx hb dX5_refuses_5 rfl (lv_at hl 0 rfl) ?_
  refine lv_iconst (v := iI 1) hx hb dX5_refuses_6 rfl ?_
  refine va_put (D := E.1) (ci := 0) (v := iv 1) (ty := .boolean) (C := RX5) (T := TX5) (N := 23) hx hb hts in_X5 tyX5 tyX5_ok nmX5 hown hK.1 hP hD hS 0 rfl rfl 7 (by decide) (hts _ q2036) (fun _ h9 => h9) rfl (by decide +kernel) (nr_b (by decide)) (ft_b (by decide)) (Nat.le_of_ble_eq_true rfl) dX5_refuses_7 (fun H locs hP hD hS => ?_)
  have hP : va_P E.1 CL (MW E o (us (us sc 7 1) 8 v) ar) H := hP
  have hD : va_D A (MW E o (us (us sc 7 1) 8 v) ar) := hD
  refine lv_aload_n hx hb dX5_refuses_10 rfl (lv_at hl 0 rfl) ?_
  refine lv_iload_n hx hb dX5_refuses_11 rfl (lv_at hl 2 rfl) ?_
  refine va_put (D := E.1) (ci := 0) (v := iv w) (ty := .int) (C := RX5) (T := TX5) (N := 23) hx hb hts in_X5 tyX5 tyX5_ok nmX5 hown hK.1 hP hD hS 0 rfl rfl 9 (by decide) (hts _ q2038) (fun _ h9 => h9) rfl (by decide +kernel) rfl rfl (Nat.le_of_ble_eq_true rfl) dX5_refuses_12 (fun H locs hP hD hS => ?_)
  have hP : va_P E.1 CL (MW E o (us (us (us sc 7 1) 8 v) 9 w) ar) H := hP
  have hD : va_D A (MW E o (us (us (us sc 7 1) 8 v) 9 w) ar) := hD
  refine lv_aload_n hx hb dX5_refuses_15 rfl (lv_at hl 0 rfl) ?_
  refine lv_iload_n hx hb dX5_refuses_16 rfl (lv_at hl 3 rfl) ?_
  refine va_put (D := E.1) (ci := 0) (v := iv x) (ty := .int) (C := RX5) (T := TX5) (N := 23) hx hb hts in_X5 tyX5 tyX5_ok nmX5 hown hK.1 hP hD hS 0 rfl rfl 10 (by decide) (hts _ q2039) (fun _ h9 => h9) rfl (by decide +kernel) rfl rfl (Nat.le_of_ble_eq_true rfl) dX5_refuses_17 (fun H locs hP hD hS => ?_)
  have hP : va_P E.1 CL (MW E o (us (us (us (us sc 7 1) 8 v) 9 w) 10 x) ar) H := hP
  have hD : va_D A (MW E o (us (us (us (us sc 7 1) 8 v) 9 w) 10 x) ar) := hD
  refine lv_aload_n hx hb dX5_refuses_20 rfl (lv_at hl 0 rfl) ?_
  refine lv_iconst (v := iI 0) hx hb dX5_refuses_21 rfl ?_
  refine va_put (D := E.1) (ci := 0) (v := iv 0) (ty := .int) (C := RX5) (T := TX5) (N := 23) hx hb hts in_X5 tyX5 tyX5_ok nmX5 hown hK.1 hP hD hS 0 rfl rfl 11 (by decide) (hts _ q2040) (fun _ h9 => h9) rfl (by decide +kernel) rfl rfl (Nat.le_of_ble_eq_true rfl) dX5_refuses_22 (fun H locs hP hD hS => ?_)
  have hP : va_P E.1 CL (MW E o (us (us (us (us (us sc 7 1) 8 v) 9 w) 10 x) 11 0) ar) H := hP
  have hD : va_D A (MW E o (us (us (us (us (us sc 7 1) 8 v) 9 w) 10 x) 11 0) ar) := hD
  refine lv_iconst (v := iI 0) hx hb dX5_refuses_25 rfl ?_
  exact W.iret (v := iI 0) hx hb hr (fun tt_ ht_ hW_ => ⟨⟨iI 0, (), rfl, rfl, by rw [ht_]; exact hP, hD⟩, hS.F ht_⟩) hS.2.2 dX5_refuses_26
set_option maxHeartbeats 4000000 in
set_option maxRecDepth 100000 in
theorem mt_X5_in (l : Launch) (E : EE) (o : Nat → Nat) (sc : Nat → Int) (ar : Nat → Int → Int) (v : Int) (lo : Int) (hi : Int) (h1 : -2147483648 ≤ v ∧ v < 2147483648) (h2 : -2147483648 ≤ lo ∧ lo < 2147483648) (h3 : -2147483648 ≤ hi ∧ hi < 2147483648) : Met l yX5_in (ws_ yX5_in cX5_in 3 (some .boolean)) { frames := 0, cells := 0, slots := 0, locals := 0 } (va_Pc [iv v, iv lo, iv hi] (PW E (MW E o sc ar))) (NP (b2 (decide (lo ≤ v ∧ v ≤ hi)))) 0 0 (fun _ => False) := by
  refine Met.ofW (cc := cX5_in) (maxL := 3) (ret := (some .boolean)) (by decide) rfl ?_
  intro p e s m args below meth c s₁ B hml hv
  obtain ⟨rfl, hP, hK⟩ := hv
  have hx := B.exec
  have hb := B.bytes
  have hr := B.returns
  have hts := atoms_spec (ws := (ws_ yX5_in cX5_in 3 (some .boolean))) B.pre
  have hts : ∀ w ∈ lw_all, w.before _ s = true := fun w h => hts w (List.mem_cons_of_mem _ h)
  have hown : s.vm.findClass RX5 = some m.cls := findClass_of_methodNamed B.named
  have hlocks := B.notSynchronized
  have hl := lv_entry ([iv v, iv lo, iv hi]) (n := 3) (Nat.le_of_ble_eq_true rfl)
  rw [lg_entry_eq]
  generalize (lg_sl ([iv v, iv lo, iv hi]) ++ List.replicate (3 - (lg_sl ([iv v, iv lo, iv hi])).length) Slot.unset).toArray = ls at hl ⊢
  have hl : lv_has ls 3 [(0, iv v), (1, iv lo), (2, iv hi)] := hl
  refine lv_iload_n hx hb dX5_in_0 rfl (lv_at hl 0 rfl) ?_
  refine lv_iload_n hx hb dX5_in_1 rfl (lv_at hl 1 rfl) ?_
  refine n_icmp_lt (tgt := 14) hx hb dX5_in_2 (by decide) (by omega) (by omega) (fun c_1 => ?_) (fun c_1 => ?_)
  · refine lv_iconst (v := iI 0) hx hb dX5_in_14 rfl ?_
    have hfin : 0 = b2 (decide (lo ≤ v ∧ v ≤ hi)) := by
      first | rfl | exact (b2_pos (by omega)).symm | exact (b2_neg (by omega)).symm
    exact W.zret (v := iI 0) hx hb hr (nr_b (by decide)) (fun tt_ ht_ hW_ => ⟨iI 0, rfl, (congrArg iI hfin), ht_⟩) (fun q h => by cases h) dX5_in_15
  · refine lv_iload_n hx hb dX5_in_5 rfl (lv_at hl 0 rfl) ?_
    refine lv_iload_n hx hb dX5_in_6 rfl (lv_at hl 2 rfl) ?_
    refine n_icmp_gt (tgt := 14) hx hb dX5_in_7 (by decide) (by omega) (by omega) (fun c_2 => ?_) (fun c_2 => ?_)
    · refine lv_iconst (v := iI 0) hx hb dX5_in_14 rfl ?_
      have hfin : 0 = b2 (decide (lo ≤ v ∧ v ≤ hi)) := by
        first | rfl | exact (b2_pos (by omega)).symm | exact (b2_neg (by omega)).symm
      exact W.zret (v := iI 0) hx hb hr (nr_b (by decide)) (fun tt_ ht_ hW_ => ⟨iI 0, rfl, (congrArg iI hfin), ht_⟩) (fun q h => by cases h) dX5_in_15
    · refine lv_iconst (v := iI 1) hx hb dX5_in_10 rfl ?_
      refine lv_goto (tgt := 15) hx hb dX5_in_11 (by decide) ?_
      have hfin : 1 = b2 (decide (lo ≤ v ∧ v ≤ hi)) := by
        first | rfl | exact (b2_pos (by omega)).symm | exact (b2_neg (by omega)).symm
      exact W.zret (v := iI 1) hx hb hr (nr_b (by decide)) (fun tt_ ht_ hW_ => ⟨iI 1, rfl, (congrArg iI hfin), ht_⟩) (fun q h => by cases h) dX5_in_15
set_option maxHeartbeats 4000000 in
set_option maxRecDepth 100000 in
theorem mt_X5_most (l : Launch) (E : EE) (o : Nat → Nat) (sc : Nat → Int) (ar : Nat → Int → Int) (v : Int) (w : Int) (h1 : -2147483648 ≤ v ∧ v < 2147483648) (h2 : -2147483648 ≤ w ∧ w < 2147483648) : Met l yX5_most (ws_ yX5_most cX5_most 2 (some .int)) { frames := 0, cells := 0, slots := 0, locals := 0 } (va_Pc [iv v, iv w] (PW E (MW E o sc ar))) (NP (max v w)) 0 0 (fun _ => False) := by
  refine Met.ofW (cc := cX5_most) (maxL := 2) (ret := (some .int)) (by decide) rfl ?_
  intro p e s m args below meth c s₁ B hml hv
  obtain ⟨rfl, hP, hK⟩ := hv
  have hx := B.exec
  have hb := B.bytes
  have hr := B.returns
  have hts := atoms_spec (ws := (ws_ yX5_most cX5_most 2 (some .int))) B.pre
  have hts : ∀ w ∈ lw_all, w.before _ s = true := fun w h => hts w (List.mem_cons_of_mem _ h)
  have hown : s.vm.findClass RX5 = some m.cls := findClass_of_methodNamed B.named
  have hlocks := B.notSynchronized
  have hl := lv_entry ([iv v, iv w]) (n := 2) (Nat.le_of_ble_eq_true rfl)
  rw [lg_entry_eq]
  generalize (lg_sl ([iv v, iv w]) ++ List.replicate (2 - (lg_sl ([iv v, iv w])).length) Slot.unset).toArray = ls at hl ⊢
  have hl : lv_has ls 2 [(0, iv v), (1, iv w)] := hl
  refine lv_iload_n hx hb dX5_most_0 rfl (lv_at hl 0 rfl) ?_
  refine lv_iload_n hx hb dX5_most_1 rfl (lv_at hl 1 rfl) ?_
  refine n_icmp_le (tgt := 9) hx hb dX5_most_2 (by decide) (by omega) (by omega) (fun c_1 => ?_) (fun c_1 => ?_)
  · refine lv_iload_n hx hb dX5_most_9 rfl (lv_at hl 1 rfl) ?_
    have hfin : w = max v w := by
      omega
    exact W.iret (v := iI w) hx hb hr (fun tt_ ht_ hW_ => ⟨iI w, rfl, (congrArg iI hfin), ht_⟩) (fun q h => by cases h) dX5_most_10
  · refine lv_iload_n hx hb dX5_most_5 rfl (lv_at hl 0 rfl) ?_
    refine lv_goto (tgt := 10) hx hb dX5_most_6 (by decide) ?_
    have hfin : v = max v w := by
      omega
    exact W.iret (v := iI v) hx hb hr (fun tt_ ht_ hW_ => ⟨iI v, rfl, (congrArg iI hfin), ht_⟩) (fun q h => by cases h) dX5_most_10
set_option maxHeartbeats 4000000 in
set_option maxRecDepth 100000 in
theorem mt_X5_isTool (l : Launch) (E : EE) (o : Nat → Nat) (sc : Nat → Int) (ar : Nat → Int → Int) (v : Int) (h1 : -2147483648 ≤ v ∧ v < 2147483648) : Met l yX5_isTool (ws_ yX5_isTool cX5_isTool 1 (some .boolean)) { frames := 1, cells := 0, slots := 0, locals := 22 } (va_Pc [iv v] (PW E (MW E o sc ar))) (NP (b2 (decide (97 ≤ v ∧ v ≤ 104)))) 0 0 (fun _ => False) := by
  refine Met.ofW (cc := cX5_isTool) (maxL := 1) (ret := (some .boolean)) (by decide) rfl ?_
  intro p e s m args below meth c s₁ B hml hv
  obtain ⟨rfl, hP, hK⟩ := hv
  have hx := B.exec
  have hb := B.bytes
  have hr := B.returns
  have hts := atoms_spec (ws := (ws_ yX5_isTool cX5_isTool 1 (some .boolean))) B.pre
  have hts : ∀ w ∈ lw_all, w.before _ s = true := fun w h => hts w (List.mem_cons_of_mem _ h)
  have hown : s.vm.findClass RX5 = some m.cls := findClass_of_methodNamed B.named
  have hlocks := B.notSynchronized
  have hl := lv_entry ([iv v]) (n := 1) (Nat.le_of_ble_eq_true rfl)
  rw [lg_entry_eq]
  generalize (lg_sl ([iv v]) ++ List.replicate (1 - (lg_sl ([iv v])).length) Slot.unset).toArray = ls at hl ⊢
  have hl : lv_has ls 1 [(0, iv v)] := hl
  refine lv_iload_n hx hb dX5_isTool_0 rfl (lv_at hl 0 rfl) ?_
  refine lv_bipush (v := iI 97) hx hb dX5_isTool_1 (by decide) ?_
  refine lv_bipush (v := iI 104) hx hb dX5_isTool_3 (by decide) ?_
  refine n_csi (x := b2 (decide (97 ≤ v ∧ v ≤ 104))) (va_runS (As := [iv v, iv 97, iv 104]) (rest := []) ⟨hx, hb, hml, hown, hts⟩ (mt_X5_in l E o sc ar v 97 104 (by omega) (by omega) (by omega)) (va_cwS 3 hts (lw_S q2110 q2111 q113 q2112) rfl rfl rfl (by decide +kernel) ⟨Nat.le_of_ble_eq_true rfl, Nat.le_of_ble_eq_true rfl⟩) (PW_S hP hK) rfl rfl hl.1 rfl (lv_room (Nat.le_of_ble_eq_true rfl)) dX5_isTool_5 ⟨Nat.le_of_ble_eq_true rfl, Nat.le_of_ble_eq_true rfl⟩) ?_
  exact W.zret (v := iI (b2 (decide (97 ≤ v ∧ v ≤ 104)))) hx hb hr (nr_b (b2_r _)) (fun tt_ ht_ hW_ => ⟨iI (b2 (decide (97 ≤ v ∧ v ≤ 104))), rfl, rfl, ht_⟩) (fun q h => by cases h) dX5_isTool_8
set_option maxHeartbeats 4000000 in
set_option maxRecDepth 100000 in
theorem mt_X5_isScope (l : Launch) (E : EE) (o : Nat → Nat) (sc : Nat → Int) (ar : Nat → Int → Int) (v : Int) (h1 : -2147483648 ≤ v ∧ v < 2147483648) : Met l yX5_isScope (ws_ yX5_isScope cX5_isScope 1 (some .boolean)) { frames := 0, cells := 0, slots := 0, locals := 0 } (va_Pc [iv v] (PW E (MW E o sc ar))) (NP (b2 (decide (v = 115 ∨ v = 116 ∨ v = 101)))) 0 0 (fun _ => False) := by
  refine Met.ofW (cc := cX5_isScope) (maxL := 1) (ret := (some .boolean)) (by decide) rfl ?_
  intro p e s m args below meth c s₁ B hml hv
  obtain ⟨rfl, hP, hK⟩ := hv
  have hx := B.exec
  have hb := B.bytes
  have hr := B.returns
  have hts := atoms_spec (ws := (ws_ yX5_isScope cX5_isScope 1 (some .boolean))) B.pre
  have hts : ∀ w ∈ lw_all, w.before _ s = true := fun w h => hts w (List.mem_cons_of_mem _ h)
  have hown : s.vm.findClass RX5 = some m.cls := findClass_of_methodNamed B.named
  have hlocks := B.notSynchronized
  have hl := lv_entry ([iv v]) (n := 1) (Nat.le_of_ble_eq_true rfl)
  rw [lg_entry_eq]
  generalize (lg_sl ([iv v]) ++ List.replicate (1 - (lg_sl ([iv v])).length) Slot.unset).toArray = ls at hl ⊢
  have hl : lv_has ls 1 [(0, iv v)] := hl
  refine lv_iload_n hx hb dX5_isScope_0 rfl (lv_at hl 0 rfl) ?_
  refine lv_bipush (v := iI 115) hx hb dX5_isScope_1 (by decide) ?_
  refine n_icmp_eq (tgt := 18) hx hb dX5_isScope_3 (by decide) (by omega) (by omega) (fun c_1 => ?_) (fun c_1 => ?_)
  · refine lv_iconst (v := iI 1) hx hb dX5_isScope_18 rfl ?_
    refine lv_goto (tgt := 23) hx hb dX5_isScope_19 (by decide) ?_
    have hfin : 1 = b2 (decide (v = 115 ∨ v = 116 ∨ v = 101)) := by
      first | rfl | exact (b2_pos (by omega)).symm | exact (b2_neg (by omega)).symm
    exact W.zret (v := iI 1) hx hb hr (nr_b (by decide)) (fun tt_ ht_ hW_ => ⟨iI 1, rfl, (congrArg iI hfin), ht_⟩) (fun q h => by cases h) dX5_isScope_23
  · refine lv_iload_n hx hb dX5_isScope_6 rfl (lv_at hl 0 rfl) ?_
    refine lv_bipush (v := iI 116) hx hb dX5_isScope_7 (by decide) ?_
    refine n_icmp_eq (tgt := 18) hx hb dX5_isScope_9 (by decide) (by omega) (by omega) (fun c_2 => ?_) (fun c_2 => ?_)
    · refine lv_iconst (v := iI 1) hx hb dX5_isScope_18 rfl ?_
      refine lv_goto (tgt := 23) hx hb dX5_isScope_19 (by decide) ?_
      have hfin : 1 = b2 (decide (v = 115 ∨ v = 116 ∨ v = 101)) := by
        first | rfl | exact (b2_pos (by omega)).symm | exact (b2_neg (by omega)).symm
      exact W.zret (v := iI 1) hx hb hr (nr_b (by decide)) (fun tt_ ht_ hW_ => ⟨iI 1, rfl, (congrArg iI hfin), ht_⟩) (fun q h => by cases h) dX5_isScope_23
    · refine lv_iload_n hx hb dX5_isScope_12 rfl (lv_at hl 0 rfl) ?_
      refine lv_bipush (v := iI 101) hx hb dX5_isScope_13 (by decide) ?_
      refine n_icmp_ne (tgt := 22) hx hb dX5_isScope_15 (by decide) (by omega) (by omega) (fun c_3 => ?_) (fun c_3 => ?_)
      · refine lv_iconst (v := iI 0) hx hb dX5_isScope_22 rfl ?_
        have hfin : 0 = b2 (decide (v = 115 ∨ v = 116 ∨ v = 101)) := by
          first | rfl | exact (b2_pos (by omega)).symm | exact (b2_neg (by omega)).symm
        exact W.zret (v := iI 0) hx hb hr (nr_b (by decide)) (fun tt_ ht_ hW_ => ⟨iI 0, rfl, (congrArg iI hfin), ht_⟩) (fun q h => by cases h) dX5_isScope_23
      · refine lv_iconst (v := iI 1) hx hb dX5_isScope_18 rfl ?_
        refine lv_goto (tgt := 23) hx hb dX5_isScope_19 (by decide) ?_
        have hfin : 1 = b2 (decide (v = 115 ∨ v = 116 ∨ v = 101)) := by
          first | rfl | exact (b2_pos (by omega)).symm | exact (b2_neg (by omega)).symm
        exact W.zret (v := iI 1) hx hb hr (nr_b (by decide)) (fun tt_ ht_ hW_ => ⟨iI 1, rfl, (congrArg iI hfin), ht_⟩) (fun q h => by cases h) dX5_isScope_23
set_option maxHeartbeats 4000000 in
set_option maxRecDepth 100000 in
theorem mt_X5_letter (l : Launch) (E : EE) (o : Nat → Nat) (sc : Nat → Int) (ar : Nat → Int → Int) (v : Int) (h1 : -97 ≤ v ∧ v < 65439) : Met l yX5_letter (ws_ yX5_letter cX5_letter 1 (some .char)) { frames := 0, cells := 0, slots := 0, locals := 0 } (va_Pc [iv v] (PW E (MW E o sc ar))) (NP (97 + v)) 0 0 (fun _ => False) := by
  refine Met.ofW (cc := cX5_letter) (maxL := 1) (ret := (some .char)) (by decide) rfl ?_
  intro p e s m args below meth c s₁ B hml hv
  obtain ⟨rfl, hP, hK⟩ := hv
  have hx := B.exec
  have hb := B.bytes
  have hr := B.returns
  have hts := atoms_spec (ws := (ws_ yX5_letter cX5_letter 1 (some .char))) B.pre
  have hts : ∀ w ∈ lw_all, w.before _ s = true := fun w h => hts w (List.mem_cons_of_mem _ h)
  have hown : s.vm.findClass RX5 = some m.cls := findClass_of_methodNamed B.named
  have hlocks := B.notSynchronized
  have hl := lv_entry ([iv v]) (n := 1) (Nat.le_of_ble_eq_true rfl)
  rw [lg_entry_eq]
  generalize (lg_sl ([iv v]) ++ List.replicate (1 - (lg_sl ([iv v])).length) Slot.unset).toArray = ls at hl ⊢
  have hl : lv_has ls 1 [(0, iv v)] := hl
  refine lv_bipush (v := iI 97) hx hb dX5_letter_0 (by decide) ?_
  refine lv_iload_n hx hb dX5_letter_2 rfl (lv_at hl 0 rfl) ?_
  refine n_iadd hx hb dX5_letter_3 ?_
  refine n_i2c hx hb (by omega) dX5_letter_4 ?_
  exact W.zret (v := iI (97 + v)) hx hb hr (nr_c (by omega)) (fun tt_ ht_ hW_ => ⟨iI (97 + v), rfl, rfl, ht_⟩) (fun q h => by cases h) dX5_letter_5
set_option maxHeartbeats 4000000 in
set_option maxRecDepth 100000 in
theorem mt_X5_of (l : Launch) (E : EE) (o : Nat → Nat) (sc : Nat → Int) (ar : Nat → Int → Int) (t : Int) (w : Int) (h : 0 ≤ 5 + 7 * t + w ∧ 5 + 7 * t + w < 661) : Met l yX5_of (ws_ yX5_of cX5_of 3 (some .int)) { frames := 0, cells := 0, slots := 0, locals := 0 } (va_Pc [.ref (o 0), iv t, iv w] (PW E (MW E o sc ar))) (NP (m_of (ar 1) t w)) 0 0 (fun _ => False) := by
  refine Met.ofW (cc := cX5_of) (maxL := 3) (ret := (some .int)) (by decide) rfl ?_
  intro p e s m args below meth c s₁ B hml hv
  obtain ⟨rfl, hP, hK⟩ := hv
  have hx := B.exec
  have hb := B.bytes
  have hr := B.returns
  have hts := atoms_spec (ws := (ws_ yX5_of cX5_of 3 (some .int))) B.pre
  have hts : ∀ w ∈ lw_all, w.before _ s = true := fun w h => hts w (List.mem_cons_of_mem _ h)
  have hown : s.vm.findClass RX5 = some m.cls := findClass_of_methodNamed B.named
  have hlocks := B.notSynchronized
  have hl := lv_entry ([.ref (o 0), iv t, iv w]) (n := 3) (Nat.le_of_ble_eq_true rfl)
  rw [lg_entry_eq]
  generalize (lg_sl ([.ref (o 0), iv t, iv w]) ++ List.replicate (3 - (lg_sl ([.ref (o 0), iv t, iv w])).length) Slot.unset).toArray = ls at hl ⊢
  have hl : lv_has ls 3 [(0, .ref (o 0)), (1, iv t), (2, iv w)] := hl
  refine lv_aload_n hx hb dX5_of_0 rfl (lv_at hl 0 rfl) ?_
  refine va_get (D := E.1) (ci := 0) (v := .ref (o 1)) (C := RX5) (T := TX5) (N := 23) hx hb hts in_X5 hown hK.1 hP 0 rfl rfl 0 (by decide) (hts _ q2029) (fun _ h9 => h9) rfl dX5_of_1 ?_
  refine lv_iconst (v := iI 5) hx hb dX5_of_4 rfl ?_
  refine lv_bipush (v := iI 7) hx hb dX5_of_5 (by decide) ?_
  refine lv_iload_n hx hb dX5_of_7 rfl (lv_at hl 1 rfl) ?_
  refine n_imul hx hb dX5_of_8 ?_
  refine n_iadd hx hb dX5_of_9 ?_
  refine lv_iload_n hx hb dX5_of_10 rfl (lv_at hl 2 rfl) ?_
  refine n_iadd hx hb dX5_of_11 ?_
  refine n_iald (f := ar 1) hx hb hK.1 hP 1 0 rfl rfl (by omega) (by decide) dX5_of_12 ?_
  have hfin : ar 1 ((5 + (7 * t)) + w) = m_of (ar 1) t w := by
    first | rfl | omega
  exact W.iret (v := iI (ar 1 ((5 + (7 * t)) + w))) hx hb hr (fun tt_ ht_ hW_ => ⟨iI (ar 1 ((5 + (7 * t)) + w)), rfl, (congrArg iI hfin), ht_⟩) (fun q h => by cases h) dX5_of_13
set_option maxHeartbeats 4000000 in
set_option maxRecDepth 100000 in
theorem mt_X5_lays (l : Launch) (E : EE) (o : Nat → Nat) (sc : Nat → Int) (ar : Nat → Int → Int) (t : Int) (w : Int) (v : Int) (h : 0 ≤ 5 + 7 * t + w ∧ 5 + 7 * t + w < 661) (sz : Nat) : Met l yX5_lays (ws_ yX5_lays cX5_lays 4 none) { frames := 0, cells := 0, slots := 0, locals := 0 } (va_Pc [.ref (o 0), iv t, iv w, iv v] (UW E (MW E o sc ar) sz)) (UQv E (MW E o sc (ua ar 1 (ui (ar 1) (5 + 7 * t + w) v))) (va_A (MW E o sc ar) sz)) 0 0 (va_A (MW E o sc ar) sz) := by
  refine Met.ofW (cc := cX5_lays) (maxL := 4) (ret := none) (by decide) rfl ?_
  intro p e s m args below meth c s₁ B hml hv
  obtain ⟨rfl, hsz, hP, hK, hD0⟩ := hv
  have hx := B.exec
  have hb := B.bytes
  have hr := B.returns
  have hts := atoms_spec (ws := (ws_ yX5_lays cX5_lays 4 none)) B.pre
  have hts : ∀ w ∈ lw_all, w.before _ s = true := fun w h => hts w (List.mem_cons_of_mem _ h)
  have hown : s.vm.findClass RX5 = some m.cls := findClass_of_methodNamed B.named
  have hlocks := B.notSynchronized
  subst hsz
  have hD := hD0.self (sz := s.heap.size)
  generalize hAe : va_A (MW E o sc ar) s.heap.size = A at hD ⊢
  have hA : ∀ q : Nat, s.heap.size ≤ q → A q := fun q h => by rw [← hAe]; exact Or.inr h
  have hS : va_S A s.heap s.heap [] := va_S.rf
  have hl := lv_entry ([.ref (o 0), iv t, iv w, iv v]) (n := 4) (Nat.le_of_ble_eq_true rfl)
  rw [lg_entry_eq]
  generalize (lg_sl ([.ref (o 0), iv t, iv w, iv v]) ++ List.replicate (4 - (lg_sl ([.ref (o 0), iv t, iv w, iv v])).length) Slot.unset).toArray = ls at hl ⊢
  have hl : lv_has ls 4 [(0, .ref (o 0)), (1, iv t), (2, iv w), (3, iv v)] := hl
  refine lv_aload_n hx hb dX5_lays_0 rfl (lv_at hl 0 rfl) ?_
  refine va_get (D := E.1) (ci := 0) (v := .ref (o 1)) (C := RX5) (T := TX5) (N := 23) hx hb hts in_X5 hown hK.1 hP 0 rfl rfl 0 (by decide) (hts _ q2029) (fun _ h9 => h9) rfl dX5_lays_1 ?_
  refine lv_iconst (v := iI 5) hx hb dX5_lays_4 rfl ?_
  refine lv_bipush (v := iI 7) hx hb dX5_lays_5 (by decide) ?_
  refine lv_iload_n hx hb dX5_lays_7 rfl (lv_at hl 1 rfl) ?_
  refine n_imul hx hb dX5_lays_8 ?_
  refine n_iadd hx hb dX5_lays_9 ?_
  refine lv_iload_n hx hb dX5_lays_10 rfl (lv_at hl 2 rfl) ?_
  refine n_iadd hx hb dX5_lays_11 ?_
  refine lv_iload_n hx hb dX5_lays_12 rfl (lv_at hl 3 rfl) ?_
  refine n_iast (f := ar 1) hx hb hK.1 hP hD hS 1 0 rfl rfl (by omega) (by decide) dX5_lays_13 (ws2 := MW E o sc (ua ar 1 (ui (ar 1) ((5 + (7 * t)) + w) v))) rfl (fun H locs hP hD hS => ?_)
  have w_1 : ui (ar 1) ((5 + (7 * t)) + w) v = ui (ar 1) (5 + 7 * t + w) v := by
    rfl
  rw [show (ua ar 1 (ui (ar 1) ((5 + (7 * t)) + w) v)) = (ua ar 1 (ui (ar 1) (5 + 7 * t + w) v)) from congrArg (fun z0 : Int → Int => (ua ar 1 z0)) w_1] at hP hD
  exact W.vret hx hb hr (fun tt_ ht_ hW_ => ⟨⟨(), rfl, trivial, by rw [ht_]; exact hP, hD⟩, hS.F ht_⟩) hS.2.2 dX5_lays_14
set_option maxHeartbeats 4000000 in
set_option maxRecDepth 100000 in
theorem mt_X5_has (l : Launch) (E : EE) (o : Nat → Nat) (sc : Nat → Int) (ar : Nat → Int → Int) (t : Int) (hB : ∀ k x, 0 ≤ ar k x ∧ ar k x < 2147483648) (h : 0 ≤ t ∧ t < 8) : Met l yX5_has (ws_ yX5_has cX5_has 2 (some .boolean)) { frames := 1, cells := 0, slots := 0, locals := 22 } (va_Pc [.ref (o 0), iv t] (PW E (MW E o sc ar))) (NP (b2 (m_has (ar 1) t))) 0 0 (fun _ => False) := by
  refine Met.ofW (cc := cX5_has) (maxL := 2) (ret := (some .boolean)) (by decide) rfl ?_
  intro p e s m args below meth c s₁ B hml hv
  obtain ⟨rfl, hP, hK⟩ := hv
  have hx := B.exec
  have hb := B.bytes
  have hr := B.returns
  have hts := atoms_spec (ws := (ws_ yX5_has cX5_has 2 (some .boolean))) B.pre
  have hts : ∀ w ∈ lw_all, w.before _ s = true := fun w h => hts w (List.mem_cons_of_mem _ h)
  have hown : s.vm.findClass RX5 = some m.cls := findClass_of_methodNamed B.named
  have hlocks := B.notSynchronized
  have hl := lv_entry ([.ref (o 0), iv t]) (n := 2) (Nat.le_of_ble_eq_true rfl)
  rw [lg_entry_eq]
  generalize (lg_sl ([.ref (o 0), iv t]) ++ List.replicate (2 - (lg_sl ([.ref (o 0), iv t])).length) Slot.unset).toArray = ls at hl ⊢
  have hl : lv_has ls 2 [(0, .ref (o 0)), (1, iv t)] := hl
  refine lv_aload_n hx hb dX5_has_0 rfl (lv_at hl 0 rfl) ?_
  refine lv_iload_n hx hb dX5_has_1 rfl (lv_at hl 1 rfl) ?_
  refine lv_iconst (v := iI 0) hx hb dX5_has_2 rfl ?_
  refine n_csi (x := m_of (ar 1) t 0) (va_runV (As := [iv t, iv 0]) (rest := []) ⟨hx, hb, hml, hown, hts⟩ (mt_X5_of l E o sc ar t 0 (by omega)) (cwV 2 hts (lw_V q2120 q2122 qs49 q113 q2123) rfl rfl rfl (by decide +kernel) ⟨Nat.le_of_ble_eq_true rfl, Nat.le_of_ble_eq_true rfl⟩) (PW_V hP hK (va_recv hK.1 hP (ci := 0) (q0 := 0) rfl rfl)) rfl rfl hl.1 rfl (lv_room (Nat.le_of_ble_eq_true rfl)) dX5_has_3 ⟨Nat.le_of_ble_eq_true rfl, Nat.le_of_ble_eq_true rfl⟩) ?_
  have b_1 := (show 0 ≤ m_of (ar 1) t 0 ∧ m_of (ar 1) t 0 < 2147483648 from (hB 1) _)
  refine n_if_eq (tgt := 13) hx hb dX5_has_6 (by decide) (by omega) (fun c_2 => ?_) (fun c_2 => ?_)
  · refine lv_iconst (v := iI 0) hx hb dX5_has_13 rfl ?_
    have hfin : 0 = b2 (m_has (ar 1) t) := by
      first | exact (b2_pos (P := ¬ m_of (ar 1) t 0 = 0) (by omega)).symm | exact (b2_neg (P := ¬ m_of (ar 1) t 0 = 0) (by omega)).symm
    exact W.zret (v := iI 0) hx hb hr (nr_b (by decide)) (fun tt_ ht_ hW_ => ⟨iI 0, rfl, (congrArg iI hfin), ht_⟩) (fun q h => by cases h) dX5_has_14
  · refine lv_iconst (v := iI 1) hx hb dX5_has_9 rfl ?_
    refine lv_goto (tgt := 14) hx hb dX5_has_10 (by decide) ?_
    have hfin : 1 = b2 (m_has (ar 1) t) := by
      first | exact (b2_pos (P := ¬ m_of (ar 1) t 0 = 0) (by omega)).symm | exact (b2_neg (P := ¬ m_of (ar 1) t 0 = 0) (by omega)).symm
    exact W.zret (v := iI 1) hx hb hr (nr_b (by decide)) (fun tt_ ht_ hW_ => ⟨iI 1, rfl, (congrArg iI hfin), ht_⟩) (fun q h => by cases h) dX5_has_14
set_option maxHeartbeats 4000000 in
set_option maxRecDepth 100000 in
theorem mt_X5_need (l : Launch) (E : EE) (o : Nat → Nat) (sc : Nat → Int) (ar : Nat → Int → Int) (t : Int) (k : Int) (hB : ∀ k x, 0 ≤ ar k x ∧ ar k x < 2147483648) (h : 0 ≤ t ∧ t < 8) (hk : 0 ≤ k ∧ k < 3) : Met l yX5_need (ws_ yX5_need cX5_need 3 (some .int)) { frames := 1, cells := 0, slots := 0, locals := 22 } (va_Pc [.ref (o 0), iv t, iv k] (PW E (MW E o sc ar))) (NP (m_need (ar 1) t k)) 0 0 (fun _ => False) := by
  refine Met.ofW (cc := cX5_need) (maxL := 3) (ret := (some .int)) (by decide) rfl ?_
  intro p e s m args below meth c s₁ B hml hv
  obtain ⟨rfl, hP, hK⟩ := hv
  have hx := B.exec
  have hb := B.bytes
  have hr := B.returns
  have hts := atoms_spec (ws := (ws_ yX5_need cX5_need 3 (some .int))) B.pre
  have hts : ∀ w ∈ lw_all, w.before _ s = true := fun w h => hts w (List.mem_cons_of_mem _ h)
  have hown : s.vm.findClass RX5 = some m.cls := findClass_of_methodNamed B.named
  have hlocks := B.notSynchronized
  have hl := lv_entry ([.ref (o 0), iv t, iv k]) (n := 3) (Nat.le_of_ble_eq_true rfl)
  rw [lg_entry_eq]
  generalize (lg_sl ([.ref (o 0), iv t, iv k]) ++ List.replicate (3 - (lg_sl ([.ref (o 0), iv t, iv k])).length) Slot.unset).toArray = ls at hl ⊢
  have hl : lv_has ls 3 [(0, .ref (o 0)), (1, iv t), (2, iv k)] := hl
  refine lv_aload_n hx hb dX5_need_0 rfl (lv_at hl 0 rfl) ?_
  refine lv_iload_n hx hb dX5_need_1 rfl (lv_at hl 1 rfl) ?_
  refine lv_iconst (v := iI 3) hx hb dX5_need_2 rfl ?_
  refine lv_iload_n hx hb dX5_need_3 rfl (lv_at hl 2 rfl) ?_
  refine n_iadd hx hb dX5_need_4 ?_
  refine n_csi (x := m_of (ar 1) t (3 + k)) (va_runV (As := [iv t, iv (3 + k)]) (rest := []) ⟨hx, hb, hml, hown, hts⟩ (mt_X5_of l E o sc ar t (3 + k) (by omega)) (cwV 2 hts (lw_V q2120 q2122 qs49 q113 q2123) rfl rfl rfl (by decide +kernel) ⟨Nat.le_of_ble_eq_true rfl, Nat.le_of_ble_eq_true rfl⟩) (PW_V hP hK (va_recv hK.1 hP (ci := 0) (q0 := 0) rfl rfl)) rfl rfl hl.1 rfl (lv_room (Nat.le_of_ble_eq_true rfl)) dX5_need_5 ⟨Nat.le_of_ble_eq_true rfl, Nat.le_of_ble_eq_true rfl⟩) ?_
  refine lv_bipush (v := iI 8) hx hb dX5_need_8 (by decide) ?_
  have b_1 := (show 0 ≤ m_of (ar 1) t (3 + k) ∧ m_of (ar 1) t (3 + k) < 2147483648 from (hB 1) _)
  refine n_irem hx hb (by omega) (by omega) dX5_need_10 ?_
  have hfin : (m_of (ar 1) t (3 + k)) % 8 = m_need (ar 1) t k := by
    first | rfl | omega
  exact W.iret (v := iI ((m_of (ar 1) t (3 + k)) % 8)) hx hb hr (fun tt_ ht_ hW_ => ⟨iI ((m_of (ar 1) t (3 + k)) % 8), rfl, (congrArg iI hfin), ht_⟩) (fun q h => by cases h) dX5_need_11
set_option maxHeartbeats 4000000 in
set_option maxRecDepth 100000 in
theorem mt_X5_isDirect (l : Launch) (E : EE) (o : Nat → Nat) (sc : Nat → Int) (ar : Nat → Int → Int) (t : Int) (k : Int) (hB : ∀ k x, 0 ≤ ar k x ∧ ar k x < 2147483648) (h : 0 ≤ t ∧ t < 8) (hk : 0 ≤ k ∧ k < 3) : Met l yX5_isDirect (ws_ yX5_isDirect cX5_isDirect 3 (some .boolean)) { frames := 1, cells := 0, slots := 0, locals := 22 } (va_Pc [.ref (o 0), iv t, iv k] (PW E (MW E o sc ar))) (NP (b2 (m_dir (ar 1) t k))) 0 0 (fun _ => False) := by
  refine Met.ofW (cc := cX5_isDirect) (maxL := 3) (ret := (some .boolean)) (by decide) rfl ?_
  intro p e s m args below meth c s₁ B hml hv
  obtain ⟨rfl, hP, hK⟩ := hv
  have hx := B.exec
  have hb := B.bytes
  have hr := B.returns
  have hts := atoms_spec (ws := (ws_ yX5_isDirect cX5_isDirect 3 (some .boolean))) B.pre
  have hts : ∀ w ∈ lw_all, w.before _ s = true := fun w h => hts w (List.mem_cons_of_mem _ h)
  have hown : s.vm.findClass RX5 = some m.cls := findClass_of_methodNamed B.named
  have hlocks := B.notSynchronized
  have hl := lv_entry ([.ref (o 0), iv t, iv k]) (n := 3) (Nat.le_of_ble_eq_true rfl)
  rw [lg_entry_eq]
  generalize (lg_sl ([.ref (o 0), iv t, iv k]) ++ List.replicate (3 - (lg_sl ([.ref (o 0), iv t, iv k])).length) Slot.unset).toArray = ls at hl ⊢
  have hl : lv_has ls 3 [(0, .ref (o 0)), (1, iv t), (2, iv k)] := hl
  refine lv_aload_n hx hb dX5_isDirect_0 rfl (lv_at hl 0 rfl) ?_
  refine lv_iload_n hx hb dX5_isDirect_1 rfl (lv_at hl 1 rfl) ?_
  refine lv_iconst (v := iI 3) hx hb dX5_isDirect_2 rfl ?_
  refine lv_iload_n hx hb dX5_isDirect_3 rfl (lv_at hl 2 rfl) ?_
  refine n_iadd hx hb dX5_isDirect_4 ?_
  refine n_csi (x := m_of (ar 1) t (3 + k)) (va_runV (As := [iv t, iv (3 + k)]) (rest := []) ⟨hx, hb, hml, hown, hts⟩ (mt_X5_of l E o sc ar t (3 + k) (by omega)) (cwV 2 hts (lw_V q2120 q2122 qs49 q113 q2123) rfl rfl rfl (by decide +kernel) ⟨Nat.le_of_ble_eq_true rfl, Nat.le_of_ble_eq_true rfl⟩) (PW_V hP hK (va_recv hK.1 hP (ci := 0) (q0 := 0) rfl rfl)) rfl rfl hl.1 rfl (lv_room (Nat.le_of_ble_eq_true rfl)) dX5_isDirect_5 ⟨Nat.le_of_ble_eq_true rfl, Nat.le_of_ble_eq_true rfl⟩) ?_
  refine lv_bipush (v := iI 8) hx hb dX5_isDirect_8 (by decide) ?_
  have b_1 := (show 0 ≤ m_of (ar 1) t (3 + k) ∧ m_of (ar 1) t (3 + k) < 2147483648 from (hB 1) _)
  refine n_icmp_ge (tgt := 17) hx hb dX5_isDirect_10 (by decide) (by omega) (by omega) (fun c_2 => ?_) (fun c_2 => ?_)
  · refine lv_iconst (v := iI 0) hx hb dX5_isDirect_17 rfl ?_
    have hfin : 0 = b2 (m_dir (ar 1) t k) := by
      first | exact (b2_pos (P := m_of (ar 1) t (3 + k) < 8) (by omega)).symm | exact (b2_neg (P := m_of (ar 1) t (3 + k) < 8) (by omega)).symm
    exact W.zret (v := iI 0) hx hb hr (nr_b (by decide)) (fun tt_ ht_ hW_ => ⟨iI 0, rfl, (congrArg iI hfin), ht_⟩) (fun q h => by cases h) dX5_isDirect_18
  · refine lv_iconst (v := iI 1) hx hb dX5_isDirect_13 rfl ?_
    refine lv_goto (tgt := 18) hx hb dX5_isDirect_14 (by decide) ?_
    have hfin : 1 = b2 (m_dir (ar 1) t k) := by
      first | exact (b2_pos (P := m_of (ar 1) t (3 + k) < 8) (by omega)).symm | exact (b2_neg (P := m_of (ar 1) t (3 + k) < 8) (by omega)).symm
    exact W.zret (v := iI 1) hx hb hr (nr_b (by decide)) (fun tt_ ht_ hW_ => ⟨iI 1, rfl, (congrArg iI hfin), ht_⟩) (fun q h => by cases h) dX5_isDirect_18
set_option maxHeartbeats 4000000 in
set_option maxRecDepth 100000 in
theorem mt_X5_stands (l : Launch) (E : EE) (o : Nat → Nat) (sc : Nat → Int) (ar : Nat → Int → Int) (t : Int) (hB : ∀ k x, 0 ≤ ar k x ∧ ar k x < 2147483648) (h : 0 ≤ t ∧ t < 8) (hsw : SwOK (ar 1)) : Met l yX5_stands (ws_ yX5_stands cX5_stands 3 (some .int)) { frames := 1, cells := 0, slots := 0, locals := 22 } (va_Pc [.ref (o 0), iv t] (PW E (MW E o sc ar))) (NP (m_stands (ar 1) t)) 0 0 (fun _ => False) := by
  refine Met.ofW (cc := cX5_stands) (maxL := 3) (ret := (some .int)) (by decide) rfl ?_
  intro p e s m args below meth c s₁ B hml hv
  obtain ⟨rfl, hP, hK⟩ := hv
  have hx := B.exec
  have hb := B.bytes
  have hr := B.returns
  have hts := atoms_spec (ws := (ws_ yX5_stands cX5_stands 3 (some .int))) B.pre
  have hts : ∀ w ∈ lw_all, w.before _ s = true := fun w h => hts w (List.mem_cons_of_mem _ h)
  have hown : s.vm.findClass RX5 = some m.cls := findClass_of_methodNamed B.named
  have hlocks := B.notSynchronized
  have hl := lv_entry ([.ref (o 0), iv t]) (n := 3) (Nat.le_of_ble_eq_true rfl)
  rw [lg_entry_eq]
  generalize (lg_sl ([.ref (o 0), iv t]) ++ List.replicate (3 - (lg_sl ([.ref (o 0), iv t])).length) Slot.unset).toArray = ls at hl ⊢
  have hl : lv_has ls 3 [(0, .ref (o 0)), (1, iv t)] := hl
  refine lv_iload_n hx hb dX5_stands_0 rfl (lv_at hl 1 rfl) ?_
  refine lv_istore_n (lv' := [(2, iv t), (0, .ref (o 0)), (1, iv t)]) hx hb dX5_stands_1 rfl hl (by decide) rfl (fun ls hl => ?_)
  have l2 : ∀ (fu : Nat) (x2 : Int) (z : Nat), (0 ≤ x2 ∧ x2 < 8) → (m_stN (ar 1) z x2 = m_stands (ar 1) t) → (m_of (ar 1) (m_stN (ar 1) z x2) 6 = 0) → ((z : Int) < (fu : Int)) → ∀ ls : Array Slot, lv_has ls 3 [(2, iv x2), (0, .ref (o 0)), (1, iv t)] → W p l e (headSpec (ws_ yX5_stands cX5_stands 3 (some .int)) { frames := 1, cells := 0, slots := 0, locals := 22 }).room s m ([.ref (o 0), iv t] : List Value).toArray below meth c s.heap [] 0 0 (MQ below (NP (m_stands (ar 1) t)) ([.ref (o 0), iv t] : List Value).toArray s 0 0 (fun _ => False)) (F0 m 2 ls []) := by
    intro fu
    induction fu with
    | zero =>
      intro x2 z il2_0 il2_1 il2_2 hm
      omega
    | succ fu ih =>
      intro x2 z il2_0 il2_1 il2_2 hm ls hl
      have ihl2 := ih
      have hq := hsw x2 (by omega) (by omega)
      refine lv_aload_n hx hb dX5_stands_2 rfl (lv_at hl 1 rfl) ?_
      refine lv_iload_n hx hb dX5_stands_3 rfl (lv_at hl 0 rfl) ?_
      refine lv_bipush (v := iI 6) hx hb dX5_stands_4 (by decide) ?_
      refine n_csi (x := m_of (ar 1) x2 6) (va_runV (As := [iv x2, iv 6]) (rest := []) ⟨hx, hb, hml, hown, hts⟩ (mt_X5_of l E o sc ar x2 6 (by omega)) (cwV 2 hts (lw_V q2120 q2122 qs49 q113 q2123) rfl rfl rfl (by decide +kernel) ⟨Nat.le_of_ble_eq_true rfl, Nat.le_of_ble_eq_true rfl⟩) (PW_V hP hK (va_recv hK.1 hP (ci := 0) (q0 := 0) rfl rfl)) rfl rfl hl.1 rfl (lv_room (Nat.le_of_ble_eq_true rfl)) dX5_stands_6 ⟨Nat.le_of_ble_eq_true rfl, Nat.le_of_ble_eq_true rfl⟩) ?_
      have b_1 := (show 0 ≤ m_of (ar 1) x2 6 ∧ m_of (ar 1) x2 6 < 2147483648 from (hB 1) _)
      refine n_if_le (tgt := 25) hx hb dX5_stands_9 (by decide) (by omega) (fun c_2 => ?_) (fun c_2 => ?_)
      · refine lv_iload_n hx hb dX5_stands_25 rfl (lv_at hl 0 rfl) ?_
        have hfin : x2 = m_stands (ar 1) t := by
          rw [← il2_1, m_stN_end (by omega)]
        exact W.iret (v := iI x2) hx hb hr (fun tt_ ht_ hW_ => ⟨iI x2, rfl, (congrArg iI hfin), ht_⟩) (fun q h => by cases h) dX5_stands_26
      · refine lv_aload_n hx hb dX5_stands_12 rfl (lv_at hl 1 rfl) ?_
        refine lv_iload_n hx hb dX5_stands_13 rfl (lv_at hl 0 rfl) ?_
        refine lv_bipush (v := iI 6) hx hb dX5_stands_14 (by decide) ?_
        refine n_csi (x := m_of (ar 1) x2 6) (va_runV (As := [iv x2, iv 6]) (rest := []) ⟨hx, hb, hml, hown, hts⟩ (mt_X5_of l E o sc ar x2 6 (by omega)) (cwV 2 hts (lw_V q2120 q2122 qs49 q113 q2123) rfl rfl rfl (by decide +kernel) ⟨Nat.le_of_ble_eq_true rfl, Nat.le_of_ble_eq_true rfl⟩) (PW_V hP hK (va_recv hK.1 hP (ci := 0) (q0 := 0) rfl rfl)) rfl rfl hl.1 rfl (lv_room (Nat.le_of_ble_eq_true rfl)) dX5_stands_16 ⟨Nat.le_of_ble_eq_true rfl, Nat.le_of_ble_eq_true rfl⟩) ?_
        refine lv_iconst (v := iI 1) hx hb dX5_stands_19 rfl ?_
        refine n_isub hx hb dX5_stands_20 ?_
        refine lv_istore_n (lv' := [(2, iv ((m_of (ar 1) x2 6) - 1)), (0, .ref (o 0)), (1, iv t)]) hx hb dX5_stands_21 rfl hl (by decide) rfl (fun ls hl => ?_)
        refine lv_goto (tgt := 2) hx hb dX5_stands_22 (by decide) ?_
        obtain ⟨z2, rfl, hz⟩ := m_stN_step (by omega) (by assumption)
        exact ihl2 ((m_of (ar 1) x2 6) - 1) z2 (by first | omega | rfl) (by first | omega | rfl) (by rw [← hz]; assumption) (by omega) ls (lv_sub hl [0, 1, 2] rfl)
  exact l2 (m_len (ar 1) t + 1) t (m_len (ar 1) t) (by first | omega | rfl | trivial) (by rfl) (by exact (hsw t h.1 h.2).2.2) (by omega) ls hl
set_option maxHeartbeats 4000000 in
set_option maxRecDepth 100000 in
theorem mt_X5_recipes (l : Launch) (E : EE) (o : Nat → Nat) (sc : Nat → Int) (ar : Nat → Int → Int) (hB : ∀ k x, 0 ≤ ar k x ∧ ar k x < 2147483648) : Met l yX5_recipes (ws_ yX5_recipes cX5_recipes 3 (some .int)) { frames := 2, cells := 0, slots := 0, locals := 43 } (va_Pc [.ref (o 0)] (PW E (MW E o sc ar))) (NP (m_recipes (ar 1))) 0 0 (fun _ => False) := by
  refine Met.ofW (cc := cX5_recipes) (maxL := 3) (ret := (some .int)) (by decide) rfl ?_
  intro p e s m args below meth c s₁ B hml hv
  obtain ⟨rfl, hP, hK⟩ := hv
  have hx := B.exec
  have hb := B.bytes
  have hr := B.returns
  have hts := atoms_spec (ws := (ws_ yX5_recipes cX5_recipes 3 (some .int))) B.pre
  have hts : ∀ w ∈ lw_all, w.before _ s = true := fun w h => hts w (List.mem_cons_of_mem _ h)
  have hown : s.vm.findClass RX5 = some m.cls := findClass_of_methodNamed B.named
  have hlocks := B.notSynchronized
  have hl := lv_entry ([.ref (o 0)]) (n := 3) (Nat.le_of_ble_eq_true rfl)
  rw [lg_entry_eq]
  generalize (lg_sl ([.ref (o 0)]) ++ List.replicate (3 - (lg_sl ([.ref (o 0)])).length) Slot.unset).toArray = ls at hl ⊢
  have hl : lv_has ls 3 [(0, .ref (o 0))] := hl
  refine lv_iconst (v := iI 0) hx hb dX5_recipes_0 rfl ?_
  refine lv_istore_n (lv' := [(1, iv 0), (0, .ref (o 0))]) hx hb dX5_recipes_1 rfl hl (by decide) rfl (fun ls hl => ?_)
  refine lv_iconst (v := iI 0) hx hb dX5_recipes_2 rfl ?_
  refine lv_istore_n (lv' := [(2, iv 0), (1, iv 0), (0, .ref (o 0))]) hx hb dX5_recipes_3 rfl hl (by decide) rfl (fun ls hl => ?_)
  have l4 : ∀ (fu : Nat) (x1 : Int) (x2 : Int), (0 ≤ x2 ∧ x2 ≤ 8) → (x1 = sumI (fun k => b2 (m_has (ar 1) k)) x2) → (8 - x2 < (fu : Int)) → ∀ ls : Array Slot, lv_has ls 3 [(2, iv x2), (1, iv x1), (0, .ref (o 0))] → W p l e (headSpec (ws_ yX5_recipes cX5_recipes 3 (some .int)) { frames := 2, cells := 0, slots := 0, locals := 43 }).room s m ([.ref (o 0)] : List Value).toArray below meth c s.heap [] 0 0 (MQ below (NP (m_recipes (ar 1))) ([.ref (o 0)] : List Value).toArray s 0 0 (fun _ => False)) (F0 m 4 ls []) := by
    intro fu
    induction fu with
    | zero =>
      intro x1 x2 il4_0 il4_1 hm
      exfalso; omega
    | succ fu ih =>
      intro x1 x2 il4_0 il4_1 hm ls hl
      have ihl4 := ih
      refine lv_iload_n hx hb dX5_recipes_4 rfl (lv_at hl 0 rfl) ?_
      refine lv_bipush (v := iI 8) hx hb dX5_recipes_5 (by decide) ?_
      refine n_icmp_ge (tgt := 32) hx hb dX5_recipes_7 (by decide) (by omega) (by omega) (fun c_1 => ?_) (fun c_1 => ?_)
      · refine lv_iload_n hx hb dX5_recipes_32 rfl (lv_at hl 1 rfl) ?_
        have hfin : x1 = m_recipes (ar 1) := by
          obtain rfl : x2 = 8 := by omega
          exact il4_1
        exact W.iret (v := iI x1) hx hb hr (fun tt_ ht_ hW_ => ⟨iI x1, rfl, (congrArg iI hfin), ht_⟩) (fun q h => by cases h) dX5_recipes_33
      · refine lv_iload_n hx hb dX5_recipes_10 rfl (lv_at hl 1 rfl) ?_
        refine lv_aload_n hx hb dX5_recipes_11 rfl (lv_at hl 2 rfl) ?_
        refine lv_iload_n hx hb dX5_recipes_12 rfl (lv_at hl 0 rfl) ?_
        refine n_csi (x := b2 (m_has (ar 1) x2)) (va_runV (As := [iv x2]) (rest := [iv x1]) ⟨hx, hb, hml, hown, hts⟩ (mt_X5_has l E o sc ar x2 hB (by omega)) (cwV 1 hts (lw_V q2116 q2118 qs48 q113 q2119) rfl rfl rfl (by decide +kernel) ⟨Nat.le_of_ble_eq_true rfl, Nat.le_of_ble_eq_true rfl⟩) (PW_V hP hK (va_recv hK.1 hP (ci := 0) (q0 := 0) rfl rfl)) rfl rfl hl.1 rfl (lv_room (Nat.le_of_ble_eq_true rfl)) dX5_recipes_13 ⟨Nat.le_of_ble_eq_true rfl, Nat.le_of_ble_eq_true rfl⟩) ?_
        refine n_ifb_eq (tgt := 23) hx hb dX5_recipes_16 (by decide) (fun c_2 => ?_) (fun c_2 => ?_)
        · refine lv_iconst (v := iI 0) hx hb dX5_recipes_23 rfl ?_
          refine n_iadd hx hb dX5_recipes_24 ?_
          refine lv_istore_n (lv' := [(1, iv (x1 + 0)), (2, iv x2), (0, .ref (o 0))]) hx hb dX5_recipes_25 rfl hl (by decide) rfl (fun ls hl => ?_)
          refine lv_iinc (v := iI (x2 + 1)) (lv' := [(2, iv (x2 + 1)), (1, iv (x1 + 0)), (0, .ref (o 0))]) hx hb dX5_recipes_26 hl (k := 1) rfl (iI_add _ _) (by decide) rfl (fun ls hl => ?_)
          refine lv_goto (tgt := 4) hx hb dX5_recipes_29 (by decide) ?_
          exact ihl4 (x1 + 0) (x2 + 1) (by first | omega | rfl) (by rw [sumI_s (by omega)]; simp only [*, b2_t, b2_f]) (by omega) ls (lv_sub hl [0, 1, 2] rfl)
        · refine lv_iconst (v := iI 1) hx hb dX5_recipes_19 rfl ?_
          refine lv_goto (tgt := 24) hx hb dX5_recipes_20 (by decide) ?_
          refine n_iadd hx hb dX5_recipes_24 ?_
          refine lv_istore_n (lv' := [(1, iv (x1 + 1)), (2, iv x2), (0, .ref (o 0))]) hx hb dX5_recipes_25 rfl hl (by decide) rfl (fun ls hl => ?_)
          refine lv_iinc (v := iI (x2 + 1)) (lv' := [(2, iv (x2 + 1)), (1, iv (x1 + 1)), (0, .ref (o 0))]) hx hb dX5_recipes_26 hl (k := 1) rfl (iI_add _ _) (by decide) rfl (fun ls hl => ?_)
          refine lv_goto (tgt := 4) hx hb dX5_recipes_29 (by decide) ?_
          exact ihl4 (x1 + 1) (x2 + 1) (by first | omega | rfl) (by rw [sumI_s (by omega)]; simp only [*, b2_t, b2_f]) (by omega) ls (lv_sub hl [0, 1, 2] rfl)
  exact l4 9 0 0 (by first | omega | rfl | trivial) (by rfl) (by omega) ls hl
