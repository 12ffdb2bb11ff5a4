set_option maxHeartbeats 4000000 in
set_option maxRecDepth 100000 in
theorem mt_X5_isConsistent (l : Launch) (E : EE) (o : Nat → Nat) (sc : Nat → Int) (ar : Nat → Int → Int) (hB : ∀ k x, 0 ≤ ar k x ∧ ar k x < 2147483648) (hgs : ar 1 1 + ar 1 3 < 2147483648) (sz : Nat) : Met l yX5_isConsistent (ws_ yX5_isConsistent cX5_isConsistent 1 (some .boolean)) { frames := 0, cells := 0, slots := 0, locals := 0 } (va_Pc [.ref (o 0)] (UW E (MW E o sc ar) sz)) (UQi E (b2 (decide ((ar 1) 2 = (ar 1) 1 + (ar 1) 3))) (MW E o (us sc 8 0) ar) (va_A (MW E o sc ar) sz)) 0 0 (va_A (MW E o sc ar) sz) := by
  refine Met.ofW (cc := cX5_isConsistent) (maxL := 1) (ret := (some .boolean)) (by decide) rfl ?_
  intro p e s m args below meth c s₁ B hml hv
  obtain ⟨rfl, hsz, hP, hK, hD0⟩ := hv
  have hx := B.exec
  have hb := B.bytes
  have hr := B.returns
  have hts := atoms_spec (ws := (ws_ yX5_isConsistent cX5_isConsistent 1 (some .boolean))) B.pre
  have hts : ∀ w ∈ lw_all, w.before _ s = true := fun w h => hts w (List.mem_cons_of_mem _ h)
  have hown : s.vm.findClass RX5 = some m.cls := findClass_of_methodNamed B.named
  have hlocks := B.notSynchronized
  subst hsz
  have hD := hD0.self (sz := s.heap.size)
  generalize hAe : va_A (MW E o sc ar) s.heap.size = A at hD ⊢
  have hA : ∀ q : Nat, s.heap.size ≤ q → A q := fun q h => by rw [← hAe]; exact Or.inr h
  have hS : va_S A s.heap s.heap [] := va_S.rf
  have hl := lv_entry ([.ref (o 0)]) (n := 1) (Nat.le_of_ble_eq_true rfl)
  rw [lg_entry_eq]
  generalize (lg_sl ([.ref (o 0)]) ++ List.replicate (1 - (lg_sl ([.ref (o 0)])).length) Slot.unset).toArray = ls at hl ⊢
  have hl : lv_has ls 1 [(0, .ref (o 0))] := hl
  have hq1 := hB 1 1
  have hq2 := hB 1 2
  have hq3 := hB 1 3
  refine lv_aload_n hx hb dX5_isConsistent_0 rfl (lv_at hl 0 rfl) ?_
  refine lv_iconst (v := iI 0) hx hb dX5_isConsistent_1 rfl ?_
  refine va_put (D := E.1) (ci := 0) (v := iv 0) (ty := .int) (C := RX5) (T := TX5) (N := 23) hx hb hts in_X5 tyX5 tyX5_ok nmX5 hown hK.1 hP hD hS 0 rfl rfl 8 (by decide) (hts _ q2037) (fun _ h9 => h9) rfl (by decide +kernel) rfl rfl (Nat.le_of_ble_eq_true rfl) dX5_isConsistent_2 (fun H locs hP hD hS => ?_)
  have hP : va_P E.1 CL (MW E o (us sc 8 0) ar) H := hP
  have hD : va_D A (MW E o (us sc 8 0) ar) := hD
  refine lv_aload_n hx hb dX5_isConsistent_5 rfl (lv_at hl 0 rfl) ?_
  refine va_get (D := E.1) (ci := 0) (v := .ref (o 1)) (C := RX5) (T := TX5) (N := 23) hx hb hts in_X5 hown hK.1 hP 0 rfl rfl 0 (by decide) (hts _ q2029) (fun _ h9 => h9) rfl dX5_isConsistent_6 ?_
  refine lv_iconst (v := iI 2) hx hb dX5_isConsistent_9 rfl ?_
  refine n_iald (f := ar 1) hx hb hK.1 hP 1 0 rfl rfl (by omega) (by decide) dX5_isConsistent_10 ?_
  refine lv_aload_n hx hb dX5_isConsistent_11 rfl (lv_at hl 0 rfl) ?_
  refine va_get (D := E.1) (ci := 0) (v := .ref (o 1)) (C := RX5) (T := TX5) (N := 23) hx hb hts in_X5 hown hK.1 hP 0 rfl rfl 0 (by decide) (hts _ q2029) (fun _ h9 => h9) rfl dX5_isConsistent_12 ?_
  refine lv_iconst (v := iI 1) hx hb dX5_isConsistent_15 rfl ?_
  refine n_iald (f := ar 1) hx hb hK.1 hP 1 0 rfl rfl (by omega) (by decide) dX5_isConsistent_16 ?_
  refine lv_aload_n hx hb dX5_isConsistent_17 rfl (lv_at hl 0 rfl) ?_
  refine va_get (D := E.1) (ci := 0) (v := .ref (o 1)) (C := RX5) (T := TX5) (N := 23) hx hb hts in_X5 hown hK.1 hP 0 rfl rfl 0 (by decide) (hts _ q2029) (fun _ h9 => h9) rfl dX5_isConsistent_18 ?_
  refine lv_iconst (v := iI 3) hx hb dX5_isConsistent_21 rfl ?_
  refine n_iald (f := ar 1) hx hb hK.1 hP 1 0 rfl rfl (by omega) (by decide) dX5_isConsistent_22 ?_
  refine n_iadd hx hb dX5_isConsistent_23 ?_
  have b_1 := (hB 1) 2
  have b_2 := (hB 1) 1
  have b_3 := (hB 1) 3
  refine n_icmp_ne (tgt := 31) hx hb dX5_isConsistent_24 (by decide) (by omega) (by omega) (fun c_4 => ?_) (fun c_4 => ?_)
  · refine lv_iconst (v := iI 0) hx hb dX5_isConsistent_31 rfl ?_
    have hfin : 0 = b2 (decide ((ar 1) 2 = (ar 1) 1 + (ar 1) 3)) := by
      first | rfl | exact (b2_pos (by omega)).symm | exact (b2_neg (by omega)).symm
    exact W.zret (v := iI 0) hx hb hr (nr_b (by decide)) (fun tt_ ht_ hW_ => ⟨⟨iI 0, (), rfl, (congrArg iI hfin), by rw [ht_]; exact hP, hD⟩, hS.F ht_⟩) hS.2.2 dX5_isConsistent_32
  · refine lv_iconst (v := iI 1) hx hb dX5_isConsistent_27 rfl ?_
    refine lv_goto (tgt := 32) hx hb dX5_isConsistent_28 (by decide) ?_
    have hfin : 1 = b2 (decide ((ar 1) 2 = (ar 1) 1 + (ar 1) 3)) := by
      first | rfl | exact (b2_pos (by omega)).symm | exact (b2_neg (by omega)).symm
    exact W.zret (v := iI 1) hx hb hr (nr_b (by decide)) (fun tt_ ht_ hW_ => ⟨⟨iI 1, (), rfl, (congrArg iI hfin), by rw [ht_]; exact hP, hD⟩, hS.F ht_⟩) hS.2.2 dX5_isConsistent_32
set_option maxHeartbeats 4000000 in
set_option maxRecDepth 100000 in
theorem mt_X5_lineAt (l : Launch) (E : EE) (o : Nat → Nat) (sc : Nat → Int) (ar : Nat → Int → Int) (k : Int) (hB : ∀ k x, 0 ≤ ar k x ∧ ar k x < 2147483648) (h : -2147483648 ≤ k ∧ k < 2147483648) (hsm : 0 ≤ sc 16 ∧ sc 16 ≤ 40) (hsg : ∀ x, ar 6 x < 65536) (sz : Nat) : Met l yX5_lineAt (ws_ yX5_lineAt cX5_lineAt 2 (some .char)) { frames := 1, cells := 0, slots := 0, locals := 22 } (va_Pc [.ref (o 0), iv k] (UW E (MW E o sc ar) sz)) (UQi E (if 0 < c_line (sc 16) k then 32 else ar 6 k) (MW E o (us (us sc 7 0) 8 (c_line (sc 16) k)) ar) (va_A (MW E o sc ar) sz)) 0 0 (va_A (MW E o sc ar) sz) := by
  refine Met.ofW (cc := cX5_lineAt) (maxL := 2) (ret := (some .char)) (by decide) rfl ?_
  intro p e s m args below meth c s₁ B hml hv
  obtain ⟨rfl, hsz, hP, hK, hD0⟩ := hv
  have hx := B.exec
  have hb := B.bytes
  have hr := B.returns
  have hts := atoms_spec (ws := (ws_ yX5_lineAt cX5_lineAt 2 (some .char))) B.pre
  have hts : ∀ w ∈ lw_all, w.before _ s = true := fun w h => hts w (List.mem_cons_of_mem _ h)
  have hown : s.vm.findClass RX5 = some m.cls := findClass_of_methodNamed B.named
  have hlocks := B.notSynchronized
  subst hsz
  have hD := hD0.self (sz := s.heap.size)
  generalize hAe : va_A (MW E o sc ar) s.heap.size = A at hD ⊢
  have hA : ∀ q : Nat, s.heap.size ≤ q → A q := fun q h => by rw [← hAe]; exact Or.inr h
  have hS : va_S A s.heap s.heap [] := va_S.rf
  have hl := lv_entry ([.ref (o 0), iv k]) (n := 2) (Nat.le_of_ble_eq_true rfl)
  rw [lg_entry_eq]
  generalize (lg_sl ([.ref (o 0), iv k]) ++ List.replicate (2 - (lg_sl ([.ref (o 0), iv k])).length) Slot.unset).toArray = ls at hl ⊢
  have hl : lv_has ls 2 [(0, .ref (o 0)), (1, iv k)] := hl
  refine lv_aload_n hx hb dX5_lineAt_0 rfl (lv_at hl 0 rfl) ?_
  have j_1 : W p l e (headSpec (ws_ yX5_lineAt cX5_lineAt 2 (some .char)) { frames := 1, cells := 0, slots := 0, locals := 22 }).room s m ([.ref (o 0), iv k] : List Value).toArray below meth c s.heap [] 0 0 (MQ below (UQi E (if 0 < c_line (sc 16) k then 32 else ar 6 k) (MW E o (us (us sc 7 0) 8 (c_line (sc 16) k)) ar) A) ([.ref (o 0), iv k] : List Value).toArray s 0 0 A) (F0 m 20 ls [iv (c_line (sc 16) k), .ref (o 0)]) := by
    have b_2 := c_line_r (sc 16) k
    refine n_cui (x := b2 (decide (0 < (c_line (sc 16) k)))) (va_runV (As := [iv (c_line (sc 16) k)]) (rest := []) ⟨hx, hb, hml, hown, hts⟩ (mt_X5_fails l E o sc ar (c_line (sc 16) k) (by omega) _) (cwV 1 hts (lw_V q2124 q2126 qs50 q113 q2127) rfl rfl rfl (by decide +kernel) ⟨Nat.le_of_ble_eq_true rfl, Nat.le_of_ble_eq_true rfl⟩) (UW_V hP hK (hD) (va_recv hK.1 hP (ci := 0) (q0 := 0) rfl rfl)) rfl rfl hl.1 rfl (lv_room (Nat.le_of_ble_eq_true rfl)) dX5_lineAt_20 ⟨Nat.le_of_ble_eq_true rfl, Nat.le_of_ble_eq_true rfl⟩) hD hS hA (fun H locs hP hD hS => ?_)
    have hP : va_P E.1 CL (MW E o (us (us sc 7 0) 8 (c_line (sc 16) k)) ar) H := hP
    have hD : va_D A (MW E o (us (us sc 7 0) 8 (c_line (sc 16) k)) ar) := hD
    refine n_ifd_eq (tgt := 31) hx hb dX5_lineAt_23 (by decide) (fun c_3 => ?_) (fun c_3 => ?_)
    · have hz : 0 ≤ k ∧ k ≤ sc 16 - 1 := by unfold c_line at *; split at * <;> omega
      have hy := hB 6 k
      have hx6 := hsg k
      refine lv_aload_n hx hb dX5_lineAt_31 rfl (lv_at hl 0 rfl) ?_
      refine va_get (D := E.1) (ci := 0) (v := .ref (o 6)) (C := RX5) (T := TX5) (N := 23) hx hb hts in_X5 hown hK.1 hP 0 rfl rfl 15 (by decide) (hts _ q2044) (fun _ h9 => h9) rfl dX5_lineAt_32 ?_
      refine lv_iload_n hx hb dX5_lineAt_35 rfl (lv_at hl 1 rfl) ?_
      refine n_cald (f := ar 6) hx hb hK.1 hP 6 2 rfl rfl (by omega) (by decide) dX5_lineAt_36 ?_
      have b_4 := (hB 6) k
      have hfin : ar 6 k = if 0 < c_line (sc 16) k then 32 else ar 6 k := by
        first | exact (if_pos (by assumption)).symm | exact (if_neg (by assumption)).symm
      exact W.zret (v := iI (ar 6 k)) hx hb hr (nr_c (by omega)) (fun tt_ ht_ hW_ => ⟨⟨iI (ar 6 k), (), rfl, (congrArg iI hfin), by rw [ht_]; exact hP, hD⟩, hS.F ht_⟩) hS.2.2 dX5_lineAt_37
    · refine lv_bipush (v := iI 32) hx hb dX5_lineAt_26 (by decide) ?_
      refine lv_goto (tgt := 37) hx hb dX5_lineAt_28 (by decide) ?_
      have hfin : 32 = if 0 < c_line (sc 16) k then 32 else ar 6 k := by
        first | exact (if_pos (by assumption)).symm | exact (if_neg (by assumption)).symm
      exact W.zret (v := iI 32) hx hb hr (nr_c (by omega)) (fun tt_ ht_ hW_ => ⟨⟨iI 32, (), rfl, (congrArg iI hfin), by rw [ht_]; exact hP, hD⟩, hS.F ht_⟩) hS.2.2 dX5_lineAt_37
  refine lv_iload_n hx hb dX5_lineAt_1 rfl (lv_at hl 1 rfl) ?_
  refine lv_iconst (v := iI 0) hx hb dX5_lineAt_2 rfl ?_
  refine lv_aload_n hx hb dX5_lineAt_3 rfl (lv_at hl 0 rfl) ?_
  refine va_get (D := E.1) (ci := 0) (v := iv (sc 16)) (C := RX5) (T := TX5) (N := 23) hx hb hts in_X5 hown hK.1 hP 0 rfl rfl 16 (by decide) (hts _ q2045) (fun _ h9 => h9) rfl dX5_lineAt_4 ?_
  refine lv_iconst (v := iI 1) hx hb dX5_lineAt_7 rfl ?_
  refine n_isub hx hb dX5_lineAt_8 ?_
  refine n_csi (x := b2 (decide (0 ≤ k ∧ k ≤ ((sc 16) - 1)))) (va_runS (As := [iv k, iv 0, iv ((sc 16) - 1)]) (rest := [.ref (o 0)]) ⟨hx, hb, hml, hown, hts⟩ (mt_X5_in l E o sc ar k 0 ((sc 16) - 1) (by omega) (by omega) (by omega)) (va_cwS 3 hts (lw_S q2110 q2111 q113 q2112) rfl rfl rfl (by decide +kernel) ⟨Nat.le_of_ble_eq_true rfl, Nat.le_of_ble_eq_true rfl⟩) (PW_S hP hK) rfl rfl hl.1 rfl (lv_room (Nat.le_of_ble_eq_true rfl)) dX5_lineAt_9 ⟨Nat.le_of_ble_eq_true rfl, Nat.le_of_ble_eq_true rfl⟩) ?_
  refine n_ifd_eq (tgt := 19) hx hb dX5_lineAt_12 (by decide) (fun c_5 => ?_) (fun c_5 => ?_)
  · refine lv_iconst (v := iI 1) hx hb dX5_lineAt_19 rfl ?_
    refine n_top (y := c_line (sc 16) k) (by unfold c_line; first | (rw [if_pos (by omega)]; done) | (rw [if_neg (by omega)]; done)) ?_
    exact j_1
  · refine lv_iconst (v := iI 0) hx hb dX5_lineAt_15 rfl ?_
    refine lv_goto (tgt := 20) hx hb dX5_lineAt_16 (by decide) ?_
    refine n_top (y := c_line (sc 16) k) (by unfold c_line; first | (rw [if_pos (by omega)]; done) | (rw [if_neg (by omega)]; done)) ?_
    exact j_1
set_option maxHeartbeats 4000000 in
set_option maxRecDepth 100000 in
theorem mt_X5_type (l : Launch) (E : EE) (o : Nat → Nat) (sc : Nat → Int) (ar : Nat → Int → Int) (v : Int) (hB : ∀ k x, 0 ≤ ar k x ∧ ar k x < 2147483648) (h : 0 ≤ v ∧ v < 65536) (hln : 0 ≤ sc 13 ∧ sc 13 ≤ 60) (sz : Nat) : Met l yX5_type (ws_ yX5_type cX5_type 2 (some .int)) { frames := 1, cells := 0, slots := 0, locals := 22 } (va_Pc [.ref (o 0), iv v] (UW E (MW E o sc ar) sz)) (UQi E (if 0 < c_type (sc 13) v then 0 else sc 13 + 1) (MW E o (us (us (us sc 7 0) 8 (c_type (sc 13) v)) 13 (if 0 < c_type (sc 13) v then sc 13 else sc 13 + 1)) (ua ar 5 (if 0 < c_type (sc 13) v then ar 5 else ui (ar 5) (sc 13) v))) (va_A (MW E o sc ar) sz)) 0 0 (va_A (MW E o sc ar) sz) := by
  refine Met.ofW (cc := cX5_type) (maxL := 2) (ret := (some .int)) (by decide) rfl ?_
  intro p e s m args below meth c s₁ B hml hv
  obtain ⟨rfl, hsz, hP, hK, hD0⟩ := hv
  have hx := B.exec
  have hb := B.bytes
  have hr := B.returns
  have hts := atoms_spec (ws := (ws_ yX5_type cX5_type 2 (some .int))) B.pre
  have hts : ∀ w ∈ lw_all, w.before _ s = true := fun w h => hts w (List.mem_cons_of_mem _ h)
  have hown : s.vm.findClass RX5 = some m.cls := findClass_of_methodNamed B.named
  have hlocks := B.notSynchronized
  subst hsz
  have hD := hD0.self (sz := s.heap.size)
  generalize hAe : va_A (MW E o sc ar) s.heap.size = A at hD ⊢
  have hA : ∀ q : Nat, s.heap.size ≤ q → A q := fun q h => by rw [← hAe]; exact Or.inr h
  have hS : va_S A s.heap s.heap [] := va_S.rf
  have hl := lv_entry ([.ref (o 0), iv v]) (n := 2) (Nat.le_of_ble_eq_true rfl)
  rw [lg_entry_eq]
  generalize (lg_sl ([.ref (o 0), iv v]) ++ List.replicate (2 - (lg_sl ([.ref (o 0), iv v])).length) Slot.unset).toArray = ls at hl ⊢
  have hl : lv_has ls 2 [(0, .ref (o 0)), (1, iv v)] := hl
  refine lv_aload_n hx hb dX5_type_0 rfl (lv_at hl 0 rfl) ?_
  have j_1 : W p l e (headSpec (ws_ yX5_type cX5_type 2 (some .int)) { frames := 1, cells := 0, slots := 0, locals := 22 }).room s m ([.ref (o 0), iv v] : List Value).toArray below meth c s.heap [] 0 0 (MQ below (UQi E (if 0 < c_type (sc 13) v then 0 else sc 13 + 1) (MW E o (us (us (us sc 7 0) 8 (c_type (sc 13) v)) 13 (if 0 < c_type (sc 13) v then sc 13 else sc 13 + 1)) (ua ar 5 (if 0 < c_type (sc 13) v then ar 5 else ui (ar 5) (sc 13) v))) A) ([.ref (o 0), iv v] : List Value).toArray s 0 0 A) (F0 m 30 ls [iv (c_type (sc 13) v), .ref (o 0)]) := by
    have b_2 := c_type_r (sc 13) v
    refine n_cui (x := b2 (decide (0 < (c_type (sc 13) v)))) (va_runV (As := [iv (c_type (sc 13) v)]) (rest := []) ⟨hx, hb, hml, hown, hts⟩ (mt_X5_fails l E o sc ar (c_type (sc 13) v) (by omega) _) (cwV 1 hts (lw_V q2124 q2126 qs50 q113 q2127) rfl rfl rfl (by decide +kernel) ⟨Nat.le_of_ble_eq_true rfl, Nat.le_of_ble_eq_true rfl⟩) (UW_V hP hK (hD) (va_recv hK.1 hP (ci := 0) (q0 := 0) rfl rfl)) rfl rfl hl.1 rfl (lv_room (Nat.le_of_ble_eq_true rfl)) dX5_type_30 ⟨Nat.le_of_ble_eq_true rfl, Nat.le_of_ble_eq_true rfl⟩) hD hS hA (fun H locs hP hD hS => ?_)
    have hP : va_P E.1 CL (MW E o (us (us sc 7 0) 8 (c_type (sc 13) v)) ar) H := hP
    have hD : va_D A (MW E o (us (us sc 7 0) 8 (c_type (sc 13) v)) ar) := hD
    refine n_ifd_eq (tgt := 38) hx hb dX5_type_33 (by decide) (fun c_3 => ?_) (fun c_3 => ?_)
    · have hz := c_type_ok (by assumption)
      refine lv_aload_n hx hb dX5_type_38 rfl (lv_at hl 0 rfl) ?_
      refine va_get (D := E.1) (ci := 0) (v := .ref (o 5)) (C := RX5) (T := TX5) (N := 23) hx hb hts in_X5 hown hK.1 hP 0 rfl rfl 12 (by decide) (hts _ q2041) (fun _ h9 => h9) rfl dX5_type_39 ?_
      refine lv_aload_n hx hb dX5_type_42 rfl (lv_at hl 0 rfl) ?_
      refine va_get (D := E.1) (ci := 0) (v := iv (sc 13)) (C := RX5) (T := TX5) (N := 23) hx hb hts in_X5 hown hK.1 hP 0 rfl rfl 13 (by decide) (hts _ q2042) (fun _ h9 => h9) rfl dX5_type_43 ?_
      refine lv_iload_n hx hb dX5_type_46 rfl (lv_at hl 1 rfl) ?_
      refine n_iast (f := ar 5) hx hb hK.1 hP hD hS 5 0 rfl rfl (by omega) (by decide) dX5_type_47 (ws2 := MW E o (us (us sc 7 0) 8 (c_type (sc 13) v)) (ua ar 5 (ui (ar 5) (sc 13) v))) rfl (fun H locs hP hD hS => ?_)
      refine lv_aload_n hx hb dX5_type_48 rfl (lv_at hl 0 rfl) ?_
      refine lv_dup hx hb dX5_type_49 rfl ?_
      refine va_get (D := E.1) (ci := 0) (v := iv (sc 13)) (C := RX5) (T := TX5) (N := 23) hx hb hts in_X5 hown hK.1 hP 0 rfl rfl 13 (by decide) (hts _ q2042) (fun _ h9 => h9) rfl dX5_type_50 ?_
      refine lv_iconst (v := iI 1) hx hb dX5_type_53 rfl ?_
      refine n_iadd hx hb dX5_type_54 ?_
      refine va_put (D := E.1) (ci := 0) (v := iv ((sc 13) + 1)) (ty := .int) (C := RX5) (T := TX5) (N := 23) hx hb hts in_X5 tyX5 tyX5_ok nmX5 hown hK.1 hP hD hS 0 rfl rfl 13 (by decide) (hts _ q2042) (fun _ h9 => h9) rfl (by decide +kernel) rfl rfl (Nat.le_of_ble_eq_true rfl) dX5_type_55 (fun H locs hP hD hS => ?_)
      have hP : va_P E.1 CL (MW E o (us (us (us sc 7 0) 8 (c_type (sc 13) v)) 13 ((sc 13) + 1)) (ua ar 5 (ui (ar 5) (sc 13) v))) H := hP
      have hD : va_D A (MW E o (us (us (us sc 7 0) 8 (c_type (sc 13) v)) 13 ((sc 13) + 1)) (ua ar 5 (ui (ar 5) (sc 13) v))) := hD
      refine lv_aload_n hx hb dX5_type_58 rfl (lv_at hl 0 rfl) ?_
      refine va_get (D := E.1) (ci := 0) (v := iv ((sc 13) + 1)) (C := RX5) (T := TX5) (N := 23) hx hb hts in_X5 hown hK.1 hP 0 rfl rfl 13 (by decide) (hts _ q2042) (fun _ h9 => h9) rfl dX5_type_59 ?_
      have hfin : (sc 13) + 1 = if 0 < c_type (sc 13) v then 0 else sc 13 + 1 := by
        first | exact (if_pos (by assumption)).symm | exact (if_neg (by assumption)).symm
      have w_4 : (sc 13) + 1 = if 0 < c_type (sc 13) v then sc 13 else sc 13 + 1 := by
        first | exact (if_pos (by assumption)).symm | exact (if_neg (by assumption)).symm
      rw [show (us (us (us sc 7 0) 8 (c_type (sc 13) v)) 13 ((sc 13) + 1)) = (us (us (us sc 7 0) 8 (c_type (sc 13) v)) 13 (if 0 < c_type (sc 13) v then sc 13 else sc 13 + 1)) from congrArg (fun z0 : Int => (us (us (us sc 7 0) 8 (c_type (sc 13) v)) 13 z0)) w_4] at hP hD
      have w_5 : ui (ar 5) (sc 13) v = if 0 < c_type (sc 13) v then ar 5 else ui (ar 5) (sc 13) v := by
        first | exact (if_pos (by assumption)).symm | exact (if_neg (by assumption)).symm
      rw [show (ua ar 5 (ui (ar 5) (sc 13) v)) = (ua ar 5 (if 0 < c_type (sc 13) v then ar 5 else ui (ar 5) (sc 13) v)) from congrArg (fun z0 : Int → Int => (ua ar 5 z0)) w_5] at hP hD
      exact W.iret (v := iI ((sc 13) + 1)) hx hb hr (fun tt_ ht_ hW_ => ⟨⟨iI ((sc 13) + 1), (), rfl, (congrArg iI hfin), by rw [ht_]; exact hP, hD⟩, hS.F ht_⟩) hS.2.2 dX5_type_62
    · refine lv_iconst (v := iI 0) hx hb dX5_type_36 rfl ?_
      have hfin : 0 = if 0 < c_type (sc 13) v then 0 else sc 13 + 1 := by
        first | exact (if_pos (by assumption)).symm | exact (if_neg (by assumption)).symm
      have hP : va_P E.1 CL (MW E o (us (us (us sc 7 0) 8 (c_type (sc 13) v)) 13 (sc 13)) ar) H := hP
      have hD : va_D A (MW E o (us (us (us sc 7 0) 8 (c_type (sc 13) v)) 13 (sc 13)) ar) := hD
      have w_6 : sc 13 = if 0 < c_type (sc 13) v then sc 13 else sc 13 + 1 := by
        first | exact (if_pos (by assumption)).symm | exact (if_neg (by assumption)).symm
      rw [show (us (us (us sc 7 0) 8 (c_type (sc 13) v)) 13 (sc 13)) = (us (us (us sc 7 0) 8 (c_type (sc 13) v)) 13 (if 0 < c_type (sc 13) v then sc 13 else sc 13 + 1)) from congrArg (fun z0 : Int => (us (us (us sc 7 0) 8 (c_type (sc 13) v)) 13 z0)) w_6] at hP hD
      have hP : va_P E.1 CL (MW E o (us (us (us sc 7 0) 8 (c_type (sc 13) v)) 13 (if 0 < c_type (sc 13) v then sc 13 else sc 13 + 1)) (ua ar 5 (ar 5))) H := hP
      have hD : va_D A (MW E o (us (us (us sc 7 0) 8 (c_type (sc 13) v)) 13 (if 0 < c_type (sc 13) v then sc 13 else sc 13 + 1)) (ua ar 5 (ar 5))) := hD
      have w_7 : ar 5 = if 0 < c_type (sc 13) v then ar 5 else ui (ar 5) (sc 13) v := by
        first | exact (if_pos (by assumption)).symm | exact (if_neg (by assumption)).symm
      rw [show (ua ar 5 (ar 5)) = (ua ar 5 (if 0 < c_type (sc 13) v then ar 5 else ui (ar 5) (sc 13) v)) from congrArg (fun z0 : Int → Int => (ua ar 5 z0)) w_7] at hP hD
      exact W.iret (v := iI 0) hx hb hr (fun tt_ ht_ hW_ => ⟨⟨iI 0, (), rfl, (congrArg iI hfin), by rw [ht_]; exact hP, hD⟩, hS.F ht_⟩) hS.2.2 dX5_type_37
  refine lv_iload_n hx hb dX5_type_1 rfl (lv_at hl 1 rfl) ?_
  refine lv_bipush (v := iI 32) hx hb dX5_type_2 (by decide) ?_
  refine lv_bipush (v := iI 126) hx hb dX5_type_4 (by decide) ?_
  refine n_csi (x := b2 (decide (32 ≤ v ∧ v ≤ 126))) (va_runS (As := [iv v, iv 32, iv 126]) (rest := [.ref (o 0)]) ⟨hx, hb, hml, hown, hts⟩ (mt_X5_in l E o sc ar v 32 126 (by omega) (by omega) (by omega)) (va_cwS 3 hts (lw_S q2110 q2111 q113 q2112) rfl rfl rfl (by decide +kernel) ⟨Nat.le_of_ble_eq_true rfl, Nat.le_of_ble_eq_true rfl⟩) (PW_S hP hK) rfl rfl hl.1 rfl (lv_room (Nat.le_of_ble_eq_true rfl)) dX5_type_6 ⟨Nat.le_of_ble_eq_true rfl, Nat.le_of_ble_eq_true rfl⟩) ?_
  refine n_ifd_ne (tgt := 16) hx hb dX5_type_9 (by decide) (fun c_8 => ?_) (fun c_8 => ?_)
  · refine lv_aload_n hx hb dX5_type_16 rfl (lv_at hl 0 rfl) ?_
    refine va_get (D := E.1) (ci := 0) (v := iv (sc 13)) (C := RX5) (T := TX5) (N := 23) hx hb hts in_X5 hown hK.1 hP 0 rfl rfl 13 (by decide) (hts _ q2042) (fun _ h9 => h9) rfl dX5_type_17 ?_
    refine lv_bipush (v := iI 60) hx hb dX5_type_20 (by decide) ?_
    refine n_icmp_ne (tgt := 29) hx hb dX5_type_22 (by decide) (by omega) (by omega) (fun c_9 => ?_) (fun c_9 => ?_)
    · refine lv_iconst (v := iI 0) hx hb dX5_type_29 rfl ?_
      refine n_top (y := c_type (sc 13) v) (by unfold c_type; (repeat' split) <;> first | rfl | omega) ?_
      exact j_1
    · refine lv_iconst (v := iI 2) hx hb dX5_type_25 rfl ?_
      refine lv_goto (tgt := 30) hx hb dX5_type_26 (by decide) ?_
      refine n_top (y := c_type (sc 13) v) (by unfold c_type; (repeat' split) <;> first | rfl | omega) ?_
      exact j_1
  · refine lv_iconst (v := iI 1) hx hb dX5_type_12 rfl ?_
    refine lv_goto (tgt := 30) hx hb dX5_type_13 (by decide) ?_
    refine n_top (y := c_type (sc 13) v) (by unfold c_type; (repeat' split) <;> first | rfl | omega) ?_
    exact j_1
set_option maxHeartbeats 4000000 in
set_option maxRecDepth 100000 in
theorem mt_X5_errorPosition (l : Launch) (E : EE) (o : Nat → Nat) (sc : Nat → Int) (ar : Nat → Int → Int) (hB : ∀ k x, 0 ≤ ar k x ∧ ar k x < 2147483648) (h : -2147483648 ≤ sc 14 ∧ sc 14 < 2147483648) (sz : Nat) : Met l yX5_errorPosition (ws_ yX5_errorPosition cX5_errorPosition 1 (some .int)) { frames := 1, cells := 0, slots := 0, locals := 21 } (va_Pc [.ref (o 0)] (UW E (MW E o sc ar) sz)) (UQi E (if 0 < c_mns (sc 14) then 0 else sc 14) (MW E o (us (us sc 7 0) 8 (c_mns (sc 14))) ar) (va_A (MW E o sc ar) sz)) 0 0 (va_A (MW E o sc ar) sz) := by
  refine Met.ofW (cc := cX5_errorPosition) (maxL := 1) (ret := (some .int)) (by decide) rfl ?_
  intro p e s m args below meth c s₁ B hml hv
  obtain ⟨rfl, hsz, hP, hK, hD0⟩ := hv
  have hx := B.exec
  have hb := B.bytes
  have hr := B.returns
  have hts := atoms_spec (ws := (ws_ yX5_errorPosition cX5_errorPosition 1 (some .int))) B.pre
  have hts : ∀ w ∈ lw_all, w.before _ s = true := fun w h => hts w (List.mem_cons_of_mem _ h)
  have hown : s.vm.findClass RX5 = some m.cls := findClass_of_methodNamed B.named
  have hlocks := B.notSynchronized
  subst hsz
  have hD := hD0.self (sz := s.heap.size)
  generalize hAe : va_A (MW E o sc ar) s.heap.size = A at hD ⊢
  have hA : ∀ q : Nat, s.heap.size ≤ q → A q := fun q h => by rw [← hAe]; exact Or.inr h
  have hS : va_S A s.heap s.heap [] := va_S.rf
  have hl := lv_entry ([.ref (o 0)]) (n := 1) (Nat.le_of_ble_eq_true rfl)
  rw [lg_entry_eq]
  generalize (lg_sl ([.ref (o 0)]) ++ List.replicate (1 - (lg_sl ([.ref (o 0)])).length) Slot.unset).toArray = ls at hl ⊢
  have hl : lv_has ls 1 [(0, .ref (o 0))] := hl
  refine lv_aload_n hx hb dX5_errorPosition_0 rfl (lv_at hl 0 rfl) ?_
  have j_1 : W p l e (headSpec (ws_ yX5_errorPosition cX5_errorPosition 1 (some .int)) { frames := 1, cells := 0, slots := 0, locals := 21 }).room s m ([.ref (o 0)] : List Value).toArray below meth c s.heap [] 0 0 (MQ below (UQi E (if 0 < c_mns (sc 14) then 0 else sc 14) (MW E o (us (us sc 7 0) 8 (c_mns (sc 14))) ar) A) ([.ref (o 0)] : List Value).toArray s 0 0 A) (F0 m 13 ls [iv (c_mns (sc 14)), .ref (o 0)]) := by
    have b_2 := c_mns_r (sc 14)
    refine n_cui (x := b2 (decide (0 < (c_mns (sc 14))))) (va_runV (As := [iv (c_mns (sc 14))]) (rest := []) ⟨hx, hb, hml, hown, hts⟩ (mt_X5_fails l E o sc ar (c_mns (sc 14)) (by omega) _) (cwV 1 hts (lw_V q2124 q2126 qs50 q113 q2127) rfl rfl rfl (by decide +kernel) ⟨Nat.le_of_ble_eq_true rfl, Nat.le_of_ble_eq_true rfl⟩) (UW_V hP hK (hD) (va_recv hK.1 hP (ci := 0) (q0 := 0) rfl rfl)) rfl rfl hl.1 rfl (lv_room (Nat.le_of_ble_eq_true rfl)) dX5_errorPosition_13 ⟨Nat.le_of_ble_eq_true rfl, Nat.le_of_ble_eq_true rfl⟩) hD hS hA (fun H locs hP hD hS => ?_)
    have hP : va_P E.1 CL (MW E o (us (us sc 7 0) 8 (c_mns (sc 14))) ar) H := hP
    have hD : va_D A (MW E o (us (us sc 7 0) 8 (c_mns (sc 14))) ar) := hD
    refine n_ifd_eq (tgt := 23) hx hb dX5_errorPosition_16 (by decide) (fun c_3 => ?_) (fun c_3 => ?_)
    · refine lv_aload_n hx hb dX5_errorPosition_23 rfl (lv_at hl 0 rfl) ?_
      refine va_get (D := E.1) (ci := 0) (v := iv (sc 14)) (C := RX5) (T := TX5) (N := 23) hx hb hts in_X5 hown hK.1 hP 0 rfl rfl 14 (by decide) (hts _ q2043) (fun _ h9 => h9) rfl dX5_errorPosition_24 ?_
      have hfin : sc 14 = if 0 < c_mns (sc 14) then 0 else sc 14 := by
        first | exact (if_pos (by assumption)).symm | exact (if_neg (by assumption)).symm
      exact W.iret (v := iI (sc 14)) hx hb hr (fun tt_ ht_ hW_ => ⟨⟨iI (sc 14), (), rfl, (congrArg iI hfin), by rw [ht_]; exact hP, hD⟩, hS.F ht_⟩) hS.2.2 dX5_errorPosition_27
    · refine lv_iconst (v := iI 0) hx hb dX5_errorPosition_19 rfl ?_
      refine lv_goto (tgt := 27) hx hb dX5_errorPosition_20 (by decide) ?_
      have hfin : 0 = if 0 < c_mns (sc 14) then 0 else sc 14 := by
        first | exact (if_pos (by assumption)).symm | exact (if_neg (by assumption)).symm
      exact W.iret (v := iI 0) hx hb hr (fun tt_ ht_ hW_ => ⟨⟨iI 0, (), rfl, (congrArg iI hfin), by rw [ht_]; exact hP, hD⟩, hS.F ht_⟩) hS.2.2 dX5_errorPosition_27
  refine lv_aload_n hx hb dX5_errorPosition_1 rfl (lv_at hl 0 rfl) ?_
  refine va_get (D := E.1) (ci := 0) (v := iv (sc 14)) (C := RX5) (T := TX5) (N := 23) hx hb hts in_X5 hown hK.1 hP 0 rfl rfl 14 (by decide) (hts _ q2043) (fun _ h9 => h9) rfl dX5_errorPosition_2 ?_
  refine n_if_ge (tgt := 12) hx hb dX5_errorPosition_5 (by decide) (by omega) (fun c_4 => ?_) (fun c_4 => ?_)
  · refine lv_iconst (v := iI 0) hx hb dX5_errorPosition_12 rfl ?_
    refine n_top (y := c_mns (sc 14)) (by unfold c_mns; first | (rw [if_pos (by omega)]; done) | (rw [if_neg (by omega)]; done)) ?_
    exact j_1
  · refine lv_iconst (v := iI 1) hx hb dX5_errorPosition_8 rfl ?_
    refine lv_goto (tgt := 13) hx hb dX5_errorPosition_9 (by decide) ?_
    refine n_top (y := c_mns (sc 14)) (by unfold c_mns; first | (rw [if_pos (by omega)]; done) | (rw [if_neg (by omega)]; done)) ?_
    exact j_1
set_option maxHeartbeats 4000000 in
set_option maxRecDepth 100000 in
theorem mt_X5_undo (l : Launch) (E : EE) (o : Nat → Nat) (sc : Nat → Int) (ar : Nat → Int → Int) (hB : ∀ k x, 0 ≤ ar k x ∧ ar k x < 2147483648) (h : 0 ≤ sc 5 ∧ sc 5 ≤ 8) (sz : Nat) : Met l yX5_undo (ws_ yX5_undo cX5_undo 1 (some .int)) { frames := 1, cells := 0, slots := 0, locals := 24 } (va_Pc [.ref (o 0)] (UW E (MW E o sc ar) sz)) (UQi E (if 0 < c_nul (sc 5) then 0 else sc 5 - 1) (MW E o (us (us (us sc 5 (if 0 < c_nul (sc 5) then sc 5 else sc 5 - 1)) 7 0) 8 (c_nul (sc 5))) (ua ar 1 (if 0 < c_nul (sc 5) then ar 1 else cpy (ar 2) (ar 1) (661 * (sc 5 - 1)) 0))) (va_A (MW E o sc ar) sz)) 0 0 (va_A (MW E o sc ar) sz) := by
  refine Met.ofW (cc := cX5_undo) (maxL := 1) (ret := (some .int)) (by decide) rfl ?_
  intro p e s m args below meth c s₁ B hml hv
  obtain ⟨rfl, hsz, hP, hK, hD0⟩ := hv
  have hx := B.exec
  have hb := B.bytes
  have hr := B.returns
  have hts := atoms_spec (ws := (ws_ yX5_undo cX5_undo 1 (some .int))) B.pre
  have hts : ∀ w ∈ lw_all, w.before _ s = true := fun w h => hts w (List.mem_cons_of_mem _ h)
  have hown : s.vm.findClass RX5 = some m.cls := findClass_of_methodNamed B.named
  have hlocks := B.notSynchronized
  subst hsz
  have hD := hD0.self (sz := s.heap.size)
  generalize hAe : va_A (MW E o sc ar) s.heap.size = A at hD ⊢
  have hA : ∀ q : Nat, s.heap.size ≤ q → A q := fun q h => by rw [← hAe]; exact Or.inr h
  have hS : va_S A s.heap s.heap [] := va_S.rf
  have hl := lv_entry ([.ref (o 0)]) (n := 1) (Nat.le_of_ble_eq_true rfl)
  rw [lg_entry_eq]
  generalize (lg_sl ([.ref (o 0)]) ++ List.replicate (1 - (lg_sl ([.ref (o 0)])).length) Slot.unset).toArray = ls at hl ⊢
  have hl : lv_has ls 1 [(0, .ref (o 0))] := hl
  refine lv_aload_n hx hb dX5_undo_0 rfl (lv_at hl 0 rfl) ?_
  have j_1 : W p l e (headSpec (ws_ yX5_undo cX5_undo 1 (some .int)) { frames := 1, cells := 0, slots := 0, locals := 24 }).room s m ([.ref (o 0)] : List Value).toArray below meth c s.heap [] 0 0 (MQ below (UQi E (if 0 < c_nul (sc 5) then 0 else sc 5 - 1) (MW E o (us (us (us sc 5 (if 0 < c_nul (sc 5) then sc 5 else sc 5 - 1)) 7 0) 8 (c_nul (sc 5))) (ua ar 1 (if 0 < c_nul (sc 5) then ar 1 else cpy (ar 2) (ar 1) (661 * (sc 5 - 1)) 0))) A) ([.ref (o 0)] : List Value).toArray s 0 0 A) (F0 m 13 ls [iv (c_nul (sc 5)), .ref (o 0)]) := by
    have b_2 := c_nul_r (sc 5)
    refine n_cui (x := b2 (decide (0 < (c_nul (sc 5))))) (va_runV (As := [iv (c_nul (sc 5))]) (rest := []) ⟨hx, hb, hml, hown, hts⟩ (mt_X5_fails l E o sc ar (c_nul (sc 5)) (by omega) _) (cwV 1 hts (lw_V q2124 q2126 qs50 q113 q2127) rfl rfl rfl (by decide +kernel) ⟨Nat.le_of_ble_eq_true rfl, Nat.le_of_ble_eq_true rfl⟩) (UW_V hP hK (hD) (va_recv hK.1 hP (ci := 0) (q0 := 0) rfl rfl)) rfl rfl hl.1 rfl (lv_room (Nat.le_of_ble_eq_true rfl)) dX5_undo_13 ⟨Nat.le_of_ble_eq_true rfl, Nat.le_of_ble_eq_true rfl⟩) hD hS hA (fun H locs hP hD hS => ?_)
    have hP : va_P E.1 CL (MW E o (us (us sc 7 0) 8 (c_nul (sc 5))) ar) H := hP
    have hD : va_D A (MW E o (us (us sc 7 0) 8 (c_nul (sc 5))) ar) := hD
    refine n_ifd_eq (tgt := 21) hx hb dX5_undo_16 (by decide) (fun c_3 => ?_) (fun c_3 => ?_)
    · have hz := c_nul_ok (by assumption)
      refine lv_aload_n hx hb dX5_undo_21 rfl (lv_at hl 0 rfl) ?_
      refine lv_dup hx hb dX5_undo_22 rfl ?_
      refine va_get (D := E.1) (ci := 0) (v := iv (sc 5)) (C := RX5) (T := TX5) (N := 23) hx hb hts in_X5 hown hK.1 hP 0 rfl rfl 5 (by decide) (hts _ q2034) (fun _ h9 => h9) rfl dX5_undo_23 ?_
      refine lv_iconst (v := iI 1) hx hb dX5_undo_26 rfl ?_
      refine n_isub hx hb dX5_undo_27 ?_
      refine va_put (D := E.1) (ci := 0) (v := iv ((sc 5) - 1)) (ty := .int) (C := RX5) (T := TX5) (N := 23) hx hb hts in_X5 tyX5 tyX5_ok nmX5 hown hK.1 hP hD hS 0 rfl rfl 5 (by decide) (hts _ q2034) (fun _ h9 => h9) rfl (by decide +kernel) rfl rfl (Nat.le_of_ble_eq_true rfl) dX5_undo_28 (fun H locs hP hD hS => ?_)
      have hP : va_P E.1 CL (MW E o (us (us (us sc 5 ((sc 5) - 1)) 7 0) 8 (c_nul (sc 5))) ar) H := hP
      have hD : va_D A (MW E o (us (us (us sc 5 ((sc 5) - 1)) 7 0) 8 (c_nul (sc 5))) ar) := hD
      refine lv_aload_n hx hb dX5_undo_31 rfl (lv_at hl 0 rfl) ?_
      refine va_get (D := E.1) (ci := 0) (v := .ref (o 2)) (C := RX5) (T := TX5) (N := 23) hx hb hts in_X5 hown hK.1 hP 0 rfl rfl 1 (by decide) (hts _ q2030) (fun _ h9 => h9) rfl dX5_undo_32 ?_
      refine lv_sipush (v := iI 661) hx hb dX5_undo_35 (by decide) ?_
      refine lv_aload_n hx hb dX5_undo_38 rfl (lv_at hl 0 rfl) ?_
      refine va_get (D := E.1) (ci := 0) (v := iv ((sc 5) - 1)) (C := RX5) (T := TX5) (N := 23) hx hb hts in_X5 hown hK.1 hP 0 rfl rfl 5 (by decide) (hts _ q2034) (fun _ h9 => h9) rfl dX5_undo_39 ?_
      refine n_imul hx hb dX5_undo_42 ?_
      refine lv_aload_n hx hb dX5_undo_43 rfl (lv_at hl 0 rfl) ?_
      refine va_get (D := E.1) (ci := 0) (v := .ref (o 1)) (C := RX5) (T := TX5) (N := 23) hx hb hts in_X5 hown hK.1 hP 0 rfl rfl 0 (by decide) (hts _ q2029) (fun _ h9 => h9) rfl dX5_undo_44 ?_
      refine lv_iconst (v := iI 0) hx hb dX5_undo_47 rfl ?_
      refine n_cuvS (w2 := MW E o (us (us (us sc 5 ((sc 5) - 1)) 7 0) 8 (c_nul (sc 5))) (ua ar 1 (cpy (ar 2) (ar 1) (661 * ((sc 5) - 1)) 0))) (va_runS (As := [.ref (o 2), iv (661 * ((sc 5) - 1)), .ref (o 1), iv 0]) (rest := []) ⟨hx, hb, hml, hown, hts⟩ (mt_X5_copies l E (o 2) (o 1) 5288 661 (ar 2) (ar 1) (661 * ((sc 5) - 1)) 0 (by omega) (by omega) (by decide) (by decide) _) (va_cwS 4 hts (lw_S q2132 q2133 q113 q2134) rfl rfl rfl (by decide +kernel) ⟨Nat.le_of_ble_eq_true rfl, Nat.le_of_ble_eq_true rfl⟩) (UW_S (hP.sub (ws' := [(o 2, ia (E.2 0) 5288 (ar 2)), (o 1, ia (E.2 0) 661 (ar 1))]) [2, 1] rfl) hK (hD.sub (ws' := [(o 2, ia (E.2 0) 5288 (ar 2)), (o 1, ia (E.2 0) 661 (ar 1))]) [2, 1] rfl rfl)) rfl rfl hl.1 rfl (lv_room (Nat.le_of_ble_eq_true rfl)) dX5_undo_48 ⟨Nat.le_of_ble_eq_true rfl, Nat.le_of_ble_eq_true rfl⟩) hP hD hS hA [2, 1] [0, 3, 4, 5, 6, 7, 8] [0, 8, 7, 1, 2, 3, 4, 5, 6] rfl rfl rfl rfl rfl rfl (fun H locs hP hD hS => ?_)
      have hP : va_P E.1 CL (MW E o (us (us (us sc 5 ((sc 5) - 1)) 7 0) 8 (c_nul (sc 5))) (ua ar 1 (cpy (ar 2) (ar 1) (661 * ((sc 5) - 1)) 0))) H := hP
      have hD : va_D A (MW E o (us (us (us sc 5 ((sc 5) - 1)) 7 0) 8 (c_nul (sc 5))) (ua ar 1 (cpy (ar 2) (ar 1) (661 * ((sc 5) - 1)) 0))) := hD
      refine lv_aload_n hx hb dX5_undo_51 rfl (lv_at hl 0 rfl) ?_
      refine va_get (D := E.1) (ci := 0) (v := iv ((sc 5) - 1)) (C := RX5) (T := TX5) (N := 23) hx hb hts in_X5 hown hK.1 hP 0 rfl rfl 5 (by decide) (hts _ q2034) (fun _ h9 => h9) rfl dX5_undo_52 ?_
      have hfin : (sc 5) - 1 = if 0 < c_nul (sc 5) then 0 else sc 5 - 1 := by
        first | exact (if_pos (by assumption)).symm | exact (if_neg (by assumption)).symm
      have w_4 : (sc 5) - 1 = if 0 < c_nul (sc 5) then sc 5 else sc 5 - 1 := by
        first | exact (if_pos (by assumption)).symm | exact (if_neg (by assumption)).symm
      rw [show (us (us (us sc 5 ((sc 5) - 1)) 7 0) 8 (c_nul (sc 5))) = (us (us (us sc 5 (if 0 < c_nul (sc 5) then sc 5 else sc 5 - 1)) 7 0) 8 (c_nul (sc 5))) from congrArg (fun z0 : Int => (us (us (us sc 5 z0) 7 0) 8 (c_nul (sc 5)))) w_4] at hP hD
      have w_5 : cpy (ar 2) (ar 1) (661 * ((sc 5) - 1)) 0 = if 0 < c_nul (sc 5) then ar 1 else cpy (ar 2) (ar 1) (661 * (sc 5 - 1)) 0 := by
        first | exact (if_pos (by assumption)).symm | exact (if_neg (by assumption)).symm
      rw [show (ua ar 1 (cpy (ar 2) (ar 1) (661 * ((sc 5) - 1)) 0)) = (ua ar 1 (if 0 < c_nul (sc 5) then ar 1 else cpy (ar 2) (ar 1) (661 * (sc 5 - 1)) 0)) from congrArg (fun z0 : Int → Int => (ua ar 1 z0)) w_5] at hP hD
      exact W.iret (v := iI ((sc 5) - 1)) hx hb hr (fun tt_ ht_ hW_ => ⟨⟨iI ((sc 5) - 1), (), rfl, (congrArg iI hfin), by rw [ht_]; exact hP, hD⟩, hS.F ht_⟩) hS.2.2 dX5_undo_55
    · refine lv_iconst (v := iI 0) hx hb dX5_undo_19 rfl ?_
      have hfin : 0 = if 0 < c_nul (sc 5) then 0 else sc 5 - 1 := by
        first | exact (if_pos (by assumption)).symm | exact (if_neg (by assumption)).symm
      have hP : va_P E.1 CL (MW E o (us (us (us sc 5 (sc 5)) 7 0) 8 (c_nul (sc 5))) ar) H := hP
      have hD : va_D A (MW E o (us (us (us sc 5 (sc 5)) 7 0) 8 (c_nul (sc 5))) ar) := hD
      have w_6 : sc 5 = if 0 < c_nul (sc 5) then sc 5 else sc 5 - 1 := by
        first | exact (if_pos (by assumption)).symm | exact (if_neg (by assumption)).symm
      rw [show (us (us (us sc 5 (sc 5)) 7 0) 8 (c_nul (sc 5))) = (us (us (us sc 5 (if 0 < c_nul (sc 5) then sc 5 else sc 5 - 1)) 7 0) 8 (c_nul (sc 5))) from congrArg (fun z0 : Int => (us (us (us sc 5 z0) 7 0) 8 (c_nul (sc 5)))) w_6] at hP hD
      have hP : va_P E.1 CL (MW E o (us (us (us sc 5 (if 0 < c_nul (sc 5) then sc 5 else sc 5 - 1)) 7 0) 8 (c_nul (sc 5))) (ua ar 1 (ar 1))) H := hP
      have hD : va_D A (MW E o (us (us (us sc 5 (if 0 < c_nul (sc 5) then sc 5 else sc 5 - 1)) 7 0) 8 (c_nul (sc 5))) (ua ar 1 (ar 1))) := hD
      have w_7 : ar 1 = if 0 < c_nul (sc 5) then ar 1 else cpy (ar 2) (ar 1) (661 * (sc 5 - 1)) 0 := by
        first | exact (if_pos (by assumption)).symm | exact (if_neg (by assumption)).symm
      rw [show (ua ar 1 (ar 1)) = (ua ar 1 (if 0 < c_nul (sc 5) then ar 1 else cpy (ar 2) (ar 1) (661 * (sc 5 - 1)) 0)) from congrArg (fun z0 : Int → Int => (ua ar 1 z0)) w_7] at hP hD
      exact W.iret (v := iI 0) hx hb hr (fun tt_ ht_ hW_ => ⟨⟨iI 0, (), rfl, (congrArg iI hfin), by rw [ht_]; exact hP, hD⟩, hS.F ht_⟩) hS.2.2 dX5_undo_20
  refine lv_aload_n hx hb dX5_undo_1 rfl (lv_at hl 0 rfl) ?_
  refine va_get (D := E.1) (ci := 0) (v := iv (sc 5)) (C := RX5) (T := TX5) (N := 23) hx hb hts in_X5 hown hK.1 hP 0 rfl rfl 5 (by decide) (hts _ q2034) (fun _ h9 => h9) rfl dX5_undo_2 ?_
  refine n_if_ne (tgt := 12) hx hb dX5_undo_5 (by decide) (by omega) (fun c_8 => ?_) (fun c_8 => ?_)
  · refine lv_iconst (v := iI 0) hx hb dX5_undo_12 rfl ?_
    refine n_top (y := c_nul (sc 5)) (by unfold c_nul; first | (rw [if_pos (by omega)]; done) | (rw [if_neg (by omega)]; done)) ?_
    exact j_1
  · refine lv_iconst (v := iI 1) hx hb dX5_undo_8 rfl ?_
    refine lv_goto (tgt := 13) hx hb dX5_undo_9 (by decide) ?_
    refine n_top (y := c_nul (sc 5)) (by unfold c_nul; first | (rw [if_pos (by omega)]; done) | (rw [if_neg (by omega)]; done)) ?_
    exact j_1
set_option maxHeartbeats 4000000 in
set_option maxRecDepth 100000 in
theorem mt_X5_save (l : Launch) (E : EE) (o : Nat → Nat) (sc : Nat → Int) (ar : Nat → Int → Int) (hB : ∀ k x, 0 ≤ ar k x ∧ ar k x < 2147483648) (sz : Nat) : Met l yX5_save (ws_ yX5_save cX5_save 1 (some .int)) { frames := 1, cells := 0, slots := 0, locals := 24 } (va_Pc [.ref (o 0)] (UW E (MW E o sc ar) sz)) (UQi E ((ar 1) 1) (MW E o (us (us sc 4 1) 8 0) (ua ar 3 (cpy (ar 1) (ar 3) 0 0))) (va_A (MW E o sc ar) sz)) 0 0 (va_A (MW E o sc ar) sz) := by
  refine Met.ofW (cc := cX5_save) (maxL := 1) (ret := (some .int)) (by decide) rfl ?_
  intro p e s m args below meth c s₁ B hml hv
  obtain ⟨rfl, hsz, hP, hK, hD0⟩ := hv
  have hx := B.exec
  have hb := B.bytes
  have hr := B.returns
  have hts := atoms_spec (ws := (ws_ yX5_save cX5_save 1 (some .int))) B.pre
  have hts : ∀ w ∈ lw_all, w.before _ s = true := fun w h => hts w (List.mem_cons_of_mem _ h)
  have hown : s.vm.findClass RX5 = some m.cls := findClass_of_methodNamed B.named
  have hlocks := B.notSynchronized
  subst hsz
  have hD := hD0.self (sz := s.heap.size)
  generalize hAe : va_A (MW E o sc ar) s.heap.size = A at hD ⊢
  have hA : ∀ q : Nat, s.heap.size ≤ q → A q := fun q h => by rw [← hAe]; exact Or.inr h
  have hS : va_S A s.heap s.heap [] := va_S.rf
  have hl := lv_entry ([.ref (o 0)]) (n := 1) (Nat.le_of_ble_eq_true rfl)
  rw [lg_entry_eq]
  generalize (lg_sl ([.ref (o 0)]) ++ List.replicate (1 - (lg_sl ([.ref (o 0)])).length) Slot.unset).toArray = ls at hl ⊢
  have hl : lv_has ls 1 [(0, .ref (o 0))] := hl
  refine lv_aload_n hx hb dX5_save_0 rfl (lv_at hl 0 rfl) ?_
  refine lv_iconst (v := iI 0) hx hb dX5_save_1 rfl ?_
  refine va_put (D := E.1) (ci := 0) (v := iv 0) (ty := .int) (C := RX5) (T := TX5) (N := 23) hx hb hts in_X5 tyX5 tyX5_ok nmX5 hown hK.1 hP hD hS 0 rfl rfl 8 (by decide) (hts _ q2037) (fun _ h9 => h9) rfl (by decide +kernel) rfl rfl (Nat.le_of_ble_eq_true rfl) dX5_save_2 (fun H locs hP hD hS => ?_)
  have hP : va_P E.1 CL (MW E o (us sc 8 0) ar) H := hP
  have hD : va_D A (MW E o (us sc 8 0) ar) := hD
  refine lv_aload_n hx hb dX5_save_5 rfl (lv_at hl 0 rfl) ?_
  refine lv_iconst (v := iI 1) hx hb dX5_save_6 rfl ?_
  refine va_put (D := E.1) (ci := 0) (v := iv 1) (ty := .boolean) (C := RX5) (T := TX5) (N := 23) hx hb hts in_X5 tyX5 tyX5_ok nmX5 hown hK.1 hP hD hS 0 rfl rfl 4 (by decide) (hts _ q2033) (fun _ h9 => h9) rfl (by decide +kernel) (nr_b (by decide)) (ft_b (by decide)) (Nat.le_of_ble_eq_true rfl) dX5_save_7 (fun H locs hP hD hS => ?_)
  have hP : va_P E.1 CL (MW E o (us (us sc 4 1) 8 0) ar) H := hP
  have hD : va_D A (MW E o (us (us sc 4 1) 8 0) ar) := hD
  refine lv_aload_n hx hb dX5_save_10 rfl (lv_at hl 0 rfl) ?_
  refine va_get (D := E.1) (ci := 0) (v := .ref (o 1)) (C := RX5) (T := TX5) (N := 23) hx hb hts in_X5 hown hK.1 hP 0 rfl rfl 0 (by decide) (hts _ q2029) (fun _ h9 => h9) rfl dX5_save_11 ?_
  refine lv_iconst (v := iI 0) hx hb dX5_save_14 rfl ?_
  refine lv_aload_n hx hb dX5_save_15 rfl (lv_at hl 0 rfl) ?_
  refine va_get (D := E.1) (ci := 0) (v := .ref (o 3)) (C := RX5) (T := TX5) (N := 23) hx hb hts in_X5 hown hK.1 hP 0 rfl rfl 2 (by decide) (hts _ q2031) (fun _ h9 => h9) rfl dX5_save_16 ?_
  refine lv_iconst (v := iI 0) hx hb dX5_save_19 rfl ?_
  refine n_cuvS (w2 := MW E o (us (us sc 4 1) 8 0) (ua ar 3 (cpy (ar 1) (ar 3) 0 0))) (va_runS (As := [.ref (o 1), iv 0, .ref (o 3), iv 0]) (rest := []) ⟨hx, hb, hml, hown, hts⟩ (mt_X5_copies l E (o 1) (o 3) 661 661 (ar 1) (ar 3) 0 0 (by omega) (by omega) (by decide) (by decide) _) (va_cwS 4 hts (lw_S q2132 q2133 q113 q2134) rfl rfl rfl (by decide +kernel) ⟨Nat.le_of_ble_eq_true rfl, Nat.le_of_ble_eq_true rfl⟩) (UW_S (hP.sub (ws' := [(o 1, ia (E.2 0) 661 (ar 1)), (o 3, ia (E.2 0) 661 (ar 3))]) [1, 3] rfl) hK (hD.sub (ws' := [(o 1, ia (E.2 0) 661 (ar 1)), (o 3, ia (E.2 0) 661 (ar 3))]) [1, 3] rfl rfl)) rfl rfl hl.1 rfl (lv_room (Nat.le_of_ble_eq_true rfl)) dX5_save_20 ⟨Nat.le_of_ble_eq_true rfl, Nat.le_of_ble_eq_true rfl⟩) hP hD hS hA [1, 3] [0, 2, 4, 5, 6, 7, 8] [0, 7, 1, 8, 2, 3, 4, 5, 6] rfl rfl rfl rfl rfl rfl (fun H locs hP hD hS => ?_)
  have hP : va_P E.1 CL (MW E o (us (us sc 4 1) 8 0) (ua ar 3 (cpy (ar 1) (ar 3) 0 0))) H := hP
  have hD : va_D A (MW E o (us (us sc 4 1) 8 0) (ua ar 3 (cpy (ar 1) (ar 3) 0 0))) := hD
  refine lv_aload_n hx hb dX5_save_23 rfl (lv_at hl 0 rfl) ?_
  refine va_get (D := E.1) (ci := 0) (v := .ref (o 1)) (C := RX5) (T := TX5) (N := 23) hx hb hts in_X5 hown hK.1 hP 0 rfl rfl 0 (by decide) (hts _ q2029) (fun _ h9 => h9) rfl dX5_save_24 ?_
  refine lv_iconst (v := iI 1) hx hb dX5_save_27 rfl ?_
  refine n_iald (f := ar 1) hx hb hK.1 hP 1 0 rfl rfl (by omega) (by decide) dX5_save_28 ?_
  have hfin : ar 1 1 = (ar 1) 1 := by
    first | rfl | omega
  exact W.iret (v := iI (ar 1 1)) hx hb hr (fun tt_ ht_ hW_ => ⟨⟨iI (ar 1 1), (), rfl, (congrArg iI hfin), by rw [ht_]; exact hP, hD⟩, hS.F ht_⟩) hS.2.2 dX5_save_29
set_option maxHeartbeats 4000000 in
set_option maxRecDepth 100000 in
theorem mt_X5_restore (l : Launch) (E : EE) (o : Nat → Nat) (sc : Nat → Int) (ar : Nat → Int → Int) (hB : ∀ k x, 0 ≤ ar k x ∧ ar k x < 2147483648) (h : 0 ≤ sc 4 ∧ sc 4 ≤ 1) (sz : Nat) : Met l yX5_restore (ws_ yX5_restore cX5_restore 1 (some .int)) { frames := 1, cells := 0, slots := 0, locals := 24 } (va_Pc [.ref (o 0)] (UW E (MW E o sc ar) sz)) (UQi E (if 0 < c_nul (sc 4) then 0 else (cpy (ar 3) (ar 1) 0 0) 1) (MW E o (us (us (us sc 5 (if 0 < c_nul (sc 4) then sc 5 else 0)) 7 0) 8 (c_nul (sc 4))) (ua ar 1 (if 0 < c_nul (sc 4) then ar 1 else cpy (ar 3) (ar 1) 0 0))) (va_A (MW E o sc ar) sz)) 0 0 (va_A (MW E o sc ar) sz) := by
  refine Met.ofW (cc := cX5_restore) (maxL := 1) (ret := (some .int)) (by decide) rfl ?_
  intro p e s m args below meth c s₁ B hml hv
  obtain ⟨rfl, hsz, hP, hK, hD0⟩ := hv
  have hx := B.exec
  have hb := B.bytes
  have hr := B.returns
  have hts := atoms_spec (ws := (ws_ yX5_restore cX5_restore 1 (some .int))) B.pre
  have hts : ∀ w ∈ lw_all, w.before _ s = true := fun w h => hts w (List.mem_cons_of_mem _ h)
  have hown : s.vm.findClass RX5 = some m.cls := findClass_of_methodNamed B.named
  have hlocks := B.notSynchronized
  subst hsz
  have hD := hD0.self (sz := s.heap.size)
  generalize hAe : va_A (MW E o sc ar) s.heap.size = A at hD ⊢
  have hA : ∀ q : Nat, s.heap.size ≤ q → A q := fun q h => by rw [← hAe]; exact Or.inr h
  have hS : va_S A s.heap s.heap [] := va_S.rf
  have hl := lv_entry ([.ref (o 0)]) (n := 1) (Nat.le_of_ble_eq_true rfl)
  rw [lg_entry_eq]
  generalize (lg_sl ([.ref (o 0)]) ++ List.replicate (1 - (lg_sl ([.ref (o 0)])).length) Slot.unset).toArray = ls at hl ⊢
  have hl : lv_has ls 1 [(0, .ref (o 0))] := hl
  refine lv_aload_n hx hb dX5_restore_0 rfl (lv_at hl 0 rfl) ?_
  have j_1 : W p l e (headSpec (ws_ yX5_restore cX5_restore 1 (some .int)) { frames := 1, cells := 0, slots := 0, locals := 24 }).room s m ([.ref (o 0)] : List Value).toArray below meth c s.heap [] 0 0 (MQ below (UQi E (if 0 < c_nul (sc 4) then 0 else (cpy (ar 3) (ar 1) 0 0) 1) (MW E o (us (us (us sc 5 (if 0 < c_nul (sc 4) then sc 5 else 0)) 7 0) 8 (c_nul (sc 4))) (ua ar 1 (if 0 < c_nul (sc 4) then ar 1 else cpy (ar 3) (ar 1) 0 0))) A) ([.ref (o 0)] : List Value).toArray s 0 0 A) (F0 m 13 ls [iv (c_nul (sc 4)), .ref (o 0)]) := by
    have b_2 := c_nul_r (sc 4)
    refine n_cui (x := b2 (decide (0 < (c_nul (sc 4))))) (va_runV (As := [iv (c_nul (sc 4))]) (rest := []) ⟨hx, hb, hml, hown, hts⟩ (mt_X5_fails l E o sc ar (c_nul (sc 4)) (by omega) _) (cwV 1 hts (lw_V q2124 q2126 qs50 q113 q2127) rfl rfl rfl (by decide +kernel) ⟨Nat.le_of_ble_eq_true rfl, Nat.le_of_ble_eq_true rfl⟩) (UW_V hP hK (hD) (va_recv hK.1 hP (ci := 0) (q0 := 0) rfl rfl)) rfl rfl hl.1 rfl (lv_room (Nat.le_of_ble_eq_true rfl)) dX5_restore_13 ⟨Nat.le_of_ble_eq_true rfl, Nat.le_of_ble_eq_true rfl⟩) hD hS hA (fun H locs hP hD hS => ?_)
    have hP : va_P E.1 CL (MW E o (us (us sc 7 0) 8 (c_nul (sc 4))) ar) H := hP
    have hD : va_D A (MW E o (us (us sc 7 0) 8 (c_nul (sc 4))) ar) := hD
    refine n_ifd_eq (tgt := 21) hx hb dX5_restore_16 (by decide) (fun c_3 => ?_) (fun c_3 => ?_)
    · refine lv_aload_n hx hb dX5_restore_21 rfl (lv_at hl 0 rfl) ?_
      refine va_get (D := E.1) (ci := 0) (v := .ref (o 3)) (C := RX5) (T := TX5) (N := 23) hx hb hts in_X5 hown hK.1 hP 0 rfl rfl 2 (by decide) (hts _ q2031) (fun _ h9 => h9) rfl dX5_restore_22 ?_
      refine lv_iconst (v := iI 0) hx hb dX5_restore_25 rfl ?_
      refine lv_aload_n hx hb dX5_restore_26 rfl (lv_at hl 0 rfl) ?_
      refine va_get (D := E.1) (ci := 0) (v := .ref (o 1)) (C := RX5) (T := TX5) (N := 23) hx hb hts in_X5 hown hK.1 hP 0 rfl rfl 0 (by decide) (hts _ q2029) (fun _ h9 => h9) rfl dX5_restore_27 ?_
      refine lv_iconst (v := iI 0) hx hb dX5_restore_30 rfl ?_
      refine n_cuvS (w2 := MW E o (us (us sc 7 0) 8 (c_nul (sc 4))) (ua ar 1 (cpy (ar 3) (ar 1) 0 0))) (va_runS (As := [.ref (o 3), iv 0, .ref (o 1), iv 0]) (rest := []) ⟨hx, hb, hml, hown, hts⟩ (mt_X5_copies l E (o 3) (o 1) 661 661 (ar 3) (ar 1) 0 0 (by omega) (by omega) (by decide) (by decide) _) (va_cwS 4 hts (lw_S q2132 q2133 q113 q2134) rfl rfl rfl (by decide +kernel) ⟨Nat.le_of_ble_eq_true rfl, Nat.le_of_ble_eq_true rfl⟩) (UW_S (hP.sub (ws' := [(o 3, ia (E.2 0) 661 (ar 3)), (o 1, ia (E.2 0) 661 (ar 1))]) [3, 1] rfl) hK (hD.sub (ws' := [(o 3, ia (E.2 0) 661 (ar 3)), (o 1, ia (E.2 0) 661 (ar 1))]) [3, 1] rfl rfl)) rfl rfl hl.1 rfl (lv_room (Nat.le_of_ble_eq_true rfl)) dX5_restore_31 ⟨Nat.le_of_ble_eq_true rfl, Nat.le_of_ble_eq_true rfl⟩) hP hD hS hA [3, 1] [0, 2, 4, 5, 6, 7, 8] [0, 8, 1, 7, 2, 3, 4, 5, 6] rfl rfl rfl rfl rfl rfl (fun H locs hP hD hS => ?_)
      have hP : va_P E.1 CL (MW E o (us (us sc 7 0) 8 (c_nul (sc 4))) (ua ar 1 (cpy (ar 3) (ar 1) 0 0))) H := hP
      have hD : va_D A (MW E o (us (us sc 7 0) 8 (c_nul (sc 4))) (ua ar 1 (cpy (ar 3) (ar 1) 0 0))) := hD
      refine lv_aload_n hx hb dX5_restore_34 rfl (lv_at hl 0 rfl) ?_
      refine lv_iconst (v := iI 0) hx hb dX5_restore_35 rfl ?_
      refine va_put (D := E.1) (ci := 0) (v := iv 0) (ty := .int) (C := RX5) (T := TX5) (N := 23) hx hb hts in_X5 tyX5 tyX5_ok nmX5 hown hK.1 hP hD hS 0 rfl rfl 5 (by decide) (hts _ q2034) (fun _ h9 => h9) rfl (by decide +kernel) rfl rfl (Nat.le_of_ble_eq_true rfl) dX5_restore_36 (fun H locs hP hD hS => ?_)
      have hP : va_P E.1 CL (MW E o (us (us (us sc 5 0) 7 0) 8 (c_nul (sc 4))) (ua ar 1 (cpy (ar 3) (ar 1) 0 0))) H := hP
      have hD : va_D A (MW E o (us (us (us sc 5 0) 7 0) 8 (c_nul (sc 4))) (ua ar 1 (cpy (ar 3) (ar 1) 0 0))) := hD
      refine lv_aload_n hx hb dX5_restore_39 rfl (lv_at hl 0 rfl) ?_
      refine va_get (D := E.1) (ci := 0) (v := .ref (o 1)) (C := RX5) (T := TX5) (N := 23) hx hb hts in_X5 hown hK.1 hP 0 rfl rfl 0 (by decide) (hts _ q2029) (fun _ h9 => h9) rfl dX5_restore_40 ?_
      refine lv_iconst (v := iI 1) hx hb dX5_restore_43 rfl ?_
      refine n_iald (f := cpy (ar 3) (ar 1) 0 0) hx hb hK.1 hP 1 0 rfl rfl (by omega) (by decide) dX5_restore_44 ?_
      have hfin : (cpy (ar 3) (ar 1) 0 0) 1 = if 0 < c_nul (sc 4) then 0 else (cpy (ar 3) (ar 1) 0 0) 1 := by
        first | exact (if_pos (by assumption)).symm | exact (if_neg (by assumption)).symm
      have w_4 : 0 = if 0 < c_nul (sc 4) then sc 5 else 0 := by
        first | exact (if_pos (by assumption)).symm | exact (if_neg (by assumption)).symm
      rw [show (us (us (us sc 5 0) 7 0) 8 (c_nul (sc 4))) = (us (us (us sc 5 (if 0 < c_nul (sc 4) then sc 5 else 0)) 7 0) 8 (c_nul (sc 4))) from congrArg (fun z0 : Int => (us (us (us sc 5 z0) 7 0) 8 (c_nul (sc 4)))) w_4] at hP hD
      have w_5 : cpy (ar 3) (ar 1) 0 0 = if 0 < c_nul (sc 4) then ar 1 else cpy (ar 3) (ar 1) 0 0 := by
        first | exact (if_pos (by assumption)).symm | exact (if_neg (by assumption)).symm
      rw [show (ua ar 1 (cpy (ar 3) (ar 1) 0 0)) = (ua ar 1 (if 0 < c_nul (sc 4) then ar 1 else cpy (ar 3) (ar 1) 0 0)) from congrArg (fun z0 : Int → Int => (ua ar 1 z0)) w_5] at hP hD
      exact W.iret (v := iI ((cpy (ar 3) (ar 1) 0 0) 1)) hx hb hr (fun tt_ ht_ hW_ => ⟨⟨iI ((cpy (ar 3) (ar 1) 0 0) 1), (), rfl, (congrArg iI hfin), by rw [ht_]; exact hP, hD⟩, hS.F ht_⟩) hS.2.2 dX5_restore_45
    · refine lv_iconst (v := iI 0) hx hb dX5_restore_19 rfl ?_
      have hfin : 0 = if 0 < c_nul (sc 4) then 0 else (cpy (ar 3) (ar 1) 0 0) 1 := by
        first | exact (if_pos (by assumption)).symm | exact (if_neg (by assumption)).symm
      have hP : va_P E.1 CL (MW E o (us (us (us sc 5 (sc 5)) 7 0) 8 (c_nul (sc 4))) ar) H := hP
      have hD : va_D A (MW E o (us (us (us sc 5 (sc 5)) 7 0) 8 (c_nul (sc 4))) ar) := hD
      have w_6 : sc 5 = if 0 < c_nul (sc 4) then sc 5 else 0 := by
        first | exact (if_pos (by assumption)).symm | exact (if_neg (by assumption)).symm
      rw [show (us (us (us sc 5 (sc 5)) 7 0) 8 (c_nul (sc 4))) = (us (us (us sc 5 (if 0 < c_nul (sc 4) then sc 5 else 0)) 7 0) 8 (c_nul (sc 4))) from congrArg (fun z0 : Int => (us (us (us sc 5 z0) 7 0) 8 (c_nul (sc 4)))) w_6] at hP hD
      have hP : va_P E.1 CL (MW E o (us (us (us sc 5 (if 0 < c_nul (sc 4) then sc 5 else 0)) 7 0) 8 (c_nul (sc 4))) (ua ar 1 (ar 1))) H := hP
      have hD : va_D A (MW E o (us (us (us sc 5 (if 0 < c_nul (sc 4) then sc 5 else 0)) 7 0) 8 (c_nul (sc 4))) (ua ar 1 (ar 1))) := hD
      have w_7 : ar 1 = if 0 < c_nul (sc 4) then ar 1 else cpy (ar 3) (ar 1) 0 0 := by
        first | exact (if_pos (by assumption)).symm | exact (if_neg (by assumption)).symm
      rw [show (ua ar 1 (ar 1)) = (ua ar 1 (if 0 < c_nul (sc 4) then ar 1 else cpy (ar 3) (ar 1) 0 0)) from congrArg (fun z0 : Int → Int => (ua ar 1 z0)) w_7] at hP hD
      exact W.iret (v := iI 0) hx hb hr (fun tt_ ht_ hW_ => ⟨⟨iI 0, (), rfl, (congrArg iI hfin), by rw [ht_]; exact hP, hD⟩, hS.F ht_⟩) hS.2.2 dX5_restore_20
  refine lv_aload_n hx hb dX5_restore_1 rfl (lv_at hl 0 rfl) ?_
  refine va_get (D := E.1) (ci := 0) (v := iv (sc 4)) (C := RX5) (T := TX5) (N := 23) hx hb hts in_X5 hown hK.1 hP 0 rfl rfl 4 (by decide) (hts _ q2033) (fun _ h9 => h9) rfl dX5_restore_2 ?_
  refine n_if_eq (tgt := 12) hx hb dX5_restore_5 (by decide) (by omega) (fun c_8 => ?_) (fun c_8 => ?_)
  · refine lv_iconst (v := iI 1) hx hb dX5_restore_12 rfl ?_
    refine n_top (y := c_nul (sc 4)) (by unfold c_nul; first | (rw [if_pos (by omega)]; done) | (rw [if_neg (by omega)]; done)) ?_
    exact j_1
  · refine lv_iconst (v := iI 0) hx hb dX5_restore_8 rfl ?_
    refine lv_goto (tgt := 13) hx hb dX5_restore_9 (by decide) ?_
    refine n_top (y := c_nul (sc 4)) (by unfold c_nul; first | (rw [if_pos (by omega)]; done) | (rw [if_neg (by omega)]; done)) ?_
    exact j_1
set_option maxHeartbeats 4000000 in
set_option maxRecDepth 100000 in
theorem mt_X5_writes (l : Launch) (E : EE) (o : Nat → Nat) (sc : Nat → Int) (ar : Nat → Int → Int) (v : Int) (L : List Int) (fs : Int → Int) (hv : 0 ≤ v ∧ v < 65536) (h40 : lenI L < 40) (sz : Nat) : Met l yX5_writes (ws_ yX5_writes cX5_writes 2 none) { frames := 0, cells := 0, slots := 0, locals := 0 } (va_Pc [.ref (o 0), iv v] (UW E (MW E o (us sc 16 (lenI L)) (ua ar 6 (wR L fs))) sz)) (UQv E (MW E o (us sc 16 (lenI (v :: L))) (ua ar 6 (wR (v :: L) fs))) (va_A (MW E o (us sc 16 (lenI L)) (ua ar 6 (wR L fs))) sz)) 0 0 (va_A (MW E o (us sc 16 (lenI L)) (ua ar 6 (wR L fs))) sz) := by
  refine Met.ofW (cc := cX5_writes) (maxL := 2) (ret := none) (by decide) rfl ?_
  intro p e s m args below meth c s₁ B hml hv
  obtain ⟨rfl, hsz, hP, hK, hD0⟩ := hv
  have hx := B.exec
  have hb := B.bytes
  have hr := B.returns
  have hts := atoms_spec (ws := (ws_ yX5_writes cX5_writes 2 none)) B.pre
  have hts : ∀ w ∈ lw_all, w.before _ s = true := fun w h => hts w (List.mem_cons_of_mem _ h)
  have hown : s.vm.findClass RX5 = some m.cls := findClass_of_methodNamed B.named
  have hlocks := B.notSynchronized
  subst hsz
  have hD := hD0.self (sz := s.heap.size)
  generalize hAe : va_A (MW E o (us sc 16 (lenI L)) (ua ar 6 (wR L fs))) s.heap.size = A at hD ⊢
  have hA : ∀ q : Nat, s.heap.size ≤ q → A q := fun q h => by rw [← hAe]; exact Or.inr h
  have hS : va_S A s.heap s.heap [] := va_S.rf
  have hl := lv_entry ([.ref (o 0), iv v]) (n := 2) (Nat.le_of_ble_eq_true rfl)
  rw [lg_entry_eq]
  generalize (lg_sl ([.ref (o 0), iv v]) ++ List.replicate (2 - (lg_sl ([.ref (o 0), iv v])).length) Slot.unset).toArray = ls at hl ⊢
  have hl : lv_has ls 2 [(0, .ref (o 0)), (1, iv v)] := hl
  have hL0 := lenI_0 L
  refine lv_aload_n hx hb dX5_writes_0 rfl (lv_at hl 0 rfl) ?_
  refine va_get (D := E.1) (ci := 0) (v := .ref (o 6)) (C := RX5) (T := TX5) (N := 23) hx hb hts in_X5 hown hK.1 hP 0 rfl rfl 15 (by decide) (hts _ q2044) (fun _ h9 => h9) rfl dX5_writes_1 ?_
  refine lv_aload_n hx hb dX5_writes_4 rfl (lv_at hl 0 rfl) ?_
  refine va_get (D := E.1) (ci := 0) (v := iv (lenI L)) (C := RX5) (T := TX5) (N := 23) hx hb hts in_X5 hown hK.1 hP 0 rfl rfl 16 (by decide) (hts _ q2045) (fun _ h9 => h9) rfl dX5_writes_5 ?_
  refine lv_iload_n hx hb dX5_writes_8 rfl (lv_at hl 1 rfl) ?_
  refine n_i2c hx hb (by omega) dX5_writes_9 ?_
  refine n_cast (f := wR L fs) hx hb hK.1 hP hD hS 6 2 rfl rfl (by omega) (by decide) (by omega) dX5_writes_10 (ws2 := MW E o (us sc 16 (lenI L)) (ua ar 6 (ui (wR L fs) (lenI L) v))) rfl (fun H locs hP hD hS => ?_)
  refine lv_aload_n hx hb dX5_writes_11 rfl (lv_at hl 0 rfl) ?_
  refine lv_dup hx hb dX5_writes_12 rfl ?_
  refine va_get (D := E.1) (ci := 0) (v := iv (lenI L)) (C := RX5) (T := TX5) (N := 23) hx hb hts in_X5 hown hK.1 hP 0 rfl rfl 16 (by decide) (hts _ q2045) (fun _ h9 => h9) rfl dX5_writes_13 ?_
  refine lv_iconst (v := iI 1) hx hb dX5_writes_16 rfl ?_
  refine n_iadd hx hb dX5_writes_17 ?_
  refine va_put (D := E.1) (ci := 0) (v := iv ((lenI L) + 1)) (ty := .int) (C := RX5) (T := TX5) (N := 23) hx hb hts in_X5 tyX5 tyX5_ok nmX5 hown hK.1 hP hD hS 0 rfl rfl 16 (by decide) (hts _ q2045) (fun _ h9 => h9) rfl (by decide +kernel) rfl rfl (Nat.le_of_ble_eq_true rfl) dX5_writes_18 (fun H locs hP hD hS => ?_)
  have hP : va_P E.1 CL (MW E o (us sc 16 ((lenI L) + 1)) (ua ar 6 (ui (wR L fs) (lenI L) v))) H := hP
  have hD : va_D A (MW E o (us sc 16 ((lenI L) + 1)) (ua ar 6 (ui (wR L fs) (lenI L) v))) := hD
  have w_1 : (lenI L) + 1 = lenI (v :: L) := by
    rfl
  rw [show (us sc 16 ((lenI L) + 1)) = (us sc 16 (lenI (v :: L))) from congrArg (fun z0 : Int => (us sc 16 z0)) w_1] at hP hD
  have w_2 : ui (wR L fs) (lenI L) v = wR (v :: L) fs := by
    rfl
  rw [show (ua ar 6 (ui (wR L fs) (lenI L) v)) = (ua ar 6 (wR (v :: L) fs)) from congrArg (fun z0 : Int → Int => (ua ar 6 z0)) w_2] at hP hD
  exact W.vret hx hb hr (fun tt_ ht_ hW_ => ⟨⟨(), rfl, trivial, by rw [ht_]; exact hP, hD⟩, hS.F ht_⟩) hS.2.2 dX5_writes_21
set_option maxHeartbeats 4000000 in
set_option maxRecDepth 100000 in
theorem mt_X5_writesNumber (l : Launch) (E : EE) (d : Nat) : ∀ (o : Nat → Nat) (sc : Nat → Int) (ar : Nat → Int → Int) (v : Int) (L : List Int) (fs : Int → Int) (hv : 0 ≤ v ∧ v < 100) (h40 : lenI L < 38) (hd : (if 9 < v then 1 else 0) < d) (sz : Nat), Met l yX5_writesNumber (ws_ yX5_writesNumber cX5_writesNumber 2 none) { frames := 1 + d, cells := 0, slots := 0, locals := 21 + 21 * d } (va_Pc [.ref (o 0), iv v] (UW E (MW E o (us sc 16 (lenI L)) (ua ar 6 (wR L fs))) sz)) (UQv E (MW E o (us sc 16 (lenI (dgR v L))) (ua ar 6 (wR (dgR v L) fs))) (va_A (MW E o (us sc 16 (lenI L)) (ua ar 6 (wR L fs))) sz)) 0 0 (va_A (MW E o (us sc 16 (lenI L)) (ua ar 6 (wR L fs))) sz) := by
  induction d with
  | zero => intro o sc ar v L fs hv h40 hd sz; exfalso; omega
  | succ d ihd =>
    intro o sc ar v L fs hv h40 hd sz
    refine Met.ofW (cc := cX5_writesNumber) (maxL := 2) (ret := none) (by decide) rfl ?_
    intro p e s m args below meth c s₁ B hml hv
    obtain ⟨rfl, hsz, hP, hK, hD0⟩ := hv
    have hx := B.exec
    have hb := B.bytes
    have hr := B.returns
    have hts := atoms_spec (ws := (ws_ yX5_writesNumber cX5_writesNumber 2 none)) B.pre
    have hts : ∀ w ∈ lw_all, w.before _ s = true := fun w h => hts w (List.mem_cons_of_mem _ h)
    have hown : s.vm.findClass RX5 = some m.cls := findClass_of_methodNamed B.named
    have hlocks := B.notSynchronized
    subst hsz
    have hD := hD0.self (sz := s.heap.size)
    generalize hAe : va_A (MW E o (us sc 16 (lenI L)) (ua ar 6 (wR L fs))) s.heap.size = A at hD ⊢
    have hA : ∀ q : Nat, s.heap.size ≤ q → A q := fun q h => by rw [← hAe]; exact Or.inr h
    have hS : va_S A s.heap s.heap [] := va_S.rf
    have hl := lv_entry ([.ref (o 0), iv v]) (n := 2) (Nat.le_of_ble_eq_true rfl)
    rw [lg_entry_eq]
    generalize (lg_sl ([.ref (o 0), iv v]) ++ List.replicate (2 - (lg_sl ([.ref (o 0), iv v])).length) Slot.unset).toArray = ls at hl ⊢
    have hl : lv_has ls 2 [(0, .ref (o 0)), (1, iv v)] := hl
    have hL0 := lenI_0 L
    refine lv_iload_n hx hb dX5_writesNumber_0 rfl (lv_at hl 1 rfl) ?_
    refine lv_bipush (v := iI 9) hx hb dX5_writesNumber_1 (by decide) ?_
    refine n_icmp_le (tgt := 14) hx hb dX5_writesNumber_3 (by decide) (by omega) (by omega) (fun c_1 => ?_) (fun c_1 => ?_)
    · refine lv_aload_n hx hb dX5_writesNumber_14 rfl (lv_at hl 0 rfl) ?_
      refine lv_bipush (v := iI 48) hx hb dX5_writesNumber_15 (by decide) ?_
      refine lv_iload_n hx hb dX5_writesNumber_17 rfl (lv_at hl 1 rfl) ?_
      refine lv_bipush (v := iI 10) hx hb dX5_writesNumber_18 (by decide) ?_
      refine n_irem hx hb (by omega) (by omega) dX5_writesNumber_20 ?_
      refine n_iadd hx hb dX5_writesNumber_21 ?_
      have b_2 := lenI_0 L
      refine n_cuv (va_runV (As := [iv (48 + (v % 10))]) (rest := []) ⟨hx, hb, hml, hown, hts⟩ (mt_X5_writes l E o (us sc 16 (lenI L)) (ua ar 6 (wR L fs)) (48 + (v % 10)) L fs (by (try simp only [lenI]); first | omega | (split <;> omega) | (rw [if_neg (by omega)]; omega)) (by (try simp only [lenI]); first | omega | (split <;> omega) | (rw [if_neg (by omega)]; omega)) _) (cwV 1 hts (lw_V q2420 q2422 qs80 q113 q2423) rfl rfl rfl (by decide +kernel) ⟨(show 0 + 1 ≤ 1 + (d + 1) by omega), (show 8 + (2 + 11) + 0 ≤ 21 + 21 * (d + 1) by omega)⟩) (UW_V hP hK (hD) (va_recv hK.1 hP (ci := 0) (q0 := 0) rfl rfl)) rfl rfl hl.1 rfl (lv_room (Nat.le_of_ble_eq_true rfl)) dX5_writesNumber_22 ⟨Nat.le_of_ble_eq_true rfl, Nat.le_of_ble_eq_true rfl⟩) hD hS hA (fun H locs hP hD hS => ?_)
      have hP : va_P E.1 CL (MW E o (us sc 16 (lenI ((48 + (v % 10)) :: L))) (ua ar 6 (wR ((48 + (v % 10)) :: L) fs))) H := hP
      have hD : va_D A (MW E o (us sc 16 (lenI ((48 + (v % 10)) :: L))) (ua ar 6 (wR ((48 + (v % 10)) :: L) fs))) := hD
      have w_3 : lenI ((48 + (v % 10)) :: L) = lenI (dgR v L) := by
        first | (rw [show dgR v L = _ from if_neg (by omega)]; done) | (rw [show dgR (v / 10) L = _ from if_neg (by omega), show dgR v L = _ from if_pos (by omega)]; done)
      rw [show (us sc 16 (lenI ((48 + (v % 10)) :: L))) = (us sc 16 (lenI (dgR v L))) from congrArg (fun z0 : Int => (us sc 16 z0)) w_3] at hP hD
      have w_4 : wR ((48 + (v % 10)) :: L) fs = wR (dgR v L) fs := by
        first | (rw [show dgR v L = _ from if_neg (by omega)]; done) | (rw [show dgR (v / 10) L = _ from if_neg (by omega), show dgR v L = _ from if_pos (by omega)]; done)
      rw [show (ua ar 6 (wR ((48 + (v % 10)) :: L) fs)) = (ua ar 6 (wR (dgR v L) fs)) from congrArg (fun z0 : Int → Int => (ua ar 6 z0)) w_4] at hP hD
      exact W.vret hx hb hr (fun tt_ ht_ hW_ => ⟨⟨(), rfl, trivial, by rw [ht_]; exact hP, hD⟩, hS.F ht_⟩) hS.2.2 dX5_writesNumber_25
    · have hd1 : 0 < d := by rw [if_pos (by omega)] at hd; omega
      refine lv_aload_n hx hb dX5_writesNumber_6 rfl (lv_at hl 0 rfl) ?_
      refine lv_iload_n hx hb dX5_writesNumber_7 rfl (lv_at hl 1 rfl) ?_
      refine lv_bipush (v := iI 10) hx hb dX5_writesNumber_8 (by decide) ?_
      refine n_idiv hx hb (by omega) (by omega) dX5_writesNumber_10 ?_
      refine n_cuv (va_runV (As := [iv (v / 10)]) (rest := []) ⟨hx, hb, hml, hown, hts⟩ (ihd o (us sc 16 (lenI L)) (ua ar 6 (wR L fs)) (v / 10) L fs (by (try simp only [lenI]); first | omega | (split <;> omega) | (rw [if_neg (by omega)]; omega)) (by (try simp only [lenI]); first | omega | (split <;> omega) | (rw [if_neg (by omega)]; omega)) (by (try simp only [lenI]); first | omega | (split <;> omega) | (rw [if_neg (by omega)]; omega)) _) (cwV 1 hts (lw_V q2424 q2426 qs81 q113 q2427) rfl rfl rfl (by decide +kernel) ⟨(show 1 + d + 1 ≤ 1 + (d + 1) by omega), (show 8 + (2 + 11) + (21 + 21 * d) ≤ 21 + 21 * (d + 1) by omega)⟩) (UW_V hP hK (hD) (va_recv hK.1 hP (ci := 0) (q0 := 0) rfl rfl)) rfl rfl hl.1 rfl (lv_room (Nat.le_of_ble_eq_true rfl)) dX5_writesNumber_11 ⟨Nat.le_of_ble_eq_true rfl, Nat.le_of_ble_eq_true rfl⟩) hD hS hA (fun H locs hP hD hS => ?_)
      have hP : va_P E.1 CL (MW E o (us sc 16 (lenI (dgR (v / 10) L))) (ua ar 6 (wR (dgR (v / 10) L) fs))) H := hP
      have hD : va_D A (MW E o (us sc 16 (lenI (dgR (v / 10) L))) (ua ar 6 (wR (dgR (v / 10) L) fs))) := hD
      have b_5 := dgR_len (v / 10) L
      (try simp only [lenI] at b_5)
      refine lv_aload_n hx hb dX5_writesNumber_14 rfl (lv_at hl 0 rfl) ?_
      refine lv_bipush (v := iI 48) hx hb dX5_writesNumber_15 (by decide) ?_
      refine lv_iload_n hx hb dX5_writesNumber_17 rfl (lv_at hl 1 rfl) ?_
      refine lv_bipush (v := iI 10) hx hb dX5_writesNumber_18 (by decide) ?_
      refine n_irem hx hb (by omega) (by omega) dX5_writesNumber_20 ?_
      refine n_iadd hx hb dX5_writesNumber_21 ?_
      have b_6 := lenI_0 (dgR (v / 10) L)
      refine n_cuv (va_runV (As := [iv (48 + (v % 10))]) (rest := []) ⟨hx, hb, hml, hown, hts⟩ (mt_X5_writes l E o (us sc 16 (lenI (dgR (v / 10) L))) (ua ar 6 (wR (dgR (v / 10) L) fs)) (48 + (v % 10)) (dgR (v / 10) L) fs (by (try simp only [lenI]); first | omega | (split <;> omega) | (rw [if_neg (by omega)]; omega)) (by (try simp only [lenI]); first | omega | (split <;> omega) | (rw [if_neg (by omega)]; omega)) _) (cwV 1 hts (lw_V q2420 q2422 qs80 q113 q2423) rfl rfl rfl (by decide +kernel) ⟨(show 0 + 1 ≤ 1 + (d + 1) by omega), (show 8 + (2 + 11) + 0 ≤ 21 + 21 * (d + 1) by omega)⟩) (UW_V hP hK (hD) (va_recv hK.1 hP (ci := 0) (q0 := 0) rfl rfl)) rfl rfl hl.1 rfl (lv_room (Nat.le_of_ble_eq_true rfl)) dX5_writesNumber_22 ⟨Nat.le_of_ble_eq_true rfl, Nat.le_of_ble_eq_true rfl⟩) hD hS hA (fun H locs hP hD hS => ?_)
      have hP : va_P E.1 CL (MW E o (us sc 16 (lenI ((48 + (v % 10)) :: (dgR (v / 10) L)))) (ua ar 6 (wR ((48 + (v % 10)) :: (dgR (v / 10) L)) fs))) H := hP
      have hD : va_D A (MW E o (us sc 16 (lenI ((48 + (v % 10)) :: (dgR (v / 10) L)))) (ua ar 6 (wR ((48 + (v % 10)) :: (dgR (v / 10) L)) fs))) := hD
      have w_7 : lenI ((48 + (v % 10)) :: (dgR (v / 10) L)) = lenI (dgR v L) := by
        first | (rw [show dgR v L = _ from if_neg (by omega)]; done) | (rw [show dgR (v / 10) L = _ from if_neg (by omega), show dgR v L = _ from if_pos (by omega)]; done)
      rw [show (us sc 16 (lenI ((48 + (v % 10)) :: (dgR (v / 10) L)))) = (us sc 16 (lenI (dgR v L))) from congrArg (fun z0 : Int => (us sc 16 z0)) w_7] at hP hD
      have w_8 : wR ((48 + (v % 10)) :: (dgR (v / 10) L)) fs = wR (dgR v L) fs := by
        first | (rw [show dgR v L = _ from if_neg (by omega)]; done) | (rw [show dgR (v / 10) L = _ from if_neg (by omega), show dgR v L = _ from if_pos (by omega)]; done)
      rw [show (ua ar 6 (wR ((48 + (v % 10)) :: (dgR (v / 10) L)) fs)) = (ua ar 6 (wR (dgR v L) fs)) from congrArg (fun z0 : Int → Int => (ua ar 6 z0)) w_8] at hP hD
      exact W.vret hx hb hr (fun tt_ ht_ hW_ => ⟨⟨(), rfl, trivial, by rw [ht_]; exact hP, hD⟩, hS.F ht_⟩) hS.2.2 dX5_writesNumber_25
set_option maxHeartbeats 4000000 in
set_option maxRecDepth 100000 in
theorem mt_X5_writeRecipe (l : Launch) (E : EE) (o : Nat → Nat) (sc : Nat → Int) (ar : Nat → Int → Int) (t : Int) (hB : ∀ k x, 0 ≤ ar k x ∧ ar k x < 2147483648) (ht : 0 ≤ t ∧ t < 65536) (htw : TW (ar 1)) (hsw : SwOK (ar 1)) (htm : TM (ar 1)) (hsc : ∀ t, 0 ≤ t → t < 8 → m_of (ar 1) t 0 < 65536) (sz : Nat) : Met l yX5_writeRecipe (ws_ yX5_writeRecipe cX5_writeRecipe 4 (some .int)) { frames := 4, cells := 0, slots := 0, locals := 84 } (va_Pc [.ref (o 0), iv t] (UW E (MW E o sc ar) sz)) (UQi E (if 0 < c_none (ar 1) t then 0 else lenI (m_wrec (ar 1) t)) (MW E o (us (us (us sc 7 0) 8 (c_none (ar 1) t)) 16 (if 0 < c_none (ar 1) t then sc 16 else lenI (m_wrec (ar 1) t))) (ua ar 6 (if 0 < c_none (ar 1) t then ar 6 else wR (m_wrec (ar 1) t) (ar 6)))) (va_A (MW E o sc ar) sz)) 0 0 (va_A (MW E o sc ar) sz) := by
  refine Met.ofW (cc := cX5_writeRecipe) (maxL := 4) (ret := (some .int)) (by decide) rfl ?_
  intro p e s m args below meth c s₁ B hml hv
  obtain ⟨rfl, hsz, hP, hK, hD0⟩ := hv
  have hx := B.exec
  have hb := B.bytes
  have hr := B.returns
  have hts := atoms_spec (ws := (ws_ yX5_writeRecipe cX5_writeRecipe 4 (some .int))) B.pre
  have hts : ∀ w ∈ lw_all, w.before _ s = true := fun w h => hts w (List.mem_cons_of_mem _ h)
  have hown : s.vm.findClass RX5 = some m.cls := findClass_of_methodNamed B.named
  have hlocks := B.notSynchronized
  subst hsz
  have hD := hD0.self (sz := s.heap.size)
  generalize hAe : va_A (MW E o sc ar) s.heap.size = A at hD ⊢
  have hA : ∀ q : Nat, s.heap.size ≤ q → A q := fun q h => by rw [← hAe]; exact Or.inr h
  have hS : va_S A s.heap s.heap [] := va_S.rf
  have hl := lv_entry ([.ref (o 0), iv t]) (n := 4) (Nat.le_of_ble_eq_true rfl)
  rw [lg_entry_eq]
  generalize (lg_sl ([.ref (o 0), iv t]) ++ List.replicate (4 - (lg_sl ([.ref (o 0), iv t])).length) Slot.unset).toArray = ls at hl ⊢
  have hl : lv_has ls 4 [(0, .ref (o 0)), (1, iv t)] := hl
  refine lv_aload_n hx hb dX5_writeRecipe_0 rfl (lv_at hl 0 rfl) ?_
  refine lv_iload_n hx hb dX5_writeRecipe_1 rfl (lv_at hl 1 rfl) ?_
  refine n_cui (x := b2 (decide (0 < c_none (ar 1) t))) (va_runV (As := [iv t]) (rest := []) ⟨hx, hb, hml, hown, hts⟩ (mt_X5_isNone l E o sc ar t hB (by omega) _) (cwV 1 hts (lw_V q2147 q2149 qs54 q113 q2150) rfl rfl rfl (by decide +kernel) ⟨Nat.le_of_ble_eq_true rfl, Nat.le_of_ble_eq_true rfl⟩) (UW_V hP hK (hD) (va_recv hK.1 hP (ci := 0) (q0 := 0) rfl rfl)) rfl rfl hl.1 rfl (lv_room (Nat.le_of_ble_eq_true rfl)) dX5_writeRecipe_2 ⟨Nat.le_of_ble_eq_true rfl, Nat.le_of_ble_eq_true rfl⟩) hD hS hA (fun H locs hP hD hS => ?_)
  have hP : va_P E.1 CL (MW E o (us (us sc 7 0) 8 (c_none (ar 1) t)) ar) H := hP
  have hD : va_D A (MW E o (us (us sc 7 0) 8 (c_none (ar 1) t)) ar) := hD
  refine n_ifd_eq (tgt := 10) hx hb dX5_writeRecipe_5 (by decide) (fun c_1 => ?_) (fun c_1 => ?_)
  · have hnc : ¬ 0 < c_none (ar 1) t := by assumption
    have hz := c_none_ok hnc
    have hy := hsc (t - 97) (by omega) (by omega)
    have hw2 := htw (t - 97) (by omega) (by omega)
    have hm2 := htm (t - 97) (by omega) (by omega)
    have hq0 := hB 1 (5 + 7 * (t - 97) + 0)
    have hsq := hsw (t - 97) (by omega) (by omega)
    refine lv_iload_n hx hb dX5_writeRecipe_10 rfl (lv_at hl 1 rfl) ?_
    refine lv_bipush (v := iI 97) hx hb dX5_writeRecipe_11 (by decide) ?_
    refine n_isub hx hb dX5_writeRecipe_13 ?_
    refine lv_istore_n (lv' := [(2, iv (t - 97)), (0, .ref (o 0)), (1, iv t)]) hx hb dX5_writeRecipe_14 rfl hl (by decide) rfl (fun ls hl => ?_)
    refine lv_aload_n hx hb dX5_writeRecipe_15 rfl (lv_at hl 1 rfl) ?_
    refine lv_iconst (v := iI 0) hx hb dX5_writeRecipe_16 rfl ?_
    refine va_put (D := E.1) (ci := 0) (v := iv 0) (ty := .int) (C := RX5) (T := TX5) (N := 23) hx hb hts in_X5 tyX5 tyX5_ok nmX5 hown hK.1 hP hD hS 0 rfl rfl 16 (by decide) (hts _ q2045) (fun _ h9 => h9) rfl (by decide +kernel) rfl rfl (Nat.le_of_ble_eq_true rfl) dX5_writeRecipe_17 (fun H locs hP hD hS => ?_)
    have hP : va_P E.1 CL (MW E o (us (us (us sc 7 0) 8 (c_none (ar 1) t)) 16 0) ar) H := hP
    have hD : va_D A (MW E o (us (us (us sc 7 0) 8 (c_none (ar 1) t)) 16 0) ar) := hD
    refine lv_aload_n hx hb dX5_writeRecipe_20 rfl (lv_at hl 1 rfl) ?_
    refine lv_iload_n hx hb dX5_writeRecipe_21 rfl (lv_at hl 2 rfl) ?_
    have b_2 := lenI_0 []
    refine n_cuv (va_runV (As := [iv t]) (rest := []) ⟨hx, hb, hml, hown, hts⟩ (mt_X5_writes l E o (us (us (us sc 7 0) 8 (c_none (ar 1) t)) 16 0) ar t [] (ar 6) (by (try simp only [lenI]); first | omega | (split <;> omega) | (rw [if_neg (by omega)]; omega)) (by (try simp only [lenI]); first | omega | (split <;> omega) | (rw [if_neg (by omega)]; omega)) _) (cwV 1 hts (lw_V q2420 q2422 qs80 q113 q2423) rfl rfl rfl (by decide +kernel) ⟨Nat.le_of_ble_eq_true rfl, Nat.le_of_ble_eq_true rfl⟩) (UW_V hP hK (hD) (va_recv hK.1 hP (ci := 0) (q0 := 0) rfl rfl)) rfl rfl hl.1 rfl (lv_room (Nat.le_of_ble_eq_true rfl)) dX5_writeRecipe_22 ⟨Nat.le_of_ble_eq_true rfl, Nat.le_of_ble_eq_true rfl⟩) hD hS hA (fun H locs hP hD hS => ?_)
    have hP : va_P E.1 CL (MW E o (us (us (us sc 7 0) 8 (c_none (ar 1) t)) 16 (lenI (t :: []))) (ua ar 6 (wR (t :: []) (ar 6)))) H := hP
    have hD : va_D A (MW E o (us (us (us sc 7 0) 8 (c_none (ar 1) t)) 16 (lenI (t :: []))) (ua ar 6 (wR (t :: []) (ar 6)))) := hD
    have hBwb_3 : ∀ x, 0 ≤ wR (t :: []) (ar 6) x ∧ wR (t :: []) (ar 6) x < 2147483648 := wR_cb (v := t) (L := []) (hB 6) (by omega)
    refine lv_aload_n hx hb dX5_writeRecipe_25 rfl (lv_at hl 1 rfl) ?_
    refine lv_aload_n hx hb dX5_writeRecipe_26 rfl (lv_at hl 1 rfl) ?_
    refine lv_iload_n hx hb dX5_writeRecipe_27 rfl (lv_at hl 0 rfl) ?_
    refine lv_iconst (v := iI 0) hx hb dX5_writeRecipe_28 rfl ?_
    refine n_csi (x := m_of (ar 1) (t - 97) 0) (va_runV (As := [iv (t - 97), iv 0]) (rest := [.ref (o 0)]) ⟨hx, hb, hml, hown, hts⟩ (mt_X5_of l E o (us (us (us sc 7 0) 8 (c_none (ar 1) t)) 16 (lenI (t :: []))) (ua ar 6 (wR (t :: []) (ar 6))) (t - 97) 0 (by omega)) (cwV 2 hts (lw_V q2120 q2122 qs49 q113 q2123) rfl rfl rfl (by decide +kernel) ⟨Nat.le_of_ble_eq_true rfl, Nat.le_of_ble_eq_true rfl⟩) (PW_V hP hK (va_recv hK.1 hP (ci := 0) (q0 := 0) rfl rfl)) rfl rfl hl.1 rfl (lv_room (Nat.le_of_ble_eq_true rfl)) dX5_writeRecipe_29 ⟨Nat.le_of_ble_eq_true rfl, Nat.le_of_ble_eq_true rfl⟩) ?_
    have b_4 := (show 0 ≤ m_of (ar 1) (t - 97) 0 ∧ m_of (ar 1) (t - 97) 0 < 2147483648 from (hB 1) _)
    have b_5 := lenI_0 (t :: [])
    refine n_cuv (va_runV (As := [iv (m_of (ar 1) (t - 97) 0)]) (rest := []) ⟨hx, hb, hml, hown, hts⟩ (mt_X5_writes l E o (us (us (us sc 7 0) 8 (c_none (ar 1) t)) 16 (lenI (t :: []))) (ua ar 6 (wR (t :: []) (ar 6))) (m_of (ar 1) (t - 97) 0) (t :: []) (ar 6) (by (try simp only [lenI]); first | omega | (split <;> omega) | (rw [if_neg (by omega)]; omega)) (by (try simp only [lenI]); first | omega | (split <;> omega) | (rw [if_neg (by omega)]; omega)) _) (cwV 1 hts (lw_V q2420 q2422 qs80 q113 q2423) rfl rfl rfl (by decide +kernel) ⟨Nat.le_of_ble_eq_true rfl, Nat.le_of_ble_eq_true rfl⟩) (UW_V hP hK (hD) (va_recv hK.1 hP (ci := 0) (q0 := 0) rfl rfl)) rfl rfl hl.1 rfl (lv_room (Nat.le_of_ble_eq_true rfl)) dX5_writeRecipe_32 ⟨Nat.le_of_ble_eq_true rfl, Nat.le_of_ble_eq_true rfl⟩) hD hS hA (fun H locs hP hD hS => ?_)
    have hP : va_P E.1 CL (MW E o (us (us (us sc 7 0) 8 (c_none (ar 1) t)) 16 (lenI ((m_of (ar 1) (t - 97) 0) :: (t :: [])))) (ua ar 6 (wR ((m_of (ar 1) (t - 97) 0) :: (t :: [])) (ar 6)))) H := hP
    have hD : va_D A (MW E o (us (us (us sc 7 0) 8 (c_none (ar 1) t)) 16 (lenI ((m_of (ar 1) (t - 97) 0) :: (t :: [])))) (ua ar 6 (wR ((m_of (ar 1) (t - 97) 0) :: (t :: [])) (ar 6)))) := hD
    have hBwb_6 : ∀ x, 0 ≤ wR ((m_of (ar 1) (t - 97) 0) :: (t :: [])) (ar 6) x ∧ wR ((m_of (ar 1) (t - 97) 0) :: (t :: [])) (ar 6) x < 2147483648 := wR_cb (v := m_of (ar 1) (t - 97) 0) (L := (t :: [])) hBwb_3 (by omega)
    refine lv_aload_n hx hb dX5_writeRecipe_35 rfl (lv_at hl 1 rfl) ?_
    refine lv_aload_n hx hb dX5_writeRecipe_36 rfl (lv_at hl 1 rfl) ?_
    refine lv_iload_n hx hb dX5_writeRecipe_37 rfl (lv_at hl 0 rfl) ?_
    refine lv_iconst (v := iI 1) hx hb dX5_writeRecipe_38 rfl ?_
    refine n_csi (x := m_of (ar 1) (t - 97) 1) (va_runV (As := [iv (t - 97), iv 1]) (rest := [.ref (o 0)]) ⟨hx, hb, hml, hown, hts⟩ (mt_X5_of l E o (us (us (us sc 7 0) 8 (c_none (ar 1) t)) 16 (lenI ((m_of (ar 1) (t - 97) 0) :: (t :: [])))) (ua ar 6 (wR ((m_of (ar 1) (t - 97) 0) :: (t :: [])) (ar 6))) (t - 97) 1 (by omega)) (cwV 2 hts (lw_V q2120 q2122 qs49 q113 q2123) rfl rfl rfl (by decide +kernel) ⟨Nat.le_of_ble_eq_true rfl, Nat.le_of_ble_eq_true rfl⟩) (PW_V hP hK (va_recv hK.1 hP (ci := 0) (q0 := 0) rfl rfl)) rfl rfl hl.1 rfl (lv_room (Nat.le_of_ble_eq_true rfl)) dX5_writeRecipe_39 ⟨Nat.le_of_ble_eq_true rfl, Nat.le_of_ble_eq_true rfl⟩) ?_
    have b_7 := (show 0 ≤ m_of (ar 1) (t - 97) 1 ∧ m_of (ar 1) (t - 97) 1 < 2147483648 from (hB 1) _)
    have b_8 := lenI_0 ((m_of (ar 1) (t - 97) 0) :: (t :: []))
    refine n_cuv (va_runV (As := [iv (m_of (ar 1) (t - 97) 1)]) (rest := []) ⟨hx, hb, hml, hown, hts⟩ (mt_X5_writesNumber l E 2 o (us (us (us sc 7 0) 8 (c_none (ar 1) t)) 16 (lenI ((m_of (ar 1) (t - 97) 0) :: (t :: [])))) (ua ar 6 (wR ((m_of (ar 1) (t - 97) 0) :: (t :: [])) (ar 6))) (m_of (ar 1) (t - 97) 1) ((m_of (ar 1) (t - 97) 0) :: (t :: [])) (ar 6) (by (try simp only [lenI]); first | omega | (split <;> omega) | (rw [if_neg (by omega)]; omega)) (by (try simp only [lenI]); first | omega | (split <;> omega) | (rw [if_neg (by omega)]; omega)) (by (try simp only [lenI]); first | omega | (split <;> omega) | (rw [if_neg (by omega)]; omega)) _) (cwV 1 hts (lw_V q2424 q2426 qs81 q113 q2427) rfl rfl rfl (by decide +kernel) ⟨Nat.le_of_ble_eq_true rfl, Nat.le_of_ble_eq_true rfl⟩) (UW_V hP hK (hD) (va_recv hK.1 hP (ci := 0) (q0 := 0) rfl rfl)) rfl rfl hl.1 rfl (lv_room (Nat.le_of_ble_eq_true rfl)) dX5_writeRecipe_42 ⟨Nat.le_of_ble_eq_true rfl, Nat.le_of_ble_eq_true rfl⟩) hD hS hA (fun H locs hP hD hS => ?_)
    have hP : va_P E.1 CL (MW E o (us (us (us sc 7 0) 8 (c_none (ar 1) t)) 16 (lenI (dgR (m_of (ar 1) (t - 97) 1) ((m_of (ar 1) (t - 97) 0) :: (t :: []))))) (ua ar 6 (wR (dgR (m_of (ar 1) (t - 97) 1) ((m_of (ar 1) (t - 97) 0) :: (t :: []))) (ar 6)))) H := hP
    have hD : va_D A (MW E o (us (us (us sc 7 0) 8 (c_none (ar 1) t)) 16 (lenI (dgR (m_of (ar 1) (t - 97) 1) ((m_of (ar 1) (t - 97) 0) :: (t :: []))))) (ua ar 6 (wR (dgR (m_of (ar 1) (t - 97) 1) ((m_of (ar 1) (t - 97) 0) :: (t :: []))) (ar 6)))) := hD
    have b_9 := dgR_len (m_of (ar 1) (t - 97) 1) ((m_of (ar 1) (t - 97) 0) :: (t :: []))
    (try simp only [lenI] at b_9)
    have hBwb_10 : ∀ x, 0 ≤ wR (dgR (m_of (ar 1) (t - 97) 1) ((m_of (ar 1) (t - 97) 0) :: (t :: []))) (ar 6) x ∧ wR (dgR (m_of (ar 1) (t - 97) 1) ((m_of (ar 1) (t - 97) 0) :: (t :: []))) (ar 6) x < 2147483648 := wR_db (v := m_of (ar 1) (t - 97) 1) (L := ((m_of (ar 1) (t - 97) 0) :: (t :: []))) hBwb_6 (by omega)
    refine lv_iconst (v := iI 0) hx hb dX5_writeRecipe_45 rfl ?_
    refine lv_istore_n (lv' := [(3, iv 0), (2, iv (t - 97)), (0, .ref (o 0)), (1, iv t)]) hx hb dX5_writeRecipe_46 rfl hl (by decide) rfl (fun ls hl => ?_)
    have l47 : ∀ (fu : Nat) (x3 : Int) (Lq : List Int), (0 ≤ x3 ∧ x3 ≤ m_of (ar 1) (t - 97) 2) → (Lq = itI (m_wn (ar 1) (t - 97)) x3 (dgR (m_of (ar 1) (t - 97) 1) (m_of (ar 1) (t - 97) 0 :: t :: []))) → (lenI Lq ≤ 4 + 3 * x3) → (∀ x, 0 ≤ wR Lq (ar 6) x ∧ wR Lq (ar 6) x < 2147483648) → (m_of (ar 1) (t - 97) 2 - x3 < (fu : Int)) → ∀ (H : Heap) (locs : List Loc), va_P E.1 CL (MW E o (us (us (us sc 7 0) 8 (c_none (ar 1) t)) 16 (lenI Lq)) (ua ar 6 (wR Lq (ar 6)))) H → va_D A (MW E o (us (us (us sc 7 0) 8 (c_none (ar 1) t)) 16 (lenI Lq)) (ua ar 6 (wR Lq (ar 6)))) → va_S A s.heap H locs → ∀ ls : Array Slot, lv_has ls 4 [(3, iv x3), (2, iv (t - 97)), (0, .ref (o 0)), (1, iv t)] → W p l e (headSpec (ws_ yX5_writeRecipe cX5_writeRecipe 4 (some .int)) { frames := 4, cells := 0, slots := 0, locals := 84 }).room s m ([.ref (o 0), iv t] : List Value).toArray below meth c H locs 0 0 (MQ below (UQi E (if 0 < c_none (ar 1) t then 0 else lenI (m_wrec (ar 1) t)) (MW E o (us (us (us sc 7 0) 8 (c_none (ar 1) t)) 16 (if 0 < c_none (ar 1) t then sc 16 else lenI (m_wrec (ar 1) t))) (ua ar 6 (if 0 < c_none (ar 1) t then ar 6 else wR (m_wrec (ar 1) t) (ar 6)))) A) ([.ref (o 0), iv t] : List Value).toArray s 0 0 A) (F0 m 47 ls []) := by
      intro fu
      induction fu with
      | zero =>
        intro x3 Lq il47_0 il47_1 il47_2 il47_3 hm
        exfalso; omega
      | succ fu ih =>
        intro x3 Lq il47_0 il47_1 il47_2 il47_3 hm H locs hP hD hS ls hl
        have ihl47 := ih
        have hL0 := lenI_0 Lq
        refine lv_iload_n hx hb dX5_writeRecipe_47 rfl (lv_at hl 0 rfl) ?_
        refine lv_aload_n hx hb dX5_writeRecipe_48 rfl (lv_at hl 2 rfl) ?_
        refine lv_iload_n hx hb dX5_writeRecipe_49 rfl (lv_at hl 1 rfl) ?_
        refine lv_iconst (v := iI 2) hx hb dX5_writeRecipe_50 rfl ?_
        refine n_csi (x := m_of (ar 1) (t - 97) 2) (va_runV (As := [iv (t - 97), iv 2]) (rest := [iv x3]) ⟨hx, hb, hml, hown, hts⟩ (mt_X5_of l E o (us (us (us sc 7 0) 8 (c_none (ar 1) t)) 16 (lenI Lq)) (ua ar 6 (wR Lq (ar 6))) (t - 97) 2 (by omega)) (cwV 2 hts (lw_V q2120 q2122 qs49 q113 q2123) rfl rfl rfl (by decide +kernel) ⟨Nat.le_of_ble_eq_true rfl, Nat.le_of_ble_eq_true rfl⟩) (PW_V hP hK (va_recv hK.1 hP (ci := 0) (q0 := 0) rfl rfl)) rfl rfl hl.1 rfl (lv_room (Nat.le_of_ble_eq_true rfl)) dX5_writeRecipe_51 ⟨Nat.le_of_ble_eq_true rfl, Nat.le_of_ble_eq_true rfl⟩) ?_
        have b_11 := (show 0 ≤ m_of (ar 1) (t - 97) 2 ∧ m_of (ar 1) (t - 97) 2 < 2147483648 from (hB 1) _)
        refine n_icmp_ge (tgt := 97) hx hb dX5_writeRecipe_54 (by decide) (by omega) (by omega) (fun c_12 => ?_) (fun c_12 => ?_)
        · refine lv_aload_n hx hb dX5_writeRecipe_97 rfl (lv_at hl 2 rfl) ?_
          refine lv_iload_n hx hb dX5_writeRecipe_98 rfl (lv_at hl 1 rfl) ?_
          refine lv_bipush (v := iI 6) hx hb dX5_writeRecipe_99 (by decide) ?_
          refine n_csi (x := m_of (ar 1) (t - 97) 6) (va_runV (As := [iv (t - 97), iv 6]) (rest := []) ⟨hx, hb, hml, hown, hts⟩ (mt_X5_of l E o (us (us (us sc 7 0) 8 (c_none (ar 1) t)) 16 (lenI Lq)) (ua ar 6 (wR Lq (ar 6))) (t - 97) 6 (by omega)) (cwV 2 hts (lw_V q2120 q2122 qs49 q113 q2123) rfl rfl rfl (by decide +kernel) ⟨Nat.le_of_ble_eq_true rfl, Nat.le_of_ble_eq_true rfl⟩) (PW_V hP hK (va_recv hK.1 hP (ci := 0) (q0 := 0) rfl rfl)) rfl rfl hl.1 rfl (lv_room (Nat.le_of_ble_eq_true rfl)) dX5_writeRecipe_101 ⟨Nat.le_of_ble_eq_true rfl, Nat.le_of_ble_eq_true rfl⟩) ?_
          have b_13 := (show 0 ≤ m_of (ar 1) (t - 97) 6 ∧ m_of (ar 1) (t - 97) 6 < 2147483648 from (hB 1) _)
          refine n_if_le (tgt := 129) hx hb dX5_writeRecipe_104 (by decide) (by omega) (fun c_14 => ?_) (fun c_14 => ?_)
          · have hx3 : x3 = m_of (ar 1) (t - 97) 2 := by omega
            have heq : m_wrec (ar 1) t = Lq := by
              rw [hx3] at il47_1
              unfold m_wrec
              first | (rw [if_pos (by omega), ← il47_1]; done) | (rw [if_neg (by omega), ← il47_1]; done)
            refine lv_aload_n hx hb dX5_writeRecipe_129 rfl (lv_at hl 2 rfl) ?_
            refine va_get (D := E.1) (ci := 0) (v := iv (lenI Lq)) (C := RX5) (T := TX5) (N := 23) hx hb hts in_X5 hown hK.1 hP 0 rfl rfl 16 (by decide) (hts _ q2045) (fun _ h9 => h9) rfl dX5_writeRecipe_130 ?_
            have hfin : lenI Lq = if 0 < c_none (ar 1) t then 0 else lenI (m_wrec (ar 1) t) := by
              rw [if_neg hnc, heq]
            have w_15 : lenI Lq = if 0 < c_none (ar 1) t then sc 16 else lenI (m_wrec (ar 1) t) := by
              first | (rw [if_neg hnc, heq]; done) | rfl
            rw [show (us (us (us sc 7 0) 8 (c_none (ar 1) t)) 16 (lenI Lq)) = (us (us (us sc 7 0) 8 (c_none (ar 1) t)) 16 (if 0 < c_none (ar 1) t then sc 16 else lenI (m_wrec (ar 1) t))) from congrArg (fun z0 : Int => (us (us (us sc 7 0) 8 (c_none (ar 1) t)) 16 z0)) w_15] at hP hD
            have w_16 : wR Lq (ar 6) = if 0 < c_none (ar 1) t then ar 6 else wR (m_wrec (ar 1) t) (ar 6) := by
              first | (rw [if_neg hnc, heq]; done) | rfl
            rw [show (ua ar 6 (wR Lq (ar 6))) = (ua ar 6 (if 0 < c_none (ar 1) t then ar 6 else wR (m_wrec (ar 1) t) (ar 6))) from congrArg (fun z0 : Int → Int => (ua ar 6 z0)) w_16] at hP hD
            exact W.iret (v := iI (lenI Lq)) hx hb hr (fun tt_ ht_ hW_ => ⟨⟨iI (lenI Lq), (), rfl, (congrArg iI hfin), by rw [ht_]; exact hP, hD⟩, hS.F ht_⟩) hS.2.2 dX5_writeRecipe_133
          · refine lv_aload_n hx hb dX5_writeRecipe_107 rfl (lv_at hl 2 rfl) ?_
            refine lv_bipush (v := iI 62) hx hb dX5_writeRecipe_108 (by decide) ?_
            have b_17 := lenI_0 Lq
            refine n_cuv (va_runV (As := [iv 62]) (rest := []) ⟨hx, hb, hml, hown, hts⟩ (mt_X5_writes l E o (us (us (us sc 7 0) 8 (c_none (ar 1) t)) 16 (lenI Lq)) (ua ar 6 (wR Lq (ar 6))) 62 Lq (ar 6) (by (try simp only [lenI]); first | omega | (split <;> omega) | (rw [if_neg (by omega)]; omega)) (by (try simp only [lenI]); first | omega | (split <;> omega) | (rw [if_neg (by omega)]; omega)) _) (cwV 1 hts (lw_V q2420 q2422 qs80 q113 q2423) rfl rfl rfl (by decide +kernel) ⟨Nat.le_of_ble_eq_true rfl, Nat.le_of_ble_eq_true rfl⟩) (UW_V hP hK (hD) (va_recv hK.1 hP (ci := 0) (q0 := 0) rfl rfl)) rfl rfl hl.1 rfl (lv_room (Nat.le_of_ble_eq_true rfl)) dX5_writeRecipe_110 ⟨Nat.le_of_ble_eq_true rfl, Nat.le_of_ble_eq_true rfl⟩) hD hS hA (fun H locs hP hD hS => ?_)
            have hP : va_P E.1 CL (MW E o (us (us (us sc 7 0) 8 (c_none (ar 1) t)) 16 (lenI (62 :: Lq))) (ua ar 6 (wR (62 :: Lq) (ar 6)))) H := hP
            have hD : va_D A (MW E o (us (us (us sc 7 0) 8 (c_none (ar 1) t)) 16 (lenI (62 :: Lq))) (ua ar 6 (wR (62 :: Lq) (ar 6)))) := hD
            have hBwb_18 : ∀ x, 0 ≤ wR (62 :: Lq) (ar 6) x ∧ wR (62 :: Lq) (ar 6) x < 2147483648 := wR_cb (v := 62) (L := Lq) il47_3 (by omega)
            refine lv_aload_n hx hb dX5_writeRecipe_113 rfl (lv_at hl 2 rfl) ?_
            refine lv_aload_n hx hb dX5_writeRecipe_114 rfl (lv_at hl 2 rfl) ?_
            refine lv_iload_n hx hb dX5_writeRecipe_115 rfl (lv_at hl 1 rfl) ?_
            refine lv_bipush (v := iI 6) hx hb dX5_writeRecipe_116 (by decide) ?_
            refine n_csi (x := m_of (ar 1) (t - 97) 6) (va_runV (As := [iv (t - 97), iv 6]) (rest := [.ref (o 0)]) ⟨hx, hb, hml, hown, hts⟩ (mt_X5_of l E o (us (us (us sc 7 0) 8 (c_none (ar 1) t)) 16 (lenI (62 :: Lq))) (ua ar 6 (wR (62 :: Lq) (ar 6))) (t - 97) 6 (by omega)) (cwV 2 hts (lw_V q2120 q2122 qs49 q113 q2123) rfl rfl rfl (by decide +kernel) ⟨Nat.le_of_ble_eq_true rfl, Nat.le_of_ble_eq_true rfl⟩) (PW_V hP hK (va_recv hK.1 hP (ci := 0) (q0 := 0) rfl rfl)) rfl rfl hl.1 rfl (lv_room (Nat.le_of_ble_eq_true rfl)) dX5_writeRecipe_118 ⟨Nat.le_of_ble_eq_true rfl, Nat.le_of_ble_eq_true rfl⟩) ?_
            refine lv_iconst (v := iI 1) hx hb dX5_writeRecipe_121 rfl ?_
            refine n_isub hx hb dX5_writeRecipe_122 ?_
            refine n_csi (x := 97 + ((m_of (ar 1) (t - 97) 6) - 1)) (va_runS (As := [iv ((m_of (ar 1) (t - 97) 6) - 1)]) (rest := [.ref (o 0)]) ⟨hx, hb, hml, hown, hts⟩ (mt_X5_letter l E o (us (us (us sc 7 0) 8 (c_none (ar 1) t)) 16 (lenI (62 :: Lq))) (ua ar 6 (wR (62 :: Lq) (ar 6))) ((m_of (ar 1) (t - 97) 6) - 1) (by omega)) (va_cwS 1 hts (lw_S q2223 q2224 q113 q2225) rfl rfl rfl (by decide +kernel) ⟨Nat.le_of_ble_eq_true rfl, Nat.le_of_ble_eq_true rfl⟩) (PW_S hP hK) rfl rfl hl.1 rfl (lv_room (Nat.le_of_ble_eq_true rfl)) dX5_writeRecipe_123 ⟨Nat.le_of_ble_eq_true rfl, Nat.le_of_ble_eq_true rfl⟩) ?_
            have b_19 := lenI_0 (62 :: Lq)
            refine n_cuv (va_runV (As := [iv (97 + ((m_of (ar 1) (t - 97) 6) - 1))]) (rest := []) ⟨hx, hb, hml, hown, hts⟩ (mt_X5_writes l E o (us (us (us sc 7 0) 8 (c_none (ar 1) t)) 16 (lenI (62 :: Lq))) (ua ar 6 (wR (62 :: Lq) (ar 6))) (97 + ((m_of (ar 1) (t - 97) 6) - 1)) (62 :: Lq) (ar 6) (by (try simp only [lenI]); first | omega | (split <;> omega) | (rw [if_neg (by omega)]; omega)) (by (try simp only [lenI]); first | omega | (split <;> omega) | (rw [if_neg (by omega)]; omega)) _) (cwV 1 hts (lw_V q2420 q2422 qs80 q113 q2423) rfl rfl rfl (by decide +kernel) ⟨Nat.le_of_ble_eq_true rfl, Nat.le_of_ble_eq_true rfl⟩) (UW_V hP hK (hD) (va_recv hK.1 hP (ci := 0) (q0 := 0) rfl rfl)) rfl rfl hl.1 rfl (lv_room (Nat.le_of_ble_eq_true rfl)) dX5_writeRecipe_126 ⟨Nat.le_of_ble_eq_true rfl, Nat.le_of_ble_eq_true rfl⟩) hD hS hA (fun H locs hP hD hS => ?_)
            have hP : va_P E.1 CL (MW E o (us (us (us sc 7 0) 8 (c_none (ar 1) t)) 16 (lenI ((97 + ((m_of (ar 1) (t - 97) 6) - 1)) :: (62 :: Lq)))) (ua ar 6 (wR ((97 + ((m_of (ar 1) (t - 97) 6) - 1)) :: (62 :: Lq)) (ar 6)))) H := hP
            have hD : va_D A (MW E o (us (us (us sc 7 0) 8 (c_none (ar 1) t)) 16 (lenI ((97 + ((m_of (ar 1) (t - 97) 6) - 1)) :: (62 :: Lq)))) (ua ar 6 (wR ((97 + ((m_of (ar 1) (t - 97) 6) - 1)) :: (62 :: Lq)) (ar 6)))) := hD
            have hBwb_20 : ∀ x, 0 ≤ wR ((97 + ((m_of (ar 1) (t - 97) 6) - 1)) :: (62 :: Lq)) (ar 6) x ∧ wR ((97 + ((m_of (ar 1) (t - 97) 6) - 1)) :: (62 :: Lq)) (ar 6) x < 2147483648 := wR_cb (v := 97 + ((m_of (ar 1) (t - 97) 6) - 1)) (L := (62 :: Lq)) hBwb_18 (by omega)
            have hx3 : x3 = m_of (ar 1) (t - 97) 2 := by omega
            have heq : m_wrec (ar 1) t = ((97 + ((m_of (ar 1) (t - 97) 6) - 1)) :: (62 :: Lq)) := by
              rw [hx3] at il47_1
              unfold m_wrec
              first | (rw [if_pos (by omega), ← il47_1]; done) | (rw [if_neg (by omega), ← il47_1]; done)
            refine lv_aload_n hx hb dX5_writeRecipe_129 rfl (lv_at hl 2 rfl) ?_
            refine va_get (D := E.1) (ci := 0) (v := iv (lenI ((97 + ((m_of (ar 1) (t - 97) 6) - 1)) :: (62 :: Lq)))) (C := RX5) (T := TX5) (N := 23) hx hb hts in_X5 hown hK.1 hP 0 rfl rfl 16 (by decide) (hts _ q2045) (fun _ h9 => h9) rfl dX5_writeRecipe_130 ?_
            have hfin : lenI ((97 + ((m_of (ar 1) (t - 97) 6) - 1)) :: (62 :: Lq)) = if 0 < c_none (ar 1) t then 0 else lenI (m_wrec (ar 1) t) := by
              rw [if_neg hnc, heq]
            have w_21 : lenI ((97 + ((m_of (ar 1) (t - 97) 6) - 1)) :: (62 :: Lq)) = if 0 < c_none (ar 1) t then sc 16 else lenI (m_wrec (ar 1) t) := by
              first | (rw [if_neg hnc, heq]; done) | rfl
            rw [show (us (us (us sc 7 0) 8 (c_none (ar 1) t)) 16 (lenI ((97 + ((m_of (ar 1) (t - 97) 6) - 1)) :: (62 :: Lq)))) = (us (us (us sc 7 0) 8 (c_none (ar 1) t)) 16 (if 0 < c_none (ar 1) t then sc 16 else lenI (m_wrec (ar 1) t))) from congrArg (fun z0 : Int => (us (us (us sc 7 0) 8 (c_none (ar 1) t)) 16 z0)) w_21] at hP hD
            have w_22 : wR ((97 + ((m_of (ar 1) (t - 97) 6) - 1)) :: (62 :: Lq)) (ar 6) = if 0 < c_none (ar 1) t then ar 6 else wR (m_wrec (ar 1) t) (ar 6) := by
              first | (rw [if_neg hnc, heq]; done) | rfl
            rw [show (ua ar 6 (wR ((97 + ((m_of (ar 1) (t - 97) 6) - 1)) :: (62 :: Lq)) (ar 6))) = (ua ar 6 (if 0 < c_none (ar 1) t then ar 6 else wR (m_wrec (ar 1) t) (ar 6))) from congrArg (fun z0 : Int → Int => (ua ar 6 z0)) w_22] at hP hD
            exact W.iret (v := iI (lenI ((97 + ((m_of (ar 1) (t - 97) 6) - 1)) :: (62 :: Lq)))) hx hb hr (fun tt_ ht_ hW_ => ⟨⟨iI (lenI ((97 + ((m_of (ar 1) (t - 97) 6) - 1)) :: (62 :: Lq))), (), rfl, (congrArg iI hfin), by rw [ht_]; exact hP, hD⟩, hS.F ht_⟩) hS.2.2 dX5_writeRecipe_133
        · refine lv_aload_n hx hb dX5_writeRecipe_57 rfl (lv_at hl 2 rfl) ?_
          refine lv_bipush (v := iI 32) hx hb dX5_writeRecipe_58 (by decide) ?_
          have b_23 := lenI_0 Lq
          refine n_cuv (va_runV (As := [iv 32]) (rest := []) ⟨hx, hb, hml, hown, hts⟩ (mt_X5_writes l E o (us (us (us sc 7 0) 8 (c_none (ar 1) t)) 16 (lenI Lq)) (ua ar 6 (wR Lq (ar 6))) 32 Lq (ar 6) (by (try simp only [lenI]); first | omega | (split <;> omega) | (rw [if_neg (by omega)]; omega)) (by (try simp only [lenI]); first | omega | (split <;> omega) | (rw [if_neg (by omega)]; omega)) _) (cwV 1 hts (lw_V q2420 q2422 qs80 q113 q2423) rfl rfl rfl (by decide +kernel) ⟨Nat.le_of_ble_eq_true rfl, Nat.le_of_ble_eq_true rfl⟩) (UW_V hP hK (hD) (va_recv hK.1 hP (ci := 0) (q0 := 0) rfl rfl)) rfl rfl hl.1 rfl (lv_room (Nat.le_of_ble_eq_true rfl)) dX5_writeRecipe_60 ⟨Nat.le_of_ble_eq_true rfl, Nat.le_of_ble_eq_true rfl⟩) hD hS hA (fun H locs hP hD hS => ?_)
          have hP : va_P E.1 CL (MW E o (us (us (us sc 7 0) 8 (c_none (ar 1) t)) 16 (lenI (32 :: Lq))) (ua ar 6 (wR (32 :: Lq) (ar 6)))) H := hP
          have hD : va_D A (MW E o (us (us (us sc 7 0) 8 (c_none (ar 1) t)) 16 (lenI (32 :: Lq))) (ua ar 6 (wR (32 :: Lq) (ar 6)))) := hD
          have hBwb_24 : ∀ x, 0 ≤ wR (32 :: Lq) (ar 6) x ∧ wR (32 :: Lq) (ar 6) x < 2147483648 := wR_cb (v := 32) (L := Lq) il47_3 (by omega)
          refine lv_aload_n hx hb dX5_writeRecipe_63 rfl (lv_at hl 2 rfl) ?_
          refine lv_iload_n hx hb dX5_writeRecipe_64 rfl (lv_at hl 1 rfl) ?_
          refine lv_iload_n hx hb dX5_writeRecipe_65 rfl (lv_at hl 0 rfl) ?_
          refine n_csi (x := b2 (m_dir (ar 1) (t - 97) x3)) (va_runV (As := [iv (t - 97), iv x3]) (rest := []) ⟨hx, hb, hml, hown, hts⟩ (mt_X5_isDirect l E o (us (us (us sc 7 0) 8 (c_none (ar 1) t)) 16 (lenI (32 :: Lq))) (ua ar 6 (wR (32 :: Lq) (ar 6))) (t - 97) x3 (ua_b 6 hB hBwb_24) (by omega) (by omega)) (cwV 2 hts (lw_V q2187 q2189 qs63 q113 q2190) rfl rfl rfl (by decide +kernel) ⟨Nat.le_of_ble_eq_true rfl, Nat.le_of_ble_eq_true rfl⟩) (PW_V hP hK (va_recv hK.1 hP (ci := 0) (q0 := 0) rfl rfl)) rfl rfl hl.1 rfl (lv_room (Nat.le_of_ble_eq_true rfl)) dX5_writeRecipe_66 ⟨Nat.le_of_ble_eq_true rfl, Nat.le_of_ble_eq_true rfl⟩) ?_
          refine n_ifb_ne (tgt := 78) hx hb dX5_writeRecipe_69 (by decide) (fun c_25 => ?_) (fun c_25 => ?_)
          · refine lv_aload_n hx hb dX5_writeRecipe_78 rfl (lv_at hl 2 rfl) ?_
            refine lv_aload_n hx hb dX5_writeRecipe_79 rfl (lv_at hl 2 rfl) ?_
            refine lv_iload_n hx hb dX5_writeRecipe_80 rfl (lv_at hl 1 rfl) ?_
            refine lv_iload_n hx hb dX5_writeRecipe_81 rfl (lv_at hl 0 rfl) ?_
            refine n_csi (x := m_need (ar 1) (t - 97) x3) (va_runV (As := [iv (t - 97), iv x3]) (rest := [.ref (o 0)]) ⟨hx, hb, hml, hown, hts⟩ (mt_X5_need l E o (us (us (us sc 7 0) 8 (c_none (ar 1) t)) 16 (lenI (32 :: Lq))) (ua ar 6 (wR (32 :: Lq) (ar 6))) (t - 97) x3 (ua_b 6 hB hBwb_24) (by omega) (by omega)) (cwV 2 hts (lw_V q2167 q2169 qs58 q113 q2170) rfl rfl rfl (by decide +kernel) ⟨Nat.le_of_ble_eq_true rfl, Nat.le_of_ble_eq_true rfl⟩) (PW_V hP hK (va_recv hK.1 hP (ci := 0) (q0 := 0) rfl rfl)) rfl rfl hl.1 rfl (lv_room (Nat.le_of_ble_eq_true rfl)) dX5_writeRecipe_82 ⟨Nat.le_of_ble_eq_true rfl, Nat.le_of_ble_eq_true rfl⟩) ?_
            have b_26 := (show 0 ≤ m_need (ar 1) (t - 97) x3 ∧ m_need (ar 1) (t - 97) x3 < 8 from ⟨Int.emod_nonneg _ (by decide), Int.emod_lt_of_pos _ (by decide)⟩)
            refine n_csi (x := 97 + (m_need (ar 1) (t - 97) x3)) (va_runS (As := [iv (m_need (ar 1) (t - 97) x3)]) (rest := [.ref (o 0)]) ⟨hx, hb, hml, hown, hts⟩ (mt_X5_letter l E o (us (us (us sc 7 0) 8 (c_none (ar 1) t)) 16 (lenI (32 :: Lq))) (ua ar 6 (wR (32 :: Lq) (ar 6))) (m_need (ar 1) (t - 97) x3) (by omega)) (va_cwS 1 hts (lw_S q2223 q2224 q113 q2225) rfl rfl rfl (by decide +kernel) ⟨Nat.le_of_ble_eq_true rfl, Nat.le_of_ble_eq_true rfl⟩) (PW_S hP hK) rfl rfl hl.1 rfl (lv_room (Nat.le_of_ble_eq_true rfl)) dX5_writeRecipe_85 ⟨Nat.le_of_ble_eq_true rfl, Nat.le_of_ble_eq_true rfl⟩) ?_
            have b_27 := lenI_0 (32 :: Lq)
            refine n_cuv (va_runV (As := [iv (97 + (m_need (ar 1) (t - 97) x3))]) (rest := []) ⟨hx, hb, hml, hown, hts⟩ (mt_X5_writes l E o (us (us (us sc 7 0) 8 (c_none (ar 1) t)) 16 (lenI (32 :: Lq))) (ua ar 6 (wR (32 :: Lq) (ar 6))) (97 + (m_need (ar 1) (t - 97) x3)) (32 :: Lq) (ar 6) (by (try simp only [lenI]); first | omega | (split <;> omega) | (rw [if_neg (by omega)]; omega)) (by (try simp only [lenI]); first | omega | (split <;> omega) | (rw [if_neg (by omega)]; omega)) _) (cwV 1 hts (lw_V q2420 q2422 qs80 q113 q2423) rfl rfl rfl (by decide +kernel) ⟨Nat.le_of_ble_eq_true rfl, Nat.le_of_ble_eq_true rfl⟩) (UW_V hP hK (hD) (va_recv hK.1 hP (ci := 0) (q0 := 0) rfl rfl)) rfl rfl hl.1 rfl (lv_room (Nat.le_of_ble_eq_true rfl)) dX5_writeRecipe_88 ⟨Nat.le_of_ble_eq_true rfl, Nat.le_of_ble_eq_true rfl⟩) hD hS hA (fun H locs hP hD hS => ?_)
            have hP : va_P E.1 CL (MW E o (us (us (us sc 7 0) 8 (c_none (ar 1) t)) 16 (lenI ((97 + (m_need (ar 1) (t - 97) x3)) :: (32 :: Lq)))) (ua ar 6 (wR ((97 + (m_need (ar 1) (t - 97) x3)) :: (32 :: Lq)) (ar 6)))) H := hP
            have hD : va_D A (MW E o (us (us (us sc 7 0) 8 (c_none (ar 1) t)) 16 (lenI ((97 + (m_need (ar 1) (t - 97) x3)) :: (32 :: Lq)))) (ua ar 6 (wR ((97 + (m_need (ar 1) (t - 97) x3)) :: (32 :: Lq)) (ar 6)))) := hD
            have hBwb_28 : ∀ x, 0 ≤ wR ((97 + (m_need (ar 1) (t - 97) x3)) :: (32 :: Lq)) (ar 6) x ∧ wR ((97 + (m_need (ar 1) (t - 97) x3)) :: (32 :: Lq)) (ar 6) x < 2147483648 := wR_cb (v := 97 + (m_need (ar 1) (t - 97) x3)) (L := (32 :: Lq)) hBwb_24 (by omega)
            refine lv_iinc (v := iI (x3 + 1)) (lv' := [(3, iv (x3 + 1)), (2, iv (t - 97)), (0, .ref (o 0)), (1, iv t)]) hx hb dX5_writeRecipe_91 hl (k := 0) rfl (iI_add _ _) (by decide) rfl (fun ls hl => ?_)
            refine lv_goto (tgt := 47) hx hb dX5_writeRecipe_94 (by decide) ?_
            exact ihl47 (x3 + 1) ((97 + (m_need (ar 1) (t - 97) x3)) :: (32 :: Lq)) (by first | omega | rfl) (by first | exact m_wn_s (by omega) il47_1 (if_pos (by assumption)) | exact m_wn_s (by omega) il47_1 (if_neg (by simp [*]))) (by (simp only [lenI]); omega) (by exact hBwb_28) (by omega) H locs hP hD hS ls (lv_sub hl [0, 1, 2, 3] rfl)
          · refine lv_aload_n hx hb dX5_writeRecipe_72 rfl (lv_at hl 2 rfl) ?_
            refine lv_bipush (v := iI 63) hx hb dX5_writeRecipe_73 (by decide) ?_
            have b_29 := lenI_0 (32 :: Lq)
            refine n_cuv (va_runV (As := [iv 63]) (rest := []) ⟨hx, hb, hml, hown, hts⟩ (mt_X5_writes l E o (us (us (us sc 7 0) 8 (c_none (ar 1) t)) 16 (lenI (32 :: Lq))) (ua ar 6 (wR (32 :: Lq) (ar 6))) 63 (32 :: Lq) (ar 6) (by (try simp only [lenI]); first | omega | (split <;> omega) | (rw [if_neg (by omega)]; omega)) (by (try simp only [lenI]); first | omega | (split <;> omega) | (rw [if_neg (by omega)]; omega)) _) (cwV 1 hts (lw_V q2420 q2422 qs80 q113 q2423) rfl rfl rfl (by decide +kernel) ⟨Nat.le_of_ble_eq_true rfl, Nat.le_of_ble_eq_true rfl⟩) (UW_V hP hK (hD) (va_recv hK.1 hP (ci := 0) (q0 := 0) rfl rfl)) rfl rfl hl.1 rfl (lv_room (Nat.le_of_ble_eq_true rfl)) dX5_writeRecipe_75 ⟨Nat.le_of_ble_eq_true rfl, Nat.le_of_ble_eq_true rfl⟩) hD hS hA (fun H locs hP hD hS => ?_)
            have hP : va_P E.1 CL (MW E o (us (us (us sc 7 0) 8 (c_none (ar 1) t)) 16 (lenI (63 :: (32 :: Lq)))) (ua ar 6 (wR (63 :: (32 :: Lq)) (ar 6)))) H := hP
            have hD : va_D A (MW E o (us (us (us sc 7 0) 8 (c_none (ar 1) t)) 16 (lenI (63 :: (32 :: Lq)))) (ua ar 6 (wR (63 :: (32 :: Lq)) (ar 6)))) := hD
            have hBwb_30 : ∀ x, 0 ≤ wR (63 :: (32 :: Lq)) (ar 6) x ∧ wR (63 :: (32 :: Lq)) (ar 6) x < 2147483648 := wR_cb (v := 63) (L := (32 :: Lq)) hBwb_24 (by omega)
            refine lv_aload_n hx hb dX5_writeRecipe_78 rfl (lv_at hl 2 rfl) ?_
            refine lv_aload_n hx hb dX5_writeRecipe_79 rfl (lv_at hl 2 rfl) ?_
            refine lv_iload_n hx hb dX5_writeRecipe_80 rfl (lv_at hl 1 rfl) ?_
            refine lv_iload_n hx hb dX5_writeRecipe_81 rfl (lv_at hl 0 rfl) ?_
            refine n_csi (x := m_need (ar 1) (t - 97) x3) (va_runV (As := [iv (t - 97), iv x3]) (rest := [.ref (o 0)]) ⟨hx, hb, hml, hown, hts⟩ (mt_X5_need l E o (us (us (us sc 7 0) 8 (c_none (ar 1) t)) 16 (lenI (63 :: (32 :: Lq)))) (ua ar 6 (wR (63 :: (32 :: Lq)) (ar 6))) (t - 97) x3 (ua_b 6 hB hBwb_30) (by omega) (by omega)) (cwV 2 hts (lw_V q2167 q2169 qs58 q113 q2170) rfl rfl rfl (by decide +kernel) ⟨Nat.le_of_ble_eq_true rfl, Nat.le_of_ble_eq_true rfl⟩) (PW_V hP hK (va_recv hK.1 hP (ci := 0) (q0 := 0) rfl rfl)) rfl rfl hl.1 rfl (lv_room (Nat.le_of_ble_eq_true rfl)) dX5_writeRecipe_82 ⟨Nat.le_of_ble_eq_true rfl, Nat.le_of_ble_eq_true rfl⟩) ?_
            have b_31 := (show 0 ≤ m_need (ar 1) (t - 97) x3 ∧ m_need (ar 1) (t - 97) x3 < 8 from ⟨Int.emod_nonneg _ (by decide), Int.emod_lt_of_pos _ (by decide)⟩)
            refine n_csi (x := 97 + (m_need (ar 1) (t - 97) x3)) (va_runS (As := [iv (m_need (ar 1) (t - 97) x3)]) (rest := [.ref (o 0)]) ⟨hx, hb, hml, hown, hts⟩ (mt_X5_letter l E o (us (us (us sc 7 0) 8 (c_none (ar 1) t)) 16 (lenI (63 :: (32 :: Lq)))) (ua ar 6 (wR (63 :: (32 :: Lq)) (ar 6))) (m_need (ar 1) (t - 97) x3) (by omega)) (va_cwS 1 hts (lw_S q2223 q2224 q113 q2225) rfl rfl rfl (by decide +kernel) ⟨Nat.le_of_ble_eq_true rfl, Nat.le_of_ble_eq_true rfl⟩) (PW_S hP hK) rfl rfl hl.1 rfl (lv_room (Nat.le_of_ble_eq_true rfl)) dX5_writeRecipe_85 ⟨Nat.le_of_ble_eq_true rfl, Nat.le_of_ble_eq_true rfl⟩) ?_
            have b_32 := lenI_0 (63 :: (32 :: Lq))
            refine n_cuv (va_runV (As := [iv (97 + (m_need (ar 1) (t - 97) x3))]) (rest := []) ⟨hx, hb, hml, hown, hts⟩ (mt_X5_writes l E o (us (us (us sc 7 0) 8 (c_none (ar 1) t)) 16 (lenI (63 :: (32 :: Lq)))) (ua ar 6 (wR (63 :: (32 :: Lq)) (ar 6))) (97 + (m_need (ar 1) (t - 97) x3)) (63 :: (32 :: Lq)) (ar 6) (by (try simp only [lenI]); first | omega | (split <;> omega) | (rw [if_neg (by omega)]; omega)) (by (try simp only [lenI]); first | omega | (split <;> omega) | (rw [if_neg (by omega)]; omega)) _) (cwV 1 hts (lw_V q2420 q2422 qs80 q113 q2423) rfl rfl rfl (by decide +kernel) ⟨Nat.le_of_ble_eq_true rfl, Nat.le_of_ble_eq_true rfl⟩) (UW_V hP hK (hD) (va_recv hK.1 hP (ci := 0) (q0 := 0) rfl rfl)) rfl rfl hl.1 rfl (lv_room (Nat.le_of_ble_eq_true rfl)) dX5_writeRecipe_88 ⟨Nat.le_of_ble_eq_true rfl, Nat.le_of_ble_eq_true rfl⟩) hD hS hA (fun H locs hP hD hS => ?_)
            have hP : va_P E.1 CL (MW E o (us (us (us sc 7 0) 8 (c_none (ar 1) t)) 16 (lenI ((97 + (m_need (ar 1) (t - 97) x3)) :: (63 :: (32 :: Lq))))) (ua ar 6 (wR ((97 + (m_need (ar 1) (t - 97) x3)) :: (63 :: (32 :: Lq))) (ar 6)))) H := hP
            have hD : va_D A (MW E o (us (us (us sc 7 0) 8 (c_none (ar 1) t)) 16 (lenI ((97 + (m_need (ar 1) (t - 97) x3)) :: (63 :: (32 :: Lq))))) (ua ar 6 (wR ((97 + (m_need (ar 1) (t - 97) x3)) :: (63 :: (32 :: Lq))) (ar 6)))) := hD
            have hBwb_33 : ∀ x, 0 ≤ wR ((97 + (m_need (ar 1) (t - 97) x3)) :: (63 :: (32 :: Lq))) (ar 6) x ∧ wR ((97 + (m_need (ar 1) (t - 97) x3)) :: (63 :: (32 :: Lq))) (ar 6) x < 2147483648 := wR_cb (v := 97 + (m_need (ar 1) (t - 97) x3)) (L := (63 :: (32 :: Lq))) hBwb_30 (by omega)
            refine lv_iinc (v := iI (x3 + 1)) (lv' := [(3, iv (x3 + 1)), (2, iv (t - 97)), (0, .ref (o 0)), (1, iv t)]) hx hb dX5_writeRecipe_91 hl (k := 0) rfl (iI_add _ _) (by decide) rfl (fun ls hl => ?_)
            refine lv_goto (tgt := 47) hx hb dX5_writeRecipe_94 (by decide) ?_
            exact ihl47 (x3 + 1) ((97 + (m_need (ar 1) (t - 97) x3)) :: (63 :: (32 :: Lq))) (by first | omega | rfl) (by first | exact m_wn_s (by omega) il47_1 (if_pos (by assumption)) | exact m_wn_s (by omega) il47_1 (if_neg (by simp [*]))) (by (simp only [lenI]); omega) (by exact hBwb_33) (by omega) H locs hP hD hS ls (lv_sub hl [0, 1, 2, 3] rfl)
    exact l47 4 0 (dgR (m_of (ar 1) (t - 97) 1) ((m_of (ar 1) (t - 97) 0) :: (t :: []))) (by first | omega | rfl | trivial) (by rfl) (by (simp only [lenI] at *); omega) (by exact hBwb_10) (by omega) H locs hP hD hS ls hl
  · refine lv_iconst (v := iI 0) hx hb dX5_writeRecipe_8 rfl ?_
    have hfin : 0 = if 0 < c_none (ar 1) t then 0 else lenI (m_wrec (ar 1) t) := by
      first | exact (if_pos (by assumption)).symm | exact (if_neg (by assumption)).symm
    have hP : va_P E.1 CL (MW E o (us (us (us sc 7 0) 8 (c_none (ar 1) t)) 16 (sc 16)) ar) H := hP
    have hD : va_D A (MW E o (us (us (us sc 7 0) 8 (c_none (ar 1) t)) 16 (sc 16)) ar) := hD
    have w_34 : sc 16 = if 0 < c_none (ar 1) t then sc 16 else lenI (m_wrec (ar 1) t) := by
      first | exact (if_pos (by assumption)).symm | exact (if_neg (by assumption)).symm
    rw [show (us (us (us sc 7 0) 8 (c_none (ar 1) t)) 16 (sc 16)) = (us (us (us sc 7 0) 8 (c_none (ar 1) t)) 16 (if 0 < c_none (ar 1) t then sc 16 else lenI (m_wrec (ar 1) t))) from congrArg (fun z0 : Int => (us (us (us sc 7 0) 8 (c_none (ar 1) t)) 16 z0)) w_34] at hP hD
    have hP : va_P E.1 CL (MW E o (us (us (us sc 7 0) 8 (c_none (ar 1) t)) 16 (if 0 < c_none (ar 1) t then sc 16 else lenI (m_wrec (ar 1) t))) (ua ar 6 (ar 6))) H := hP
    have hD : va_D A (MW E o (us (us (us sc 7 0) 8 (c_none (ar 1) t)) 16 (if 0 < c_none (ar 1) t then sc 16 else lenI (m_wrec (ar 1) t))) (ua ar 6 (ar 6))) := hD
    have w_35 : ar 6 = if 0 < c_none (ar 1) t then ar 6 else wR (m_wrec (ar 1) t) (ar 6) := by
      first | exact (if_pos (by assumption)).symm | exact (if_neg (by assumption)).symm
    rw [show (ua ar 6 (ar 6)) = (ua ar 6 (if 0 < c_none (ar 1) t then ar 6 else wR (m_wrec (ar 1) t) (ar 6))) from congrArg (fun z0 : Int → Int => (ua ar 6 z0)) w_35] at hP hD
    exact W.iret (v := iI 0) hx hb hr (fun tt_ ht_ hW_ => ⟨⟨iI 0, (), rfl, (congrArg iI hfin), by rw [ht_]; exact hP, hD⟩, hS.F ht_⟩) hS.2.2 dX5_writeRecipe_9
set_option maxHeartbeats 4000000 in
set_option maxRecDepth 100000 in
theorem mt_X5_writeObject (l : Launch) (E : EE) (o : Nat → Nat) (sc : Nat → Int) (ar : Nat → Int → Int) (k : Int) (hB : ∀ k x, 0 ≤ ar k x ∧ ar k x < 2147483648) (h : -2147483648 ≤ k ∧ k < 2147483648) (how : OW (ar 1)) (sz : Nat) : Met l yX5_writeObject (ws_ yX5_writeObject cX5_writeObject 3 (some .int)) { frames := 4, cells := 0, slots := 0, locals := 84 } (va_Pc [.ref (o 0), iv k] (UW E (MW E o sc ar) sz)) (UQi E (if 0 < c_obj (ar 1) k then 0 else lenI (m_wobj (ar 1) k)) (MW E o (us (us (us sc 7 0) 8 (c_obj (ar 1) k)) 16 (if 0 < c_obj (ar 1) k then sc 16 else lenI (m_wobj (ar 1) k))) (ua ar 6 (if 0 < c_obj (ar 1) k then ar 6 else wR (m_wobj (ar 1) k) (ar 6)))) (va_A (MW E o sc ar) sz)) 0 0 (va_A (MW E o sc ar) sz) := by
  refine Met.ofW (cc := cX5_writeObject) (maxL := 3) (ret := (some .int)) (by decide) rfl ?_
  intro p e s m args below meth c s₁ B hml hv
  obtain ⟨rfl, hsz, hP, hK, hD0⟩ := hv
  have hx := B.exec
  have hb := B.bytes
  have hr := B.returns
  have hts := atoms_spec (ws := (ws_ yX5_writeObject cX5_writeObject 3 (some .int))) B.pre
  have hts : ∀ w ∈ lw_all, w.before _ s = true := fun w h => hts w (List.mem_cons_of_mem _ h)
  have hown : s.vm.findClass RX5 = some m.cls := findClass_of_methodNamed B.named
  have hlocks := B.notSynchronized
  subst hsz
  have hD := hD0.self (sz := s.heap.size)
  generalize hAe : va_A (MW E o sc ar) s.heap.size = A at hD ⊢
  have hA : ∀ q : Nat, s.heap.size ≤ q → A q := fun q h => by rw [← hAe]; exact Or.inr h
  have hS : va_S A s.heap s.heap [] := va_S.rf
  have hl := lv_entry ([.ref (o 0), iv k]) (n := 3) (Nat.le_of_ble_eq_true rfl)
  rw [lg_entry_eq]
  generalize (lg_sl ([.ref (o 0), iv k]) ++ List.replicate (3 - (lg_sl ([.ref (o 0), iv k])).length) Slot.unset).toArray = ls at hl ⊢
  have hl : lv_has ls 3 [(0, .ref (o 0)), (1, iv k)] := hl
  have ho1 := how.1
  have ho2 := how.2.1
  refine lv_aload_n hx hb dX5_writeObject_0 rfl (lv_at hl 0 rfl) ?_
  have j_1 : W p l e (headSpec (ws_ yX5_writeObject cX5_writeObject 3 (some .int)) { frames := 4, cells := 0, slots := 0, locals := 84 }).room s m ([.ref (o 0), iv k] : List Value).toArray below meth c s.heap [] 0 0 (MQ below (UQi E (if 0 < c_obj (ar 1) k then 0 else lenI (m_wobj (ar 1) k)) (MW E o (us (us (us sc 7 0) 8 (c_obj (ar 1) k)) 16 (if 0 < c_obj (ar 1) k then sc 16 else lenI (m_wobj (ar 1) k))) (ua ar 6 (if 0 < c_obj (ar 1) k then ar 6 else wR (m_wobj (ar 1) k) (ar 6)))) A) ([.ref (o 0), iv k] : List Value).toArray s 0 0 A) (F0 m 14 ls [iv (c_obj (ar 1) k), .ref (o 0)]) := by
    have b_2 := c_obj_r (ar 1) k
    refine n_cui (x := b2 (decide (0 < (c_obj (ar 1) k)))) (va_runV (As := [iv (c_obj (ar 1) k)]) (rest := []) ⟨hx, hb, hml, hown, hts⟩ (mt_X5_fails l E o sc ar (c_obj (ar 1) k) (by omega) _) (cwV 1 hts (lw_V q2124 q2126 qs50 q113 q2127) rfl rfl rfl (by decide +kernel) ⟨Nat.le_of_ble_eq_true rfl, Nat.le_of_ble_eq_true rfl⟩) (UW_V hP hK (hD) (va_recv hK.1 hP (ci := 0) (q0 := 0) rfl rfl)) rfl rfl hl.1 rfl (lv_room (Nat.le_of_ble_eq_true rfl)) dX5_writeObject_14 ⟨Nat.le_of_ble_eq_true rfl, Nat.le_of_ble_eq_true rfl⟩) hD hS hA (fun H locs hP hD hS => ?_)
    have hP : va_P E.1 CL (MW E o (us (us sc 7 0) 8 (c_obj (ar 1) k)) ar) H := hP
    have hD : va_D A (MW E o (us (us sc 7 0) 8 (c_obj (ar 1) k)) ar) := hD
    refine n_ifd_eq (tgt := 22) hx hb dX5_writeObject_17 (by decide) (fun c_3 => ?_) (fun c_3 => ?_)
    · have hnc : ¬ 0 < c_obj (ar 1) k := by assumption
      have hz := c_obj_ok hnc
      have hob := how.2.2 k (by omega) (by omega)
      refine lv_aload_n hx hb dX5_writeObject_22 rfl (lv_at hl 0 rfl) ?_
      refine lv_iconst (v := iI 0) hx hb dX5_writeObject_23 rfl ?_
      refine va_put (D := E.1) (ci := 0) (v := iv 0) (ty := .int) (C := RX5) (T := TX5) (N := 23) hx hb hts in_X5 tyX5 tyX5_ok nmX5 hown hK.1 hP hD hS 0 rfl rfl 16 (by decide) (hts _ q2045) (fun _ h9 => h9) rfl (by decide +kernel) rfl rfl (Nat.le_of_ble_eq_true rfl) dX5_writeObject_24 (fun H locs hP hD hS => ?_)
      have hP : va_P E.1 CL (MW E o (us (us (us sc 7 0) 8 (c_obj (ar 1) k)) 16 0) ar) H := hP
      have hD : va_D A (MW E o (us (us (us sc 7 0) 8 (c_obj (ar 1) k)) 16 0) ar) := hD
      refine lv_aload_n hx hb dX5_writeObject_27 rfl (lv_at hl 0 rfl) ?_
      refine lv_iload_n hx hb dX5_writeObject_28 rfl (lv_at hl 1 rfl) ?_
      have b_4 := lenI_0 []
      refine n_cuv (va_runV (As := [iv k]) (rest := []) ⟨hx, hb, hml, hown, hts⟩ (mt_X5_writesNumber l E 2 o (us (us (us sc 7 0) 8 (c_obj (ar 1) k)) 16 0) ar k [] (ar 6) (by (try simp only [lenI]); first | omega | (split <;> omega) | (rw [if_neg (by omega)]; omega)) (by (try simp only [lenI]); first | omega | (split <;> omega) | (rw [if_neg (by omega)]; omega)) (by (try simp only [lenI]); first | omega | (split <;> omega) | (rw [if_neg (by omega)]; omega)) _) (cwV 1 hts (lw_V q2424 q2426 qs81 q113 q2427) rfl rfl rfl (by decide +kernel) ⟨Nat.le_of_ble_eq_true rfl, Nat.le_of_ble_eq_true rfl⟩) (UW_V hP hK (hD) (va_recv hK.1 hP (ci := 0) (q0 := 0) rfl rfl)) rfl rfl hl.1 rfl (lv_room (Nat.le_of_ble_eq_true rfl)) dX5_writeObject_29 ⟨Nat.le_of_ble_eq_true rfl, Nat.le_of_ble_eq_true rfl⟩) hD hS hA (fun H locs hP hD hS => ?_)
      have hP : va_P E.1 CL (MW E o (us (us (us sc 7 0) 8 (c_obj (ar 1) k)) 16 (lenI (dgR k []))) (ua ar 6 (wR (dgR k []) (ar 6)))) H := hP
      have hD : va_D A (MW E o (us (us (us sc 7 0) 8 (c_obj (ar 1) k)) 16 (lenI (dgR k []))) (ua ar 6 (wR (dgR k []) (ar 6)))) := hD
      have b_5 := dgR_len k []
      (try simp only [lenI] at b_5)
      have hBwb_6 : ∀ x, 0 ≤ wR (dgR k []) (ar 6) x ∧ wR (dgR k []) (ar 6) x < 2147483648 := wR_db (v := k) (L := []) (hB 6) (by omega)
      refine lv_aload_n hx hb dX5_writeObject_32 rfl (lv_at hl 0 rfl) ?_
      refine lv_aload_n hx hb dX5_writeObject_33 rfl (lv_at hl 0 rfl) ?_
      refine lv_iload_n hx hb dX5_writeObject_34 rfl (lv_at hl 1 rfl) ?_
      refine lv_iconst (v := iI 0) hx hb dX5_writeObject_35 rfl ?_
      refine n_csi (x := m_thing (ar 1) k 0) (va_runV (As := [iv k, iv 0]) (rest := [.ref (o 0)]) ⟨hx, hb, hml, hown, hts⟩ (mt_X5_thing l E o (us (us (us sc 7 0) 8 (c_obj (ar 1) k)) 16 (lenI (dgR k []))) (ua ar 6 (wR (dgR k []) (ar 6))) k 0 (by omega)) (cwV 2 hts (lw_V q2155 q2157 qs56 q113 q2158) rfl rfl rfl (by decide +kernel) ⟨Nat.le_of_ble_eq_true rfl, Nat.le_of_ble_eq_true rfl⟩) (PW_V hP hK (va_recv hK.1 hP (ci := 0) (q0 := 0) rfl rfl)) rfl rfl hl.1 rfl (lv_room (Nat.le_of_ble_eq_true rfl)) dX5_writeObject_36 ⟨Nat.le_of_ble_eq_true rfl, Nat.le_of_ble_eq_true rfl⟩) ?_
      have b_7 := (show 0 ≤ m_thing (ar 1) k 0 ∧ m_thing (ar 1) k 0 < 2147483648 from (hB 1) _)
      refine n_csi (x := 97 + (m_thing (ar 1) k 0)) (va_runS (As := [iv (m_thing (ar 1) k 0)]) (rest := [.ref (o 0)]) ⟨hx, hb, hml, hown, hts⟩ (mt_X5_letter l E o (us (us (us sc 7 0) 8 (c_obj (ar 1) k)) 16 (lenI (dgR k []))) (ua ar 6 (wR (dgR k []) (ar 6))) (m_thing (ar 1) k 0) (by omega)) (va_cwS 1 hts (lw_S q2223 q2224 q113 q2225) rfl rfl rfl (by decide +kernel) ⟨Nat.le_of_ble_eq_true rfl, Nat.le_of_ble_eq_true rfl⟩) (PW_S hP hK) rfl rfl hl.1 rfl (lv_room (Nat.le_of_ble_eq_true rfl)) dX5_writeObject_39 ⟨Nat.le_of_ble_eq_true rfl, Nat.le_of_ble_eq_true rfl⟩) ?_
      have b_8 := lenI_0 (dgR k [])
      refine n_cuv (va_runV (As := [iv (97 + (m_thing (ar 1) k 0))]) (rest := []) ⟨hx, hb, hml, hown, hts⟩ (mt_X5_writes l E o (us (us (us sc 7 0) 8 (c_obj (ar 1) k)) 16 (lenI (dgR k []))) (ua ar 6 (wR (dgR k []) (ar 6))) (97 + (m_thing (ar 1) k 0)) (dgR k []) (ar 6) (by (try simp only [lenI]); first | omega | (split <;> omega) | (rw [if_neg (by omega)]; omega)) (by (try simp only [lenI]); first | omega | (split <;> omega) | (rw [if_neg (by omega)]; omega)) _) (cwV 1 hts (lw_V q2420 q2422 qs80 q113 q2423) rfl rfl rfl (by decide +kernel) ⟨Nat.le_of_ble_eq_true rfl, Nat.le_of_ble_eq_true rfl⟩) (UW_V hP hK (hD) (va_recv hK.1 hP (ci := 0) (q0 := 0) rfl rfl)) rfl rfl hl.1 rfl (lv_room (Nat.le_of_ble_eq_true rfl)) dX5_writeObject_42 ⟨Nat.le_of_ble_eq_true rfl, Nat.le_of_ble_eq_true rfl⟩) hD hS hA (fun H locs hP hD hS => ?_)
      have hP : va_P E.1 CL (MW E o (us (us (us sc 7 0) 8 (c_obj (ar 1) k)) 16 (lenI ((97 + (m_thing (ar 1) k 0)) :: (dgR k [])))) (ua ar 6 (wR ((97 + (m_thing (ar 1) k 0)) :: (dgR k [])) (ar 6)))) H := hP
      have hD : va_D A (MW E o (us (us (us sc 7 0) 8 (c_obj (ar 1) k)) 16 (lenI ((97 + (m_thing (ar 1) k 0)) :: (dgR k [])))) (ua ar 6 (wR ((97 + (m_thing (ar 1) k 0)) :: (dgR k [])) (ar 6)))) := hD
      have hBwb_9 : ∀ x, 0 ≤ wR ((97 + (m_thing (ar 1) k 0)) :: (dgR k [])) (ar 6) x ∧ wR ((97 + (m_thing (ar 1) k 0)) :: (dgR k [])) (ar 6) x < 2147483648 := wR_cb (v := 97 + (m_thing (ar 1) k 0)) (L := (dgR k [])) hBwb_6 (by omega)
      refine lv_iconst (v := iI 0) hx hb dX5_writeObject_45 rfl ?_
      refine lv_istore_n (lv' := [(2, iv 0), (0, .ref (o 0)), (1, iv k)]) hx hb dX5_writeObject_46 rfl hl (by decide) rfl (fun ls hl => ?_)
      have l47 : ∀ (fu : Nat) (x2 : Int) (Lq : List Int), (0 ≤ x2 ∧ x2 ≤ m_thing (ar 1) k 3) → (Lq = itI (m_wf (ar 1) k) x2 ((97 + m_thing (ar 1) k 0) :: dgR k [])) → (lenI Lq ≤ 3 + 3 * x2) → (∀ x, 0 ≤ wR Lq (ar 6) x ∧ wR Lq (ar 6) x < 2147483648) → (m_thing (ar 1) k 3 - x2 < (fu : Int)) → ∀ (H : Heap) (locs : List Loc), va_P E.1 CL (MW E o (us (us (us sc 7 0) 8 (c_obj (ar 1) k)) 16 (lenI Lq)) (ua ar 6 (wR Lq (ar 6)))) H → va_D A (MW E o (us (us (us sc 7 0) 8 (c_obj (ar 1) k)) 16 (lenI Lq)) (ua ar 6 (wR Lq (ar 6)))) → va_S A s.heap H locs → ∀ ls : Array Slot, lv_has ls 3 [(2, iv x2), (0, .ref (o 0)), (1, iv k)] → W p l e (headSpec (ws_ yX5_writeObject cX5_writeObject 3 (some .int)) { frames := 4, cells := 0, slots := 0, locals := 84 }).room s m ([.ref (o 0), iv k] : List Value).toArray below meth c H locs 0 0 (MQ below (UQi E (if 0 < c_obj (ar 1) k then 0 else lenI (m_wobj (ar 1) k)) (MW E o (us (us (us sc 7 0) 8 (c_obj (ar 1) k)) 16 (if 0 < c_obj (ar 1) k then sc 16 else lenI (m_wobj (ar 1) k))) (ua ar 6 (if 0 < c_obj (ar 1) k then ar 6 else wR (m_wobj (ar 1) k) (ar 6)))) A) ([.ref (o 0), iv k] : List Value).toArray s 0 0 A) (F0 m 47 ls []) := by
        intro fu
        induction fu with
        | zero =>
          intro x2 Lq il47_0 il47_1 il47_2 il47_3 hm
          exfalso; omega
        | succ fu ih =>
          intro x2 Lq il47_0 il47_1 il47_2 il47_3 hm H locs hP hD hS ls hl
          have ihl47 := ih
          have hL0 := lenI_0 Lq
          refine lv_iload_n hx hb dX5_writeObject_47 rfl (lv_at hl 0 rfl) ?_
          refine lv_aload_n hx hb dX5_writeObject_48 rfl (lv_at hl 1 rfl) ?_
          refine lv_iload_n hx hb dX5_writeObject_49 rfl (lv_at hl 2 rfl) ?_
          refine lv_iconst (v := iI 3) hx hb dX5_writeObject_50 rfl ?_
          refine n_csi (x := m_thing (ar 1) k 3) (va_runV (As := [iv k, iv 3]) (rest := [iv x2]) ⟨hx, hb, hml, hown, hts⟩ (mt_X5_thing l E o (us (us (us sc 7 0) 8 (c_obj (ar 1) k)) 16 (lenI Lq)) (ua ar 6 (wR Lq (ar 6))) k 3 (by omega)) (cwV 2 hts (lw_V q2155 q2157 qs56 q113 q2158) rfl rfl rfl (by decide +kernel) ⟨Nat.le_of_ble_eq_true rfl, Nat.le_of_ble_eq_true rfl⟩) (PW_V hP hK (va_recv hK.1 hP (ci := 0) (q0 := 0) rfl rfl)) rfl rfl hl.1 rfl (lv_room (Nat.le_of_ble_eq_true rfl)) dX5_writeObject_51 ⟨Nat.le_of_ble_eq_true rfl, Nat.le_of_ble_eq_true rfl⟩) ?_
          have b_10 := (show 0 ≤ m_thing (ar 1) k 3 ∧ m_thing (ar 1) k 3 < 2147483648 from (hB 1) _)
          refine n_icmp_ge (tgt := 105) hx hb dX5_writeObject_54 (by decide) (by omega) (by omega) (fun c_11 => ?_) (fun c_11 => ?_)
          · have hx3 : x2 = m_thing (ar 1) k 3 := by omega
            have heq : m_wobj (ar 1) k = Lq := by
              rw [hx3] at il47_1
              exact il47_1.symm
            refine lv_aload_n hx hb dX5_writeObject_105 rfl (lv_at hl 1 rfl) ?_
            refine va_get (D := E.1) (ci := 0) (v := iv (lenI Lq)) (C := RX5) (T := TX5) (N := 23) hx hb hts in_X5 hown hK.1 hP 0 rfl rfl 16 (by decide) (hts _ q2045) (fun _ h9 => h9) rfl dX5_writeObject_106 ?_
            have hfin : lenI Lq = if 0 < c_obj (ar 1) k then 0 else lenI (m_wobj (ar 1) k) := by
              rw [if_neg hnc, heq]
            have w_12 : lenI Lq = if 0 < c_obj (ar 1) k then sc 16 else lenI (m_wobj (ar 1) k) := by
              first | (rw [if_neg hnc, heq]; done) | rfl
            rw [show (us (us (us sc 7 0) 8 (c_obj (ar 1) k)) 16 (lenI Lq)) = (us (us (us sc 7 0) 8 (c_obj (ar 1) k)) 16 (if 0 < c_obj (ar 1) k then sc 16 else lenI (m_wobj (ar 1) k))) from congrArg (fun z0 : Int => (us (us (us sc 7 0) 8 (c_obj (ar 1) k)) 16 z0)) w_12] at hP hD
            have w_13 : wR Lq (ar 6) = if 0 < c_obj (ar 1) k then ar 6 else wR (m_wobj (ar 1) k) (ar 6) := by
              first | (rw [if_neg hnc, heq]; done) | rfl
            rw [show (ua ar 6 (wR Lq (ar 6))) = (ua ar 6 (if 0 < c_obj (ar 1) k then ar 6 else wR (m_wobj (ar 1) k) (ar 6))) from congrArg (fun z0 : Int → Int => (ua ar 6 z0)) w_13] at hP hD
            exact W.iret (v := iI (lenI Lq)) hx hb hr (fun tt_ ht_ hW_ => ⟨⟨iI (lenI Lq), (), rfl, (congrArg iI hfin), by rw [ht_]; exact hP, hD⟩, hS.F ht_⟩) hS.2.2 dX5_writeObject_109
          · refine lv_aload_n hx hb dX5_writeObject_57 rfl (lv_at hl 1 rfl) ?_
            refine lv_bipush (v := iI 32) hx hb dX5_writeObject_58 (by decide) ?_
            have b_14 := lenI_0 Lq
            refine n_cuv (va_runV (As := [iv 32]) (rest := []) ⟨hx, hb, hml, hown, hts⟩ (mt_X5_writes l E o (us (us (us sc 7 0) 8 (c_obj (ar 1) k)) 16 (lenI Lq)) (ua ar 6 (wR Lq (ar 6))) 32 Lq (ar 6) (by (try simp only [lenI]); first | omega | (split <;> omega) | (rw [if_neg (by omega)]; omega)) (by (try simp only [lenI]); first | omega | (split <;> omega) | (rw [if_neg (by omega)]; omega)) _) (cwV 1 hts (lw_V q2420 q2422 qs80 q113 q2423) rfl rfl rfl (by decide +kernel) ⟨Nat.le_of_ble_eq_true rfl, Nat.le_of_ble_eq_true rfl⟩) (UW_V hP hK (hD) (va_recv hK.1 hP (ci := 0) (q0 := 0) rfl rfl)) rfl rfl hl.1 rfl (lv_room (Nat.le_of_ble_eq_true rfl)) dX5_writeObject_60 ⟨Nat.le_of_ble_eq_true rfl, Nat.le_of_ble_eq_true rfl⟩) hD hS hA (fun H locs hP hD hS => ?_)
            have hP : va_P E.1 CL (MW E o (us (us (us sc 7 0) 8 (c_obj (ar 1) k)) 16 (lenI (32 :: Lq))) (ua ar 6 (wR (32 :: Lq) (ar 6)))) H := hP
            have hD : va_D A (MW E o (us (us (us sc 7 0) 8 (c_obj (ar 1) k)) 16 (lenI (32 :: Lq))) (ua ar 6 (wR (32 :: Lq) (ar 6)))) := hD
            have hBwb_15 : ∀ x, 0 ≤ wR (32 :: Lq) (ar 6) x ∧ wR (32 :: Lq) (ar 6) x < 2147483648 := wR_cb (v := 32) (L := Lq) il47_3 (by omega)
            have hob2 := hob.2.2 x2 (by omega) (by omega)
            refine lv_aload_n hx hb dX5_writeObject_63 rfl (lv_at hl 1 rfl) ?_
            refine lv_iload_n hx hb dX5_writeObject_64 rfl (lv_at hl 2 rfl) ?_
            refine lv_bipush (v := iI 7) hx hb dX5_writeObject_65 (by decide) ?_
            refine lv_iload_n hx hb dX5_writeObject_67 rfl (lv_at hl 0 rfl) ?_
            refine n_iadd hx hb dX5_writeObject_68 ?_
            refine n_csi (x := m_thing (ar 1) k (7 + x2)) (va_runV (As := [iv k, iv (7 + x2)]) (rest := []) ⟨hx, hb, hml, hown, hts⟩ (mt_X5_thing l E o (us (us (us sc 7 0) 8 (c_obj (ar 1) k)) 16 (lenI (32 :: Lq))) (ua ar 6 (wR (32 :: Lq) (ar 6))) k (7 + x2) (by omega)) (cwV 2 hts (lw_V q2155 q2157 qs56 q113 q2158) rfl rfl rfl (by decide +kernel) ⟨Nat.le_of_ble_eq_true rfl, Nat.le_of_ble_eq_true rfl⟩) (PW_V hP hK (va_recv hK.1 hP (ci := 0) (q0 := 0) rfl rfl)) rfl rfl hl.1 rfl (lv_room (Nat.le_of_ble_eq_true rfl)) dX5_writeObject_69 ⟨Nat.le_of_ble_eq_true rfl, Nat.le_of_ble_eq_true rfl⟩) ?_
            have b_16 := (show 0 ≤ m_thing (ar 1) k (7 + x2) ∧ m_thing (ar 1) k (7 + x2) < 2147483648 from (hB 1) _)
            refine n_if_ne (tgt := 84) hx hb dX5_writeObject_72 (by decide) (by omega) (fun c_17 => ?_) (fun c_17 => ?_)
            · refine lv_aload_n hx hb dX5_writeObject_84 rfl (lv_at hl 1 rfl) ?_
              refine lv_aload_n hx hb dX5_writeObject_85 rfl (lv_at hl 1 rfl) ?_
              refine lv_iload_n hx hb dX5_writeObject_86 rfl (lv_at hl 2 rfl) ?_
              refine lv_bipush (v := iI 7) hx hb dX5_writeObject_87 (by decide) ?_
              refine lv_iload_n hx hb dX5_writeObject_89 rfl (lv_at hl 0 rfl) ?_
              refine n_iadd hx hb dX5_writeObject_90 ?_
              refine n_csi (x := m_thing (ar 1) k (7 + x2)) (va_runV (As := [iv k, iv (7 + x2)]) (rest := [.ref (o 0)]) ⟨hx, hb, hml, hown, hts⟩ (mt_X5_thing l E o (us (us (us sc 7 0) 8 (c_obj (ar 1) k)) 16 (lenI (32 :: Lq))) (ua ar 6 (wR (32 :: Lq) (ar 6))) k (7 + x2) (by omega)) (cwV 2 hts (lw_V q2155 q2157 qs56 q113 q2158) rfl rfl rfl (by decide +kernel) ⟨Nat.le_of_ble_eq_true rfl, Nat.le_of_ble_eq_true rfl⟩) (PW_V hP hK (va_recv hK.1 hP (ci := 0) (q0 := 0) rfl rfl)) rfl rfl hl.1 rfl (lv_room (Nat.le_of_ble_eq_true rfl)) dX5_writeObject_91 ⟨Nat.le_of_ble_eq_true rfl, Nat.le_of_ble_eq_true rfl⟩) ?_
              refine lv_iconst (v := iI 1) hx hb dX5_writeObject_94 rfl ?_
              refine n_isub hx hb dX5_writeObject_95 ?_
              have b_18 := lenI_0 (32 :: Lq)
              refine n_cuv (va_runV (As := [iv ((m_thing (ar 1) k (7 + x2)) - 1)]) (rest := []) ⟨hx, hb, hml, hown, hts⟩ (mt_X5_writesNumber l E 2 o (us (us (us sc 7 0) 8 (c_obj (ar 1) k)) 16 (lenI (32 :: Lq))) (ua ar 6 (wR (32 :: Lq) (ar 6))) ((m_thing (ar 1) k (7 + x2)) - 1) (32 :: Lq) (ar 6) (by (try simp only [lenI]); first | omega | (split <;> omega) | (rw [if_neg (by omega)]; omega)) (by (try simp only [lenI]); first | omega | (split <;> omega) | (rw [if_neg (by omega)]; omega)) (by (try simp only [lenI]); first | omega | (split <;> omega) | (rw [if_neg (by omega)]; omega)) _) (cwV 1 hts (lw_V q2424 q2426 qs81 q113 q2427) rfl rfl rfl (by decide +kernel) ⟨Nat.le_of_ble_eq_true rfl, Nat.le_of_ble_eq_true rfl⟩) (UW_V hP hK (hD) (va_recv hK.1 hP (ci := 0) (q0 := 0) rfl rfl)) rfl rfl hl.1 rfl (lv_room (Nat.le_of_ble_eq_true rfl)) dX5_writeObject_96 ⟨Nat.le_of_ble_eq_true rfl, Nat.le_of_ble_eq_true rfl⟩) hD hS hA (fun H locs hP hD hS => ?_)
              have hP : va_P E.1 CL (MW E o (us (us (us sc 7 0) 8 (c_obj (ar 1) k)) 16 (lenI (dgR ((m_thing (ar 1) k (7 + x2)) - 1) (32 :: Lq)))) (ua ar 6 (wR (dgR ((m_thing (ar 1) k (7 + x2)) - 1) (32 :: Lq)) (ar 6)))) H := hP
              have hD : va_D A (MW E o (us (us (us sc 7 0) 8 (c_obj (ar 1) k)) 16 (lenI (dgR ((m_thing (ar 1) k (7 + x2)) - 1) (32 :: Lq)))) (ua ar 6 (wR (dgR ((m_thing (ar 1) k (7 + x2)) - 1) (32 :: Lq)) (ar 6)))) := hD
              have b_19 := dgR_len ((m_thing (ar 1) k (7 + x2)) - 1) (32 :: Lq)
              (try simp only [lenI] at b_19)
              have hBwb_20 : ∀ x, 0 ≤ wR (dgR ((m_thing (ar 1) k (7 + x2)) - 1) (32 :: Lq)) (ar 6) x ∧ wR (dgR ((m_thing (ar 1) k (7 + x2)) - 1) (32 :: Lq)) (ar 6) x < 2147483648 := wR_db (v := (m_thing (ar 1) k (7 + x2)) - 1) (L := (32 :: Lq)) hBwb_15 (by omega)
              refine lv_iinc (v := iI (x2 + 1)) (lv' := [(2, iv (x2 + 1)), (0, .ref (o 0)), (1, iv k)]) hx hb dX5_writeObject_99 hl (k := 0) rfl (iI_add _ _) (by decide) rfl (fun ls hl => ?_)
              refine lv_goto (tgt := 47) hx hb dX5_writeObject_102 (by decide) ?_
              exact ihl47 (x2 + 1) (dgR ((m_thing (ar 1) k (7 + x2)) - 1) (32 :: Lq)) (by first | omega | rfl) (by first | exact m_wf_s (by omega) il47_1 (if_pos (by assumption)) | exact m_wf_s (by omega) il47_1 (if_neg (by assumption))) (by (try simp only [lenI]); (try simp only [lenI] at *); omega) (by exact hBwb_20) (by omega) H locs hP hD hS ls (lv_sub hl [0, 1, 2] rfl)
            · refine lv_aload_n hx hb dX5_writeObject_75 rfl (lv_at hl 1 rfl) ?_
              refine lv_bipush (v := iI 63) hx hb dX5_writeObject_76 (by decide) ?_
              have b_21 := lenI_0 (32 :: Lq)
              refine n_cuv (va_runV (As := [iv 63]) (rest := []) ⟨hx, hb, hml, hown, hts⟩ (mt_X5_writes l E o (us (us (us sc 7 0) 8 (c_obj (ar 1) k)) 16 (lenI (32 :: Lq))) (ua ar 6 (wR (32 :: Lq) (ar 6))) 63 (32 :: Lq) (ar 6) (by (try simp only [lenI]); first | omega | (split <;> omega) | (rw [if_neg (by omega)]; omega)) (by (try simp only [lenI]); first | omega | (split <;> omega) | (rw [if_neg (by omega)]; omega)) _) (cwV 1 hts (lw_V q2420 q2422 qs80 q113 q2423) rfl rfl rfl (by decide +kernel) ⟨Nat.le_of_ble_eq_true rfl, Nat.le_of_ble_eq_true rfl⟩) (UW_V hP hK (hD) (va_recv hK.1 hP (ci := 0) (q0 := 0) rfl rfl)) rfl rfl hl.1 rfl (lv_room (Nat.le_of_ble_eq_true rfl)) dX5_writeObject_78 ⟨Nat.le_of_ble_eq_true rfl, Nat.le_of_ble_eq_true rfl⟩) hD hS hA (fun H locs hP hD hS => ?_)
              have hP : va_P E.1 CL (MW E o (us (us (us sc 7 0) 8 (c_obj (ar 1) k)) 16 (lenI (63 :: (32 :: Lq)))) (ua ar 6 (wR (63 :: (32 :: Lq)) (ar 6)))) H := hP
              have hD : va_D A (MW E o (us (us (us sc 7 0) 8 (c_obj (ar 1) k)) 16 (lenI (63 :: (32 :: Lq)))) (ua ar 6 (wR (63 :: (32 :: Lq)) (ar 6)))) := hD
              have hBwb_22 : ∀ x, 0 ≤ wR (63 :: (32 :: Lq)) (ar 6) x ∧ wR (63 :: (32 :: Lq)) (ar 6) x < 2147483648 := wR_cb (v := 63) (L := (32 :: Lq)) hBwb_15 (by omega)
              refine lv_goto (tgt := 99) hx hb dX5_writeObject_81 (by decide) ?_
              refine lv_iinc (v := iI (x2 + 1)) (lv' := [(2, iv (x2 + 1)), (0, .ref (o 0)), (1, iv k)]) hx hb dX5_writeObject_99 hl (k := 0) rfl (iI_add _ _) (by decide) rfl (fun ls hl => ?_)
              refine lv_goto (tgt := 47) hx hb dX5_writeObject_102 (by decide) ?_
              exact ihl47 (x2 + 1) (63 :: (32 :: Lq)) (by first | omega | rfl) (by first | exact m_wf_s (by omega) il47_1 (if_pos (by assumption)) | exact m_wf_s (by omega) il47_1 (if_neg (by assumption))) (by (try simp only [lenI]); (try simp only [lenI] at *); omega) (by exact hBwb_22) (by omega) H locs hP hD hS ls (lv_sub hl [0, 1, 2] rfl)
      exact l47 4 0 ((97 + (m_thing (ar 1) k 0)) :: (dgR k [])) (by first | omega | rfl | trivial) (by rfl) (by (simp only [lenI] at *); omega) (by exact hBwb_9) (by omega) H locs hP hD hS ls hl
    · refine lv_iconst (v := iI 0) hx hb dX5_writeObject_20 rfl ?_
      have hfin : 0 = if 0 < c_obj (ar 1) k then 0 else lenI (m_wobj (ar 1) k) := by
        first | exact (if_pos (by assumption)).symm | exact (if_neg (by assumption)).symm
      have hP : va_P E.1 CL (MW E o (us (us (us sc 7 0) 8 (c_obj (ar 1) k)) 16 (sc 16)) ar) H := hP
      have hD : va_D A (MW E o (us (us (us sc 7 0) 8 (c_obj (ar 1) k)) 16 (sc 16)) ar) := hD
      have w_23 : sc 16 = if 0 < c_obj (ar 1) k then sc 16 else lenI (m_wobj (ar 1) k) := by
        first | exact (if_pos (by assumption)).symm | exact (if_neg (by assumption)).symm
      rw [show (us (us (us sc 7 0) 8 (c_obj (ar 1) k)) 16 (sc 16)) = (us (us (us sc 7 0) 8 (c_obj (ar 1) k)) 16 (if 0 < c_obj (ar 1) k then sc 16 else lenI (m_wobj (ar 1) k))) from congrArg (fun z0 : Int => (us (us (us sc 7 0) 8 (c_obj (ar 1) k)) 16 z0)) w_23] at hP hD
      have hP : va_P E.1 CL (MW E o (us (us (us sc 7 0) 8 (c_obj (ar 1) k)) 16 (if 0 < c_obj (ar 1) k then sc 16 else lenI (m_wobj (ar 1) k))) (ua ar 6 (ar 6))) H := hP
      have hD : va_D A (MW E o (us (us (us sc 7 0) 8 (c_obj (ar 1) k)) 16 (if 0 < c_obj (ar 1) k then sc 16 else lenI (m_wobj (ar 1) k))) (ua ar 6 (ar 6))) := hD
      have w_24 : ar 6 = if 0 < c_obj (ar 1) k then ar 6 else wR (m_wobj (ar 1) k) (ar 6) := by
        first | exact (if_pos (by assumption)).symm | exact (if_neg (by assumption)).symm
      rw [show (ua ar 6 (ar 6)) = (ua ar 6 (if 0 < c_obj (ar 1) k then ar 6 else wR (m_wobj (ar 1) k) (ar 6))) from congrArg (fun z0 : Int → Int => (ua ar 6 z0)) w_24] at hP hD
      exact W.iret (v := iI 0) hx hb hr (fun tt_ ht_ hW_ => ⟨⟨iI 0, (), rfl, (congrArg iI hfin), by rw [ht_]; exact hP, hD⟩, hS.F ht_⟩) hS.2.2 dX5_writeObject_21
  refine lv_aload_n hx hb dX5_writeObject_1 rfl (lv_at hl 0 rfl) ?_
  refine lv_iload_n hx hb dX5_writeObject_2 rfl (lv_at hl 1 rfl) ?_
  refine n_csi (x := b2 (m_isobj (ar 1) k)) (va_runV (As := [iv k]) (rest := [.ref (o 0)]) ⟨hx, hb, hml, hown, hts⟩ (mt_X5_isObject l E o sc ar k hB (by omega) (by assumption)) (cwV 1 hts (lw_V q2344 q2346 qs78 q113 q2347) rfl rfl rfl (by decide +kernel) ⟨Nat.le_of_ble_eq_true rfl, Nat.le_of_ble_eq_true rfl⟩) (PW_V hP hK (va_recv hK.1 hP (ci := 0) (q0 := 0) rfl rfl)) rfl rfl hl.1 rfl (lv_room (Nat.le_of_ble_eq_true rfl)) dX5_writeObject_3 ⟨Nat.le_of_ble_eq_true rfl, Nat.le_of_ble_eq_true rfl⟩) ?_
  refine n_ifb_eq (tgt := 13) hx hb dX5_writeObject_6 (by decide) (fun c_25 => ?_) (fun c_25 => ?_)
  · refine lv_iconst (v := iI 1) hx hb dX5_writeObject_13 rfl ?_
    refine n_top (y := c_obj (ar 1) k) (by (try unfold c_obj); (repeat' split) <;> first | rfl | omega | contradiction | (exfalso; omega) | (simp_all; done)) ?_
    exact j_1
  · refine lv_iconst (v := iI 0) hx hb dX5_writeObject_9 rfl ?_
    refine lv_goto (tgt := 14) hx hb dX5_writeObject_10 (by decide) ?_
    refine n_top (y := c_obj (ar 1) k) (by (try unfold c_obj); (repeat' split) <;> first | rfl | omega | contradiction | (exfalso; omega) | (simp_all; done)) ?_
    exact j_1
