set_option maxHeartbeats 4000000 in
set_option maxRecDepth 100000 in
theorem mt_X5_isNone (l : Launch) (E : EE) (o : Nat → Nat) (sc : Nat → Int) (ar : Nat → Int → Int) (t : Int) (hB : ∀ k x, 0 ≤ ar k x ∧ ar k x < 2147483648) (ht : -2147483648 ≤ t ∧ t < 2147483648) (sz : Nat) : Met l yX5_isNone (ws_ yX5_isNone cX5_isNone 2 (some .boolean)) { frames := 2, cells := 0, slots := 0, locals := 43 } (va_Pc [.ref (o 0), iv t] (UW E (MW E o sc ar) sz)) (UQi E (b2 (decide (0 < c_none (ar 1) t))) (MW E o (us (us sc 7 0) 8 (c_none (ar 1) t)) ar) (va_A (MW E o sc ar) sz)) 0 0 (va_A (MW E o sc ar) sz) := by
  refine Met.ofW (cc := cX5_isNone) (maxL := 2) (ret := (some .boolean)) (by decide) rfl ?_
  intro p e s m args below meth c s₁ B hml hv
  obtain ⟨rfl, hsz, hP, hK, hD0⟩ := hv
  have hx := B.exec
  have hb := B.bytes
  have hr := B.returns
  have hts := atoms_spec (ws := (ws_ yX5_isNone cX5_isNone 2 (some .boolean))) B.pre
  have hts : ∀ w ∈ lw_all, w.before _ s = true := fun w h => hts w (List.mem_cons_of_mem _ h)
  have hown : s.vm.findClass RX5 = some m.cls := findClass_of_methodNamed B.named
  have hlocks := B.notSynchronized
  subst hsz
  have hD := hD0.self (sz := s.heap.size)
  generalize hAe : va_A (MW E o sc ar) s.heap.size = A at hD ⊢
  have hA : ∀ q : Nat, s.heap.size ≤ q → A q := fun q h => by rw [← hAe]; exact Or.inr h
  have hS : va_S A s.heap s.heap [] := va_S.rf
  have hl := lv_entry ([.ref (o 0), iv t]) (n := 2) (Nat.le_of_ble_eq_true rfl)
  rw [lg_entry_eq]
  generalize (lg_sl ([.ref (o 0), iv t]) ++ List.replicate (2 - (lg_sl ([.ref (o 0), iv t])).length) Slot.unset).toArray = ls at hl ⊢
  have hl : lv_has ls 2 [(0, .ref (o 0)), (1, iv t)] := hl
  refine lv_aload_n hx hb dX5_isNone_0 rfl (lv_at hl 0 rfl) ?_
  have j_1 : W p l e (headSpec (ws_ yX5_isNone cX5_isNone 2 (some .boolean)) { frames := 2, cells := 0, slots := 0, locals := 43 }).room s m ([.ref (o 0), iv t] : List Value).toArray below meth c s.heap [] 0 0 (MQ below (UQi E (b2 (decide (0 < c_none (ar 1) t))) (MW E o (us (us sc 7 0) 8 (c_none (ar 1) t)) ar) A) ([.ref (o 0), iv t] : List Value).toArray s 0 0 A) (F0 m 28 ls [iv (c_none (ar 1) t), .ref (o 0)]) := by
    have b_2 := c_none_r (ar 1) t
    refine n_cui (x := b2 (decide (0 < (c_none (ar 1) t)))) (va_runV (As := [iv (c_none (ar 1) t)]) (rest := []) ⟨hx, hb, hml, hown, hts⟩ (mt_X5_fails l E o sc ar (c_none (ar 1) t) (by omega) _) (cwV 1 hts (lw_V q2124 q2126 qs50 q113 q2127) rfl rfl rfl (by decide +kernel) ⟨Nat.le_of_ble_eq_true rfl, Nat.le_of_ble_eq_true rfl⟩) (UW_V hP hK (hD) (va_recv hK.1 hP (ci := 0) (q0 := 0) rfl rfl)) rfl rfl hl.1 rfl (lv_room (Nat.le_of_ble_eq_true rfl)) dX5_isNone_28 ⟨Nat.le_of_ble_eq_true rfl, Nat.le_of_ble_eq_true rfl⟩) hD hS hA (fun H locs hP hD hS => ?_)
    have hP : va_P E.1 CL (MW E o (us (us sc 7 0) 8 (c_none (ar 1) t)) ar) H := hP
    have hD : va_D A (MW E o (us (us sc 7 0) 8 (c_none (ar 1) t)) ar) := hD
    have hfin : b2 (decide (0 < (c_none (ar 1) t))) = b2 (decide (0 < c_none (ar 1) t)) := by
      first | rfl | omega
    exact W.zret (v := iI (b2 (decide (0 < (c_none (ar 1) t))))) hx hb hr (nr_b (b2_r _)) (fun tt_ ht_ hW_ => ⟨⟨iI (b2 (decide (0 < (c_none (ar 1) t)))), (), rfl, (congrArg iI hfin), by rw [ht_]; exact hP, hD⟩, hS.F ht_⟩) hS.2.2 dX5_isNone_31
  refine lv_iload_n hx hb dX5_isNone_1 rfl (lv_at hl 1 rfl) ?_
  refine n_csi (x := b2 (decide (97 ≤ t ∧ t ≤ 104))) (va_runS (As := [iv t]) (rest := [.ref (o 0)]) ⟨hx, hb, hml, hown, hts⟩ (mt_X5_isTool l E o sc ar t (by omega)) (va_cwS 1 hts (lw_S q2107 q2108 q113 q2109) rfl rfl rfl (by decide +kernel) ⟨Nat.le_of_ble_eq_true rfl, Nat.le_of_ble_eq_true rfl⟩) (PW_S hP hK) rfl rfl hl.1 rfl (lv_room (Nat.le_of_ble_eq_true rfl)) dX5_isNone_2 ⟨Nat.le_of_ble_eq_true rfl, Nat.le_of_ble_eq_true rfl⟩) ?_
  refine n_ifd_ne (tgt := 12) hx hb dX5_isNone_5 (by decide) (fun c_3 => ?_) (fun c_3 => ?_)
  · refine lv_aload_n hx hb dX5_isNone_12 rfl (lv_at hl 0 rfl) ?_
    refine lv_iload_n hx hb dX5_isNone_13 rfl (lv_at hl 1 rfl) ?_
    refine lv_bipush (v := iI 97) hx hb dX5_isNone_14 (by decide) ?_
    refine n_isub hx hb dX5_isNone_16 ?_
    refine n_csi (x := b2 (m_has (ar 1) (t - 97))) (va_runV (As := [iv (t - 97)]) (rest := [.ref (o 0)]) ⟨hx, hb, hml, hown, hts⟩ (mt_X5_has l E o sc ar (t - 97) hB (by omega)) (cwV 1 hts (lw_V q2116 q2118 qs48 q113 q2119) rfl rfl rfl (by decide +kernel) ⟨Nat.le_of_ble_eq_true rfl, Nat.le_of_ble_eq_true rfl⟩) (PW_V hP hK (va_recv hK.1 hP (ci := 0) (q0 := 0) rfl rfl)) rfl rfl hl.1 rfl (lv_room (Nat.le_of_ble_eq_true rfl)) dX5_isNone_17 ⟨Nat.le_of_ble_eq_true rfl, Nat.le_of_ble_eq_true rfl⟩) ?_
    refine n_ifb_eq (tgt := 27) hx hb dX5_isNone_20 (by decide) (fun c_4 => ?_) (fun c_4 => ?_)
    · refine lv_iconst (v := iI 2) hx hb dX5_isNone_27 rfl ?_
      refine n_top (y := c_none (ar 1) t) (by (try unfold c_none); (repeat' split) <;> first | rfl | omega | contradiction | (exfalso; omega) | (simp_all; done)) ?_
      exact j_1
    · refine lv_iconst (v := iI 0) hx hb dX5_isNone_23 rfl ?_
      refine lv_goto (tgt := 28) hx hb dX5_isNone_24 (by decide) ?_
      refine n_top (y := c_none (ar 1) t) (by (try unfold c_none); (repeat' split) <;> first | rfl | omega | contradiction | (exfalso; omega) | (simp_all; done)) ?_
      exact j_1
  · refine lv_iconst (v := iI 1) hx hb dX5_isNone_8 rfl ?_
    refine lv_goto (tgt := 28) hx hb dX5_isNone_9 (by decide) ?_
    refine n_top (y := c_none (ar 1) t) (by (try unfold c_none); (repeat' split) <;> first | rfl | omega | contradiction | (exfalso; omega) | (simp_all; done)) ?_
    exact j_1
set_option maxHeartbeats 4000000 in
set_option maxRecDepth 100000 in
theorem mt_X5_placeOf (l : Launch) (E : EE) (o : Nat → Nat) (sc : Nat → Int) (ar : Nat → Int → Int) (t : Int) (nd : Int) (hB : ∀ k x, 0 ≤ ar k x ∧ ar k x < 2147483648) (h : 0 ≤ t ∧ t < 8) (hn : -2147483648 ≤ nd ∧ nd < 2147483648) (htw : TW (ar 1)) : Met l yX5_placeOf (ws_ yX5_placeOf cX5_placeOf 4 (some .int)) { frames := 2, cells := 0, slots := 0, locals := 44 } (va_Pc [.ref (o 0), iv t, iv nd] (PW E (MW E o sc ar))) (NP (m_place (ar 1) t nd)) 0 0 (fun _ => False) := by
  refine Met.ofW (cc := cX5_placeOf) (maxL := 4) (ret := (some .int)) (by decide) rfl ?_
  intro p e s m args below meth c s₁ B hml hv
  obtain ⟨rfl, hP, hK⟩ := hv
  have hx := B.exec
  have hb := B.bytes
  have hr := B.returns
  have hts := atoms_spec (ws := (ws_ yX5_placeOf cX5_placeOf 4 (some .int))) B.pre
  have hts : ∀ w ∈ lw_all, w.before _ s = true := fun w h => hts w (List.mem_cons_of_mem _ h)
  have hown : s.vm.findClass RX5 = some m.cls := findClass_of_methodNamed B.named
  have hlocks := B.notSynchronized
  have hl := lv_entry ([.ref (o 0), iv t, iv nd]) (n := 4) (Nat.le_of_ble_eq_true rfl)
  rw [lg_entry_eq]
  generalize (lg_sl ([.ref (o 0), iv t, iv nd]) ++ List.replicate (4 - (lg_sl ([.ref (o 0), iv t, iv nd])).length) Slot.unset).toArray = ls at hl ⊢
  have hl : lv_has ls 4 [(0, .ref (o 0)), (1, iv t), (2, iv nd)] := hl
  have hnn := htw t h.1 h.2
  refine lv_iconst (v := iI 0) hx hb dX5_placeOf_0 rfl ?_
  refine lv_istore_n (lv' := [(3, iv 0), (0, .ref (o 0)), (1, iv t), (2, iv nd)]) hx hb dX5_placeOf_1 rfl hl (by decide) rfl (fun ls hl => ?_)
  have l2 : ∀ (fu : Nat) (x3 : Int), (0 ≤ x3 ∧ x3 ≤ m_of (ar 1) t 2) → (fnd (fun k => decide (m_need (ar 1) t k = nd)) x3 = -1) → (m_of (ar 1) t 2 - x3 < (fu : Int)) → ∀ ls : Array Slot, lv_has ls 4 [(3, iv x3), (0, .ref (o 0)), (1, iv t), (2, iv nd)] → W p l e (headSpec (ws_ yX5_placeOf cX5_placeOf 4 (some .int)) { frames := 2, cells := 0, slots := 0, locals := 44 }).room s m ([.ref (o 0), iv t, iv nd] : List Value).toArray below meth c s.heap [] 0 0 (MQ below (NP (m_place (ar 1) t nd)) ([.ref (o 0), iv t, iv nd] : List Value).toArray s 0 0 (fun _ => False)) (F0 m 2 ls []) := by
    intro fu
    induction fu with
    | zero =>
      intro x3 il2_0 il2_1 hm
      exfalso; omega
    | succ fu ih =>
      intro x3 il2_0 il2_1 hm ls hl
      have ihl2 := ih
      refine lv_iload_n hx hb dX5_placeOf_2 rfl (lv_at hl 0 rfl) ?_
      refine lv_aload_n hx hb dX5_placeOf_3 rfl (lv_at hl 1 rfl) ?_
      refine lv_iload_n hx hb dX5_placeOf_4 rfl (lv_at hl 2 rfl) ?_
      refine lv_iconst (v := iI 2) hx hb dX5_placeOf_5 rfl ?_
      refine n_csi (x := m_of (ar 1) t 2) (va_runV (As := [iv t, iv 2]) (rest := [iv x3]) ⟨hx, hb, hml, hown, hts⟩ (mt_X5_of l E o sc ar t 2 (by omega)) (cwV 2 hts (lw_V q2120 q2122 qs49 q113 q2123) rfl rfl rfl (by decide +kernel) ⟨Nat.le_of_ble_eq_true rfl, Nat.le_of_ble_eq_true rfl⟩) (PW_V hP hK (va_recv hK.1 hP (ci := 0) (q0 := 0) rfl rfl)) rfl rfl hl.1 rfl (lv_room (Nat.le_of_ble_eq_true rfl)) dX5_placeOf_6 ⟨Nat.le_of_ble_eq_true rfl, Nat.le_of_ble_eq_true rfl⟩) ?_
      have b_1 := (show 0 ≤ m_of (ar 1) t 2 ∧ m_of (ar 1) t 2 < 2147483648 from (hB 1) _)
      refine n_icmp_ge (tgt := 30) hx hb dX5_placeOf_9 (by decide) (by omega) (by omega) (fun c_2 => ?_) (fun c_2 => ?_)
      · refine lv_iconst (v := iI (-1)) hx hb dX5_placeOf_30 rfl ?_
        have hfin : (-1) = m_place (ar 1) t nd := by
          obtain rfl : x3 = m_of (ar 1) t 2 := by omega
          exact il2_1.symm
        exact W.iret (v := iI (-1)) hx hb hr (fun tt_ ht_ hW_ => ⟨iI (-1), rfl, (congrArg iI hfin), ht_⟩) (fun q h => by cases h) dX5_placeOf_31
      · refine lv_aload_n hx hb dX5_placeOf_12 rfl (lv_at hl 1 rfl) ?_
        refine lv_iload_n hx hb dX5_placeOf_13 rfl (lv_at hl 2 rfl) ?_
        refine lv_iload_n hx hb dX5_placeOf_14 rfl (lv_at hl 0 rfl) ?_
        refine n_csi (x := m_need (ar 1) t x3) (va_runV (As := [iv t, iv x3]) (rest := []) ⟨hx, hb, hml, hown, hts⟩ (mt_X5_need l E o sc ar t x3 hB (by omega) (by omega)) (cwV 2 hts (lw_V q2167 q2169 qs58 q113 q2170) rfl rfl rfl (by decide +kernel) ⟨Nat.le_of_ble_eq_true rfl, Nat.le_of_ble_eq_true rfl⟩) (PW_V hP hK (va_recv hK.1 hP (ci := 0) (q0 := 0) rfl rfl)) rfl rfl hl.1 rfl (lv_room (Nat.le_of_ble_eq_true rfl)) dX5_placeOf_15 ⟨Nat.le_of_ble_eq_true rfl, Nat.le_of_ble_eq_true rfl⟩) ?_
        refine lv_iload_n hx hb dX5_placeOf_18 rfl (lv_at hl 3 rfl) ?_
        have b_3 := (show 0 ≤ m_need (ar 1) t x3 ∧ m_need (ar 1) t x3 < 8 from ⟨Int.emod_nonneg _ (by decide), Int.emod_lt_of_pos _ (by decide)⟩)
        refine n_icmp_ne (tgt := 24) hx hb dX5_placeOf_19 (by decide) (by omega) (by omega) (fun c_4 => ?_) (fun c_4 => ?_)
        · refine lv_iinc (v := iI (x3 + 1)) (lv' := [(3, iv (x3 + 1)), (0, .ref (o 0)), (1, iv t), (2, iv nd)]) hx hb dX5_placeOf_24 hl (k := 0) rfl (iI_add _ _) (by decide) rfl (fun ls hl => ?_)
          refine lv_goto (tgt := 2) hx hb dX5_placeOf_27 (by decide) ?_
          exact ihl2 (x3 + 1) (by first | omega | rfl) (by exact fnd_no (by omega) il2_1 (by simp [*])) (by omega) ls (lv_sub hl [0, 1, 2, 3] rfl)
        · refine lv_iload_n hx hb dX5_placeOf_22 rfl (lv_at hl 0 rfl) ?_
          have hfin : x3 = m_place (ar 1) t nd := by
            exact (fnd_yes (by omega) (by omega) il2_1 (by simp [*])).symm
          exact W.iret (v := iI x3) hx hb hr (fun tt_ ht_ hW_ => ⟨iI x3, rfl, (congrArg iI hfin), ht_⟩) (fun q h => by cases h) dX5_placeOf_23
  exact l2 4 0 (by first | omega | rfl | trivial) (by rfl) (by omega) ls hl
set_option maxHeartbeats 4000000 in
set_option maxRecDepth 100000 in
theorem mt_X5_recipeCount (l : Launch) (E : EE) (o : Nat → Nat) (sc : Nat → Int) (ar : Nat → Int → Int) (hB : ∀ k x, 0 ≤ ar k x ∧ ar k x < 2147483648) (sz : Nat) : Met l yX5_recipeCount (ws_ yX5_recipeCount cX5_recipeCount 1 (some .int)) { frames := 3, cells := 0, slots := 0, locals := 65 } (va_Pc [.ref (o 0)] (UW E (MW E o sc ar) sz)) (UQi E (m_recipes (ar 1)) (MW E o (us sc 8 0) ar) (va_A (MW E o sc ar) sz)) 0 0 (va_A (MW E o sc ar) sz) := by
  refine Met.ofW (cc := cX5_recipeCount) (maxL := 1) (ret := (some .int)) (by decide) rfl ?_
  intro p e s m args below meth c s₁ B hml hv
  obtain ⟨rfl, hsz, hP, hK, hD0⟩ := hv
  have hx := B.exec
  have hb := B.bytes
  have hr := B.returns
  have hts := atoms_spec (ws := (ws_ yX5_recipeCount cX5_recipeCount 1 (some .int))) B.pre
  have hts : ∀ w ∈ lw_all, w.before _ s = true := fun w h => hts w (List.mem_cons_of_mem _ h)
  have hown : s.vm.findClass RX5 = some m.cls := findClass_of_methodNamed B.named
  have hlocks := B.notSynchronized
  subst hsz
  have hD := hD0.self (sz := s.heap.size)
  generalize hAe : va_A (MW E o sc ar) s.heap.size = A at hD ⊢
  have hA : ∀ q : Nat, s.heap.size ≤ q → A q := fun q h => by rw [← hAe]; exact Or.inr h
  have hS : va_S A s.heap s.heap [] := va_S.rf
  have hl := lv_entry ([.ref (o 0)]) (n := 1) (Nat.le_of_ble_eq_true rfl)
  rw [lg_entry_eq]
  generalize (lg_sl ([.ref (o 0)]) ++ List.replicate (1 - (lg_sl ([.ref (o 0)])).length) Slot.unset).toArray = ls at hl ⊢
  have hl : lv_has ls 1 [(0, .ref (o 0))] := hl
  refine lv_aload_n hx hb dX5_recipeCount_0 rfl (lv_at hl 0 rfl) ?_
  refine lv_iconst (v := iI 0) hx hb dX5_recipeCount_1 rfl ?_
  refine va_put (D := E.1) (ci := 0) (v := iv 0) (ty := .int) (C := RX5) (T := TX5) (N := 23) hx hb hts in_X5 tyX5 tyX5_ok nmX5 hown hK.1 hP hD hS 0 rfl rfl 8 (by decide) (hts _ q2037) (fun _ h9 => h9) rfl (by decide +kernel) rfl rfl (Nat.le_of_ble_eq_true rfl) dX5_recipeCount_2 (fun H locs hP hD hS => ?_)
  have hP : va_P E.1 CL (MW E o (us sc 8 0) ar) H := hP
  have hD : va_D A (MW E o (us sc 8 0) ar) := hD
  refine lv_aload_n hx hb dX5_recipeCount_5 rfl (lv_at hl 0 rfl) ?_
  refine n_csi (x := m_recipes (ar 1)) (va_runV (As := []) (rest := []) ⟨hx, hb, hml, hown, hts⟩ (mt_X5_recipes l E o (us sc 8 0) ar  hB) (cwV 0 hts (lw_V q2139 q2141 qs53 q113 q2142) rfl rfl rfl (by decide +kernel) ⟨Nat.le_of_ble_eq_true rfl, Nat.le_of_ble_eq_true rfl⟩) (PW_V hP hK (va_recv hK.1 hP (ci := 0) (q0 := 0) rfl rfl)) rfl rfl hl.1 rfl (lv_room (Nat.le_of_ble_eq_true rfl)) dX5_recipeCount_6 ⟨Nat.le_of_ble_eq_true rfl, Nat.le_of_ble_eq_true rfl⟩) ?_
  exact W.iret (v := iI (m_recipes (ar 1))) hx hb hr (fun tt_ ht_ hW_ => ⟨⟨iI (m_recipes (ar 1)), (), rfl, rfl, by rw [ht_]; exact hP, hD⟩, hS.F ht_⟩) hS.2.2 dX5_recipeCount_9
set_option maxHeartbeats 4000000 in
set_option maxRecDepth 100000 in
theorem mt_X5_hasRecipe (l : Launch) (E : EE) (o : Nat → Nat) (sc : Nat → Int) (ar : Nat → Int → Int) (t : Int) (hB : ∀ k x, 0 ≤ ar k x ∧ ar k x < 2147483648) (ht : 0 ≤ t ∧ t < 65536) (sz : Nat) : Met l yX5_hasRecipe (ws_ yX5_hasRecipe cX5_hasRecipe 2 (some .boolean)) { frames := 2, cells := 0, slots := 0, locals := 43 } (va_Pc [.ref (o 0), iv t] (UW E (MW E o sc ar) sz)) (UQi E (b2 (!(decide (0 < c_tool t)) && m_has (ar 1) (t - 97))) (MW E o (us (us sc 7 0) 8 (c_tool t)) ar) (va_A (MW E o sc ar) sz)) 0 0 (va_A (MW E o sc ar) sz) := by
  refine Met.ofW (cc := cX5_hasRecipe) (maxL := 2) (ret := (some .boolean)) (by decide) rfl ?_
  intro p e s m args below meth c s₁ B hml hv
  obtain ⟨rfl, hsz, hP, hK, hD0⟩ := hv
  have hx := B.exec
  have hb := B.bytes
  have hr := B.returns
  have hts := atoms_spec (ws := (ws_ yX5_hasRecipe cX5_hasRecipe 2 (some .boolean))) B.pre
  have hts : ∀ w ∈ lw_all, w.before _ s = true := fun w h => hts w (List.mem_cons_of_mem _ h)
  have hown : s.vm.findClass RX5 = some m.cls := findClass_of_methodNamed B.named
  have hlocks := B.notSynchronized
  subst hsz
  have hD := hD0.self (sz := s.heap.size)
  generalize hAe : va_A (MW E o sc ar) s.heap.size = A at hD ⊢
  have hA : ∀ q : Nat, s.heap.size ≤ q → A q := fun q h => by rw [← hAe]; exact Or.inr h
  have hS : va_S A s.heap s.heap [] := va_S.rf
  have hl := lv_entry ([.ref (o 0), iv t]) (n := 2) (Nat.le_of_ble_eq_true rfl)
  rw [lg_entry_eq]
  generalize (lg_sl ([.ref (o 0), iv t]) ++ List.replicate (2 - (lg_sl ([.ref (o 0), iv t])).length) Slot.unset).toArray = ls at hl ⊢
  have hl : lv_has ls 2 [(0, .ref (o 0)), (1, iv t)] := hl
  refine lv_aload_n hx hb dX5_hasRecipe_0 rfl (lv_at hl 0 rfl) ?_
  have j_1 : W p l e (headSpec (ws_ yX5_hasRecipe cX5_hasRecipe 2 (some .boolean)) { frames := 2, cells := 0, slots := 0, locals := 43 }).room s m ([.ref (o 0), iv t] : List Value).toArray below meth c s.heap [] 0 0 (MQ below (UQi E (b2 (!(decide (0 < c_tool t)) && m_has (ar 1) (t - 97))) (MW E o (us (us sc 7 0) 8 (c_tool t)) ar) A) ([.ref (o 0), iv t] : List Value).toArray s 0 0 A) (F0 m 13 ls [iv (c_tool t), .ref (o 0)]) := by
    have b_2 := c_tool_r t
    refine n_cui (x := b2 (decide (0 < (c_tool t)))) (va_runV (As := [iv (c_tool t)]) (rest := []) ⟨hx, hb, hml, hown, hts⟩ (mt_X5_fails l E o sc ar (c_tool t) (by omega) _) (cwV 1 hts (lw_V q2124 q2126 qs50 q113 q2127) rfl rfl rfl (by decide +kernel) ⟨Nat.le_of_ble_eq_true rfl, Nat.le_of_ble_eq_true rfl⟩) (UW_V hP hK (hD) (va_recv hK.1 hP (ci := 0) (q0 := 0) rfl rfl)) rfl rfl hl.1 rfl (lv_room (Nat.le_of_ble_eq_true rfl)) dX5_hasRecipe_13 ⟨Nat.le_of_ble_eq_true rfl, Nat.le_of_ble_eq_true rfl⟩) hD hS hA (fun H locs hP hD hS => ?_)
    have hP : va_P E.1 CL (MW E o (us (us sc 7 0) 8 (c_tool t)) ar) H := hP
    have hD : va_D A (MW E o (us (us sc 7 0) 8 (c_tool t)) ar) := hD
    refine n_ifd_ne (tgt := 34) hx hb dX5_hasRecipe_16 (by decide) (fun c_3 => ?_) (fun c_3 => ?_)
    · refine lv_iconst (v := iI 0) hx hb dX5_hasRecipe_34 rfl ?_
      have hfin : 0 = b2 (!(decide (0 < c_tool t)) && m_has (ar 1) (t - 97)) := by
        simp [*, b2]
      exact W.zret (v := iI 0) hx hb hr (nr_b (by decide)) (fun tt_ ht_ hW_ => ⟨⟨iI 0, (), rfl, (congrArg iI hfin), by rw [ht_]; exact hP, hD⟩, hS.F ht_⟩) hS.2.2 dX5_hasRecipe_35
    · have hz := c_tool_ok (by assumption)
      refine lv_aload_n hx hb dX5_hasRecipe_19 rfl (lv_at hl 0 rfl) ?_
      refine lv_iload_n hx hb dX5_hasRecipe_20 rfl (lv_at hl 1 rfl) ?_
      refine lv_bipush (v := iI 97) hx hb dX5_hasRecipe_21 (by decide) ?_
      refine n_isub hx hb dX5_hasRecipe_23 ?_
      refine n_csi (x := b2 (m_has (ar 1) (t - 97))) (va_runV (As := [iv (t - 97)]) (rest := []) ⟨hx, hb, hml, hown, hts⟩ (mt_X5_has l E o (us (us sc 7 0) 8 (c_tool t)) ar (t - 97) hB (by omega)) (cwV 1 hts (lw_V q2116 q2118 qs48 q113 q2119) rfl rfl rfl (by decide +kernel) ⟨Nat.le_of_ble_eq_true rfl, Nat.le_of_ble_eq_true rfl⟩) (PW_V hP hK (va_recv hK.1 hP (ci := 0) (q0 := 0) rfl rfl)) rfl rfl hl.1 rfl (lv_room (Nat.le_of_ble_eq_true rfl)) dX5_hasRecipe_24 ⟨Nat.le_of_ble_eq_true rfl, Nat.le_of_ble_eq_true rfl⟩) ?_
      refine n_ifb_eq (tgt := 34) hx hb dX5_hasRecipe_27 (by decide) (fun c_4 => ?_) (fun c_4 => ?_)
      · refine lv_iconst (v := iI 0) hx hb dX5_hasRecipe_34 rfl ?_
        have hfin : 0 = b2 (!(decide (0 < c_tool t)) && m_has (ar 1) (t - 97)) := by
          simp [*, b2]
        exact W.zret (v := iI 0) hx hb hr (nr_b (by decide)) (fun tt_ ht_ hW_ => ⟨⟨iI 0, (), rfl, (congrArg iI hfin), by rw [ht_]; exact hP, hD⟩, hS.F ht_⟩) hS.2.2 dX5_hasRecipe_35
      · refine lv_iconst (v := iI 1) hx hb dX5_hasRecipe_30 rfl ?_
        refine lv_goto (tgt := 35) hx hb dX5_hasRecipe_31 (by decide) ?_
        have hfin : 1 = b2 (!(decide (0 < c_tool t)) && m_has (ar 1) (t - 97)) := by
          simp [*, b2]
        exact W.zret (v := iI 1) hx hb hr (nr_b (by decide)) (fun tt_ ht_ hW_ => ⟨⟨iI 1, (), rfl, (congrArg iI hfin), by rw [ht_]; exact hP, hD⟩, hS.F ht_⟩) hS.2.2 dX5_hasRecipe_35
  refine lv_iload_n hx hb dX5_hasRecipe_1 rfl (lv_at hl 1 rfl) ?_
  refine n_csi (x := b2 (decide (97 ≤ t ∧ t ≤ 104))) (va_runS (As := [iv t]) (rest := [.ref (o 0)]) ⟨hx, hb, hml, hown, hts⟩ (mt_X5_isTool l E o sc ar t (by omega)) (va_cwS 1 hts (lw_S q2107 q2108 q113 q2109) rfl rfl rfl (by decide +kernel) ⟨Nat.le_of_ble_eq_true rfl, Nat.le_of_ble_eq_true rfl⟩) (PW_S hP hK) rfl rfl hl.1 rfl (lv_room (Nat.le_of_ble_eq_true rfl)) dX5_hasRecipe_2 ⟨Nat.le_of_ble_eq_true rfl, Nat.le_of_ble_eq_true rfl⟩) ?_
  refine n_ifd_eq (tgt := 12) hx hb dX5_hasRecipe_5 (by decide) (fun c_5 => ?_) (fun c_5 => ?_)
  · refine lv_iconst (v := iI 1) hx hb dX5_hasRecipe_12 rfl ?_
    refine n_top (y := c_tool t) (by (try unfold c_tool); (repeat' split) <;> first | rfl | omega | contradiction | (exfalso; omega) | (simp_all; done)) ?_
    exact j_1
  · refine lv_iconst (v := iI 0) hx hb dX5_hasRecipe_8 rfl ?_
    refine lv_goto (tgt := 13) hx hb dX5_hasRecipe_9 (by decide) ?_
    refine n_top (y := c_tool t) (by (try unfold c_tool); (repeat' split) <;> first | rfl | omega | contradiction | (exfalso; omega) | (simp_all; done)) ?_
    exact j_1
set_option maxHeartbeats 4000000 in
set_option maxRecDepth 100000 in
theorem mt_X5_scopeOf (l : Launch) (E : EE) (o : Nat → Nat) (sc : Nat → Int) (ar : Nat → Int → Int) (t : Int) (hB : ∀ k x, 0 ≤ ar k x ∧ ar k x < 2147483648) (ht : 0 ≤ t ∧ t < 65536) (hsc : ∀ t, 0 ≤ t → t < 8 → m_of (ar 1) t 0 < 65536) (sz : Nat) : Met l yX5_scopeOf (ws_ yX5_scopeOf cX5_scopeOf 2 (some .char)) { frames := 3, cells := 0, slots := 0, locals := 64 } (va_Pc [.ref (o 0), iv t] (UW E (MW E o sc ar) sz)) (UQi E (if 0 < c_none (ar 1) t then 32 else m_of (ar 1) (t - 97) 0) (MW E o (us (us sc 7 0) 8 (c_none (ar 1) t)) ar) (va_A (MW E o sc ar) sz)) 0 0 (va_A (MW E o sc ar) sz) := by
  refine Met.ofW (cc := cX5_scopeOf) (maxL := 2) (ret := (some .char)) (by decide) rfl ?_
  intro p e s m args below meth c s₁ B hml hv
  obtain ⟨rfl, hsz, hP, hK, hD0⟩ := hv
  have hx := B.exec
  have hb := B.bytes
  have hr := B.returns
  have hts := atoms_spec (ws := (ws_ yX5_scopeOf cX5_scopeOf 2 (some .char))) B.pre
  have hts : ∀ w ∈ lw_all, w.before _ s = true := fun w h => hts w (List.mem_cons_of_mem _ h)
  have hown : s.vm.findClass RX5 = some m.cls := findClass_of_methodNamed B.named
  have hlocks := B.notSynchronized
  subst hsz
  have hD := hD0.self (sz := s.heap.size)
  generalize hAe : va_A (MW E o sc ar) s.heap.size = A at hD ⊢
  have hA : ∀ q : Nat, s.heap.size ≤ q → A q := fun q h => by rw [← hAe]; exact Or.inr h
  have hS : va_S A s.heap s.heap [] := va_S.rf
  have hl := lv_entry ([.ref (o 0), iv t]) (n := 2) (Nat.le_of_ble_eq_true rfl)
  rw [lg_entry_eq]
  generalize (lg_sl ([.ref (o 0), iv t]) ++ List.replicate (2 - (lg_sl ([.ref (o 0), iv t])).length) Slot.unset).toArray = ls at hl ⊢
  have hl : lv_has ls 2 [(0, .ref (o 0)), (1, iv t)] := hl
  refine lv_aload_n hx hb dX5_scopeOf_0 rfl (lv_at hl 0 rfl) ?_
  refine lv_iload_n hx hb dX5_scopeOf_1 rfl (lv_at hl 1 rfl) ?_
  refine n_cui (x := b2 (decide (0 < c_none (ar 1) t))) (va_runV (As := [iv t]) (rest := []) ⟨hx, hb, hml, hown, hts⟩ (mt_X5_isNone l E o sc ar t hB (by omega) _) (cwV 1 hts (lw_V q2147 q2149 qs54 q113 q2150) rfl rfl rfl (by decide +kernel) ⟨Nat.le_of_ble_eq_true rfl, Nat.le_of_ble_eq_true rfl⟩) (UW_V hP hK (hD) (va_recv hK.1 hP (ci := 0) (q0 := 0) rfl rfl)) rfl rfl hl.1 rfl (lv_room (Nat.le_of_ble_eq_true rfl)) dX5_scopeOf_2 ⟨Nat.le_of_ble_eq_true rfl, Nat.le_of_ble_eq_true rfl⟩) hD hS hA (fun H locs hP hD hS => ?_)
  have hP : va_P E.1 CL (MW E o (us (us sc 7 0) 8 (c_none (ar 1) t)) ar) H := hP
  have hD : va_D A (MW E o (us (us sc 7 0) 8 (c_none (ar 1) t)) ar) := hD
  refine n_ifd_eq (tgt := 13) hx hb dX5_scopeOf_5 (by decide) (fun c_1 => ?_) (fun c_1 => ?_)
  · have hz := c_none_ok (by assumption)
    have hy := hsc (t - 97) (by omega) (by omega)
    refine lv_aload_n hx hb dX5_scopeOf_13 rfl (lv_at hl 0 rfl) ?_
    refine lv_iload_n hx hb dX5_scopeOf_14 rfl (lv_at hl 1 rfl) ?_
    refine lv_bipush (v := iI 97) hx hb dX5_scopeOf_15 (by decide) ?_
    refine n_isub hx hb dX5_scopeOf_17 ?_
    refine lv_iconst (v := iI 0) hx hb dX5_scopeOf_18 rfl ?_
    refine n_csi (x := m_of (ar 1) (t - 97) 0) (va_runV (As := [iv (t - 97), iv 0]) (rest := []) ⟨hx, hb, hml, hown, hts⟩ (mt_X5_of l E o (us (us sc 7 0) 8 (c_none (ar 1) t)) ar (t - 97) 0 (by omega)) (cwV 2 hts (lw_V q2120 q2122 qs49 q113 q2123) rfl rfl rfl (by decide +kernel) ⟨Nat.le_of_ble_eq_true rfl, Nat.le_of_ble_eq_true rfl⟩) (PW_V hP hK (va_recv hK.1 hP (ci := 0) (q0 := 0) rfl rfl)) rfl rfl hl.1 rfl (lv_room (Nat.le_of_ble_eq_true rfl)) dX5_scopeOf_19 ⟨Nat.le_of_ble_eq_true rfl, Nat.le_of_ble_eq_true rfl⟩) ?_
    have b_2 := (show 0 ≤ m_of (ar 1) (t - 97) 0 ∧ m_of (ar 1) (t - 97) 0 < 2147483648 from (hB 1) _)
    refine n_i2c hx hb (by omega) dX5_scopeOf_22 ?_
    have hfin : m_of (ar 1) (t - 97) 0 = if 0 < c_none (ar 1) t then 32 else m_of (ar 1) (t - 97) 0 := by
      first | exact (if_pos (by assumption)).symm | exact (if_neg (by assumption)).symm
    exact W.zret (v := iI (m_of (ar 1) (t - 97) 0)) hx hb hr (nr_c (by omega)) (fun tt_ ht_ hW_ => ⟨⟨iI (m_of (ar 1) (t - 97) 0), (), rfl, (congrArg iI hfin), by rw [ht_]; exact hP, hD⟩, hS.F ht_⟩) hS.2.2 dX5_scopeOf_23
  · refine lv_bipush (v := iI 32) hx hb dX5_scopeOf_8 (by decide) ?_
    refine lv_goto (tgt := 23) hx hb dX5_scopeOf_10 (by decide) ?_
    have hfin : 32 = if 0 < c_none (ar 1) t then 32 else m_of (ar 1) (t - 97) 0 := by
      first | exact (if_pos (by assumption)).symm | exact (if_neg (by assumption)).symm
    exact W.zret (v := iI 32) hx hb hr (nr_c (by omega)) (fun tt_ ht_ hW_ => ⟨⟨iI 32, (), rfl, (congrArg iI hfin), by rw [ht_]; exact hP, hD⟩, hS.F ht_⟩) hS.2.2 dX5_scopeOf_23
set_option maxHeartbeats 4000000 in
set_option maxRecDepth 100000 in
theorem mt_X5_needCount (l : Launch) (E : EE) (o : Nat → Nat) (sc : Nat → Int) (ar : Nat → Int → Int) (t : Int) (hB : ∀ k x, 0 ≤ ar k x ∧ ar k x < 2147483648) (ht : 0 ≤ t ∧ t < 65536) (sz : Nat) : Met l yX5_needCount (ws_ yX5_needCount cX5_needCount 2 (some .int)) { frames := 3, cells := 0, slots := 0, locals := 64 } (va_Pc [.ref (o 0), iv t] (UW E (MW E o sc ar) sz)) (UQi E (if 0 < c_none (ar 1) t then 0 else m_of (ar 1) (t - 97) 2) (MW E o (us (us sc 7 0) 8 (c_none (ar 1) t)) ar) (va_A (MW E o sc ar) sz)) 0 0 (va_A (MW E o sc ar) sz) := by
  refine Met.ofW (cc := cX5_needCount) (maxL := 2) (ret := (some .int)) (by decide) rfl ?_
  intro p e s m args below meth c s₁ B hml hv
  obtain ⟨rfl, hsz, hP, hK, hD0⟩ := hv
  have hx := B.exec
  have hb := B.bytes
  have hr := B.returns
  have hts := atoms_spec (ws := (ws_ yX5_needCount cX5_needCount 2 (some .int))) B.pre
  have hts : ∀ w ∈ lw_all, w.before _ s = true := fun w h => hts w (List.mem_cons_of_mem _ h)
  have hown : s.vm.findClass RX5 = some m.cls := findClass_of_methodNamed B.named
  have hlocks := B.notSynchronized
  subst hsz
  have hD := hD0.self (sz := s.heap.size)
  generalize hAe : va_A (MW E o sc ar) s.heap.size = A at hD ⊢
  have hA : ∀ q : Nat, s.heap.size ≤ q → A q := fun q h => by rw [← hAe]; exact Or.inr h
  have hS : va_S A s.heap s.heap [] := va_S.rf
  have hl := lv_entry ([.ref (o 0), iv t]) (n := 2) (Nat.le_of_ble_eq_true rfl)
  rw [lg_entry_eq]
  generalize (lg_sl ([.ref (o 0), iv t]) ++ List.replicate (2 - (lg_sl ([.ref (o 0), iv t])).length) Slot.unset).toArray = ls at hl ⊢
  have hl : lv_has ls 2 [(0, .ref (o 0)), (1, iv t)] := hl
  refine lv_aload_n hx hb dX5_needCount_0 rfl (lv_at hl 0 rfl) ?_
  refine lv_iload_n hx hb dX5_needCount_1 rfl (lv_at hl 1 rfl) ?_
  refine n_cui (x := b2 (decide (0 < c_none (ar 1) t))) (va_runV (As := [iv t]) (rest := []) ⟨hx, hb, hml, hown, hts⟩ (mt_X5_isNone l E o sc ar t hB (by omega) _) (cwV 1 hts (lw_V q2147 q2149 qs54 q113 q2150) rfl rfl rfl (by decide +kernel) ⟨Nat.le_of_ble_eq_true rfl, Nat.le_of_ble_eq_true rfl⟩) (UW_V hP hK (hD) (va_recv hK.1 hP (ci := 0) (q0 := 0) rfl rfl)) rfl rfl hl.1 rfl (lv_room (Nat.le_of_ble_eq_true rfl)) dX5_needCount_2 ⟨Nat.le_of_ble_eq_true rfl, Nat.le_of_ble_eq_true rfl⟩) hD hS hA (fun H locs hP hD hS => ?_)
  have hP : va_P E.1 CL (MW E o (us (us sc 7 0) 8 (c_none (ar 1) t)) ar) H := hP
  have hD : va_D A (MW E o (us (us sc 7 0) 8 (c_none (ar 1) t)) ar) := hD
  refine n_ifd_eq (tgt := 12) hx hb dX5_needCount_5 (by decide) (fun c_1 => ?_) (fun c_1 => ?_)
  · have hz := c_none_ok (by assumption)
    refine lv_aload_n hx hb dX5_needCount_12 rfl (lv_at hl 0 rfl) ?_
    refine lv_iload_n hx hb dX5_needCount_13 rfl (lv_at hl 1 rfl) ?_
    refine lv_bipush (v := iI 97) hx hb dX5_needCount_14 (by decide) ?_
    refine n_isub hx hb dX5_needCount_16 ?_
    refine lv_iconst (v := iI 2) hx hb dX5_needCount_17 rfl ?_
    refine n_csi (x := m_of (ar 1) (t - 97) 2) (va_runV (As := [iv (t - 97), iv 2]) (rest := []) ⟨hx, hb, hml, hown, hts⟩ (mt_X5_of l E o (us (us sc 7 0) 8 (c_none (ar 1) t)) ar (t - 97) 2 (by omega)) (cwV 2 hts (lw_V q2120 q2122 qs49 q113 q2123) rfl rfl rfl (by decide +kernel) ⟨Nat.le_of_ble_eq_true rfl, Nat.le_of_ble_eq_true rfl⟩) (PW_V hP hK (va_recv hK.1 hP (ci := 0) (q0 := 0) rfl rfl)) rfl rfl hl.1 rfl (lv_room (Nat.le_of_ble_eq_true rfl)) dX5_needCount_18 ⟨Nat.le_of_ble_eq_true rfl, Nat.le_of_ble_eq_true rfl⟩) ?_
    have hfin : m_of (ar 1) (t - 97) 2 = if 0 < c_none (ar 1) t then 0 else m_of (ar 1) (t - 97) 2 := by
      first | exact (if_pos (by assumption)).symm | exact (if_neg (by assumption)).symm
    exact W.iret (v := iI (m_of (ar 1) (t - 97) 2)) hx hb hr (fun tt_ ht_ hW_ => ⟨⟨iI (m_of (ar 1) (t - 97) 2), (), rfl, (congrArg iI hfin), by rw [ht_]; exact hP, hD⟩, hS.F ht_⟩) hS.2.2 dX5_needCount_21
  · refine lv_iconst (v := iI 0) hx hb dX5_needCount_8 rfl ?_
    refine lv_goto (tgt := 21) hx hb dX5_needCount_9 (by decide) ?_
    have hfin : 0 = if 0 < c_none (ar 1) t then 0 else m_of (ar 1) (t - 97) 2 := by
      first | exact (if_pos (by assumption)).symm | exact (if_neg (by assumption)).symm
    exact W.iret (v := iI 0) hx hb hr (fun tt_ ht_ hW_ => ⟨⟨iI 0, (), rfl, (congrArg iI hfin), by rw [ht_]; exact hP, hD⟩, hS.F ht_⟩) hS.2.2 dX5_needCount_21
set_option maxHeartbeats 4000000 in
set_option maxRecDepth 100000 in
theorem mt_X5_isNoNeed (l : Launch) (E : EE) (o : Nat → Nat) (sc : Nat → Int) (ar : Nat → Int → Int) (t : Int) (ps : Int) (hB : ∀ k x, 0 ≤ ar k x ∧ ar k x < 2147483648) (ht : 0 ≤ t ∧ t < 65536) (hp : -2147483648 ≤ ps ∧ ps < 2147483648) (htw : TW (ar 1)) (sz : Nat) : Met l yX5_isNoNeed (ws_ yX5_isNoNeed cX5_isNoNeed 3 (some .boolean)) { frames := 3, cells := 0, slots := 0, locals := 64 } (va_Pc [.ref (o 0), iv t, iv ps] (UW E (MW E o sc ar) sz)) (UQi E (b2 (decide (0 < c_need (ar 1) t ps))) (MW E o (us (us sc 7 0) 8 (c_need (ar 1) t ps)) ar) (va_A (MW E o sc ar) sz)) 0 0 (va_A (MW E o sc ar) sz) := by
  refine Met.ofW (cc := cX5_isNoNeed) (maxL := 3) (ret := (some .boolean)) (by decide) rfl ?_
  intro p e s m args below meth c s₁ B hml hv
  obtain ⟨rfl, hsz, hP, hK, hD0⟩ := hv
  have hx := B.exec
  have hb := B.bytes
  have hr := B.returns
  have hts := atoms_spec (ws := (ws_ yX5_isNoNeed cX5_isNoNeed 3 (some .boolean))) B.pre
  have hts : ∀ w ∈ lw_all, w.before _ s = true := fun w h => hts w (List.mem_cons_of_mem _ h)
  have hown : s.vm.findClass RX5 = some m.cls := findClass_of_methodNamed B.named
  have hlocks := B.notSynchronized
  subst hsz
  have hD := hD0.self (sz := s.heap.size)
  generalize hAe : va_A (MW E o sc ar) s.heap.size = A at hD ⊢
  have hA : ∀ q : Nat, s.heap.size ≤ q → A q := fun q h => by rw [← hAe]; exact Or.inr h
  have hS : va_S A s.heap s.heap [] := va_S.rf
  have hl := lv_entry ([.ref (o 0), iv t, iv ps]) (n := 3) (Nat.le_of_ble_eq_true rfl)
  rw [lg_entry_eq]
  generalize (lg_sl ([.ref (o 0), iv t, iv ps]) ++ List.replicate (3 - (lg_sl ([.ref (o 0), iv t, iv ps])).length) Slot.unset).toArray = ls at hl ⊢
  have hl : lv_has ls 3 [(0, .ref (o 0)), (1, iv t), (2, iv ps)] := hl
  refine lv_aload_n hx hb dX5_isNoNeed_0 rfl (lv_at hl 0 rfl) ?_
  refine lv_iload_n hx hb dX5_isNoNeed_1 rfl (lv_at hl 1 rfl) ?_
  refine n_cui (x := b2 (decide (0 < c_none (ar 1) t))) (va_runV (As := [iv t]) (rest := []) ⟨hx, hb, hml, hown, hts⟩ (mt_X5_isNone l E o sc ar t hB (by omega) _) (cwV 1 hts (lw_V q2147 q2149 qs54 q113 q2150) rfl rfl rfl (by decide +kernel) ⟨Nat.le_of_ble_eq_true rfl, Nat.le_of_ble_eq_true rfl⟩) (UW_V hP hK (hD) (va_recv hK.1 hP (ci := 0) (q0 := 0) rfl rfl)) rfl rfl hl.1 rfl (lv_room (Nat.le_of_ble_eq_true rfl)) dX5_isNoNeed_2 ⟨Nat.le_of_ble_eq_true rfl, Nat.le_of_ble_eq_true rfl⟩) hD hS hA (fun H locs hP hD hS => ?_)
  have hP : va_P E.1 CL (MW E o (us (us sc 7 0) 8 (c_none (ar 1) t)) ar) H := hP
  have hD : va_D A (MW E o (us (us sc 7 0) 8 (c_none (ar 1) t)) ar) := hD
  refine n_ifd_ne (tgt := 39) hx hb dX5_isNoNeed_5 (by decide) (fun c_1 => ?_) (fun c_1 => ?_)
  · refine lv_iconst (v := iI 1) hx hb dX5_isNoNeed_39 rfl ?_
    refine lv_goto (tgt := 44) hx hb dX5_isNoNeed_40 (by decide) ?_
    have hfin : 1 = b2 (decide (0 < c_need (ar 1) t ps)) := by
      first | exact (b2_pos (by omega)).symm | exact (b2_neg (by omega)).symm | (first | exact (b2_pos (by (try unfold c_need); (repeat' split) <;> first | omega | contradiction | (simp_all; done))).symm | exact (b2_neg (by (try unfold c_need); (repeat' split) <;> first | omega | contradiction | (simp_all; done))).symm)
    have w_2 : c_none (ar 1) t = c_need (ar 1) t ps := by
      (try unfold c_need)
      (repeat' split) <;> first | rfl | omega | contradiction | (exfalso; omega) | (simp_all; done)
    rw [show (us (us sc 7 0) 8 (c_none (ar 1) t)) = (us (us sc 7 0) 8 (c_need (ar 1) t ps)) from congrArg (fun z0 : Int => (us (us sc 7 0) 8 z0)) w_2] at hP hD
    exact W.zret (v := iI 1) hx hb hr (nr_b (by decide)) (fun tt_ ht_ hW_ => ⟨⟨iI 1, (), rfl, (congrArg iI hfin), by rw [ht_]; exact hP, hD⟩, hS.F ht_⟩) hS.2.2 dX5_isNoNeed_44
  · have hz := c_none_ok (by assumption)
    have hy := htw (t - 97) (by omega) (by omega)
    refine lv_aload_n hx hb dX5_isNoNeed_8 rfl (lv_at hl 0 rfl) ?_
    have j_3 : W p l e (headSpec (ws_ yX5_isNoNeed cX5_isNoNeed 3 (some .boolean)) { frames := 3, cells := 0, slots := 0, locals := 64 }).room s m ([.ref (o 0), iv t, iv ps] : List Value).toArray below meth c H locs 0 0 (MQ below (UQi E (b2 (decide (0 < c_need (ar 1) t ps))) (MW E o (us (us sc 7 0) 8 (c_need (ar 1) t ps)) ar) A) ([.ref (o 0), iv t, iv ps] : List Value).toArray s 0 0 A) (F0 m 33 ls [iv (c_need (ar 1) t ps), .ref (o 0)]) := by
      have b_4 := c_need_r (ar 1) t ps
      refine n_cui (x := b2 (decide (0 < (c_need (ar 1) t ps)))) (va_runV (As := [iv (c_need (ar 1) t ps)]) (rest := []) ⟨hx, hb, hml, hown, hts⟩ (mt_X5_fails l E o (us (us sc 7 0) 8 (c_none (ar 1) t)) ar (c_need (ar 1) t ps) (by omega) _) (cwV 1 hts (lw_V q2124 q2126 qs50 q113 q2127) rfl rfl rfl (by decide +kernel) ⟨Nat.le_of_ble_eq_true rfl, Nat.le_of_ble_eq_true rfl⟩) (UW_V hP hK (hD) (va_recv hK.1 hP (ci := 0) (q0 := 0) rfl rfl)) rfl rfl hl.1 rfl (lv_room (Nat.le_of_ble_eq_true rfl)) dX5_isNoNeed_33 ⟨Nat.le_of_ble_eq_true rfl, Nat.le_of_ble_eq_true rfl⟩) hD hS hA (fun H locs hP hD hS => ?_)
      have hP : va_P E.1 CL (MW E o (us (us sc 7 0) 8 (c_need (ar 1) t ps)) ar) H := hP
      have hD : va_D A (MW E o (us (us sc 7 0) 8 (c_need (ar 1) t ps)) ar) := hD
      refine n_ifd_eq (tgt := 43) hx hb dX5_isNoNeed_36 (by decide) (fun c_5 => ?_) (fun c_5 => ?_)
      · refine lv_iconst (v := iI 0) hx hb dX5_isNoNeed_43 rfl ?_
        have hfin : 0 = b2 (decide (0 < c_need (ar 1) t ps)) := by
          first | exact (b2_pos (by omega)).symm | exact (b2_neg (by omega)).symm | (first | exact (b2_pos (by (try unfold c_need); (repeat' split) <;> first | omega | contradiction | (simp_all; done))).symm | exact (b2_neg (by (try unfold c_need); (repeat' split) <;> first | omega | contradiction | (simp_all; done))).symm)
        exact W.zret (v := iI 0) hx hb hr (nr_b (by decide)) (fun tt_ ht_ hW_ => ⟨⟨iI 0, (), rfl, (congrArg iI hfin), by rw [ht_]; exact hP, hD⟩, hS.F ht_⟩) hS.2.2 dX5_isNoNeed_44
      · refine lv_iconst (v := iI 1) hx hb dX5_isNoNeed_39 rfl ?_
        refine lv_goto (tgt := 44) hx hb dX5_isNoNeed_40 (by decide) ?_
        have hfin : 1 = b2 (decide (0 < c_need (ar 1) t ps)) := by
          first | exact (b2_pos (by omega)).symm | exact (b2_neg (by omega)).symm | (first | exact (b2_pos (by (try unfold c_need); (repeat' split) <;> first | omega | contradiction | (simp_all; done))).symm | exact (b2_neg (by (try unfold c_need); (repeat' split) <;> first | omega | contradiction | (simp_all; done))).symm)
        exact W.zret (v := iI 1) hx hb hr (nr_b (by decide)) (fun tt_ ht_ hW_ => ⟨⟨iI 1, (), rfl, (congrArg iI hfin), by rw [ht_]; exact hP, hD⟩, hS.F ht_⟩) hS.2.2 dX5_isNoNeed_44
    refine lv_iload_n hx hb dX5_isNoNeed_9 rfl (lv_at hl 2 rfl) ?_
    refine lv_iconst (v := iI 0) hx hb dX5_isNoNeed_10 rfl ?_
    refine lv_aload_n hx hb dX5_isNoNeed_11 rfl (lv_at hl 0 rfl) ?_
    refine lv_iload_n hx hb dX5_isNoNeed_12 rfl (lv_at hl 1 rfl) ?_
    refine lv_bipush (v := iI 97) hx hb dX5_isNoNeed_13 (by decide) ?_
    refine n_isub hx hb dX5_isNoNeed_15 ?_
    refine lv_iconst (v := iI 2) hx hb dX5_isNoNeed_16 rfl ?_
    refine n_csi (x := m_of (ar 1) (t - 97) 2) (va_runV (As := [iv (t - 97), iv 2]) (rest := [iv 0, iv ps, .ref (o 0)]) ⟨hx, hb, hml, hown, hts⟩ (mt_X5_of l E o (us (us sc 7 0) 8 (c_none (ar 1) t)) ar (t - 97) 2 (by omega)) (cwV 2 hts (lw_V q2120 q2122 qs49 q113 q2123) rfl rfl rfl (by decide +kernel) ⟨Nat.le_of_ble_eq_true rfl, Nat.le_of_ble_eq_true rfl⟩) (PW_V hP hK (va_recv hK.1 hP (ci := 0) (q0 := 0) rfl rfl)) rfl rfl hl.1 rfl (lv_room (Nat.le_of_ble_eq_true rfl)) dX5_isNoNeed_17 ⟨Nat.le_of_ble_eq_true rfl, Nat.le_of_ble_eq_true rfl⟩) ?_
    refine lv_iconst (v := iI 1) hx hb dX5_isNoNeed_20 rfl ?_
    refine n_isub hx hb dX5_isNoNeed_21 ?_
    have b_6 := (show 0 ≤ m_of (ar 1) (t - 97) 2 ∧ m_of (ar 1) (t - 97) 2 < 2147483648 from (hB 1) _)
    refine n_csi (x := b2 (decide (0 ≤ ps ∧ ps ≤ ((m_of (ar 1) (t - 97) 2) - 1)))) (va_runS (As := [iv ps, iv 0, iv ((m_of (ar 1) (t - 97) 2) - 1)]) (rest := [.ref (o 0)]) ⟨hx, hb, hml, hown, hts⟩ (mt_X5_in l E o (us (us sc 7 0) 8 (c_none (ar 1) t)) ar ps 0 ((m_of (ar 1) (t - 97) 2) - 1) (by omega) (by omega) (by omega)) (va_cwS 3 hts (lw_S q2110 q2111 q113 q2112) rfl rfl rfl (by decide +kernel) ⟨Nat.le_of_ble_eq_true rfl, Nat.le_of_ble_eq_true rfl⟩) (PW_S hP hK) rfl rfl hl.1 rfl (lv_room (Nat.le_of_ble_eq_true rfl)) dX5_isNoNeed_22 ⟨Nat.le_of_ble_eq_true rfl, Nat.le_of_ble_eq_true rfl⟩) ?_
    refine n_ifd_eq (tgt := 32) hx hb dX5_isNoNeed_25 (by decide) (fun c_7 => ?_) (fun c_7 => ?_)
    · refine lv_iconst (v := iI 3) hx hb dX5_isNoNeed_32 rfl ?_
      refine n_top (y := c_need (ar 1) t ps) (by (try unfold c_need); (repeat' split) <;> first | rfl | omega | contradiction | (exfalso; omega) | (simp_all; done)) ?_
      exact j_3
    · refine lv_iconst (v := iI 0) hx hb dX5_isNoNeed_28 rfl ?_
      refine lv_goto (tgt := 33) hx hb dX5_isNoNeed_29 (by decide) ?_
      refine n_top (y := c_need (ar 1) t ps) (by (try unfold c_need); (repeat' split) <;> first | rfl | omega | contradiction | (exfalso; omega) | (simp_all; done)) ?_
      exact j_3
set_option maxHeartbeats 4000000 in
set_option maxRecDepth 100000 in
theorem mt_X5_needAt (l : Launch) (E : EE) (o : Nat → Nat) (sc : Nat → Int) (ar : Nat → Int → Int) (t : Int) (ps : Int) (hB : ∀ k x, 0 ≤ ar k x ∧ ar k x < 2147483648) (ht : 0 ≤ t ∧ t < 65536) (hp : -2147483648 ≤ ps ∧ ps < 2147483648) (htw : TW (ar 1)) (sz : Nat) : Met l yX5_needAt (ws_ yX5_needAt cX5_needAt 3 (some .char)) { frames := 4, cells := 0, slots := 0, locals := 86 } (va_Pc [.ref (o 0), iv t, iv ps] (UW E (MW E o sc ar) sz)) (UQi E (if 0 < c_need (ar 1) t ps then 32 else 97 + m_need (ar 1) (t - 97) ps) (MW E o (us (us sc 7 0) 8 (c_need (ar 1) t ps)) ar) (va_A (MW E o sc ar) sz)) 0 0 (va_A (MW E o sc ar) sz) := by
  refine Met.ofW (cc := cX5_needAt) (maxL := 3) (ret := (some .char)) (by decide) rfl ?_
  intro p e s m args below meth c s₁ B hml hv
  obtain ⟨rfl, hsz, hP, hK, hD0⟩ := hv
  have hx := B.exec
  have hb := B.bytes
  have hr := B.returns
  have hts := atoms_spec (ws := (ws_ yX5_needAt cX5_needAt 3 (some .char))) B.pre
  have hts : ∀ w ∈ lw_all, w.before _ s = true := fun w h => hts w (List.mem_cons_of_mem _ h)
  have hown : s.vm.findClass RX5 = some m.cls := findClass_of_methodNamed B.named
  have hlocks := B.notSynchronized
  subst hsz
  have hD := hD0.self (sz := s.heap.size)
  generalize hAe : va_A (MW E o sc ar) s.heap.size = A at hD ⊢
  have hA : ∀ q : Nat, s.heap.size ≤ q → A q := fun q h => by rw [← hAe]; exact Or.inr h
  have hS : va_S A s.heap s.heap [] := va_S.rf
  have hl := lv_entry ([.ref (o 0), iv t, iv ps]) (n := 3) (Nat.le_of_ble_eq_true rfl)
  rw [lg_entry_eq]
  generalize (lg_sl ([.ref (o 0), iv t, iv ps]) ++ List.replicate (3 - (lg_sl ([.ref (o 0), iv t, iv ps])).length) Slot.unset).toArray = ls at hl ⊢
  have hl : lv_has ls 3 [(0, .ref (o 0)), (1, iv t), (2, iv ps)] := hl
  refine lv_aload_n hx hb dX5_needAt_0 rfl (lv_at hl 0 rfl) ?_
  refine lv_iload_n hx hb dX5_needAt_1 rfl (lv_at hl 1 rfl) ?_
  refine lv_iload_n hx hb dX5_needAt_2 rfl (lv_at hl 2 rfl) ?_
  refine n_cui (x := b2 (decide (0 < c_need (ar 1) t ps))) (va_runV (As := [iv t, iv ps]) (rest := []) ⟨hx, hb, hml, hown, hts⟩ (mt_X5_isNoNeed l E o sc ar t ps hB (by omega) (by omega) (by assumption) _) (cwV 2 hts (lw_V q2219 q2221 qs65 q113 q2222) rfl rfl rfl (by decide +kernel) ⟨Nat.le_of_ble_eq_true rfl, Nat.le_of_ble_eq_true rfl⟩) (UW_V hP hK (hD) (va_recv hK.1 hP (ci := 0) (q0 := 0) rfl rfl)) rfl rfl hl.1 rfl (lv_room (Nat.le_of_ble_eq_true rfl)) dX5_needAt_3 ⟨Nat.le_of_ble_eq_true rfl, Nat.le_of_ble_eq_true rfl⟩) hD hS hA (fun H locs hP hD hS => ?_)
  have hP : va_P E.1 CL (MW E o (us (us sc 7 0) 8 (c_need (ar 1) t ps)) ar) H := hP
  have hD : va_D A (MW E o (us (us sc 7 0) 8 (c_need (ar 1) t ps)) ar) := hD
  refine n_ifd_eq (tgt := 14) hx hb dX5_needAt_6 (by decide) (fun c_1 => ?_) (fun c_1 => ?_)
  · have hz := c_need_ok (by assumption)
    have hy := htw (t - 97) (by omega) (by omega)
    refine lv_aload_n hx hb dX5_needAt_14 rfl (lv_at hl 0 rfl) ?_
    refine lv_iload_n hx hb dX5_needAt_15 rfl (lv_at hl 1 rfl) ?_
    refine lv_bipush (v := iI 97) hx hb dX5_needAt_16 (by decide) ?_
    refine n_isub hx hb dX5_needAt_18 ?_
    refine lv_iload_n hx hb dX5_needAt_19 rfl (lv_at hl 2 rfl) ?_
    refine n_csi (x := m_need (ar 1) (t - 97) ps) (va_runV (As := [iv (t - 97), iv ps]) (rest := []) ⟨hx, hb, hml, hown, hts⟩ (mt_X5_need l E o (us (us sc 7 0) 8 (c_need (ar 1) t ps)) ar (t - 97) ps hB (by omega) (by omega)) (cwV 2 hts (lw_V q2167 q2169 qs58 q113 q2170) rfl rfl rfl (by decide +kernel) ⟨Nat.le_of_ble_eq_true rfl, Nat.le_of_ble_eq_true rfl⟩) (PW_V hP hK (va_recv hK.1 hP (ci := 0) (q0 := 0) rfl rfl)) rfl rfl hl.1 rfl (lv_room (Nat.le_of_ble_eq_true rfl)) dX5_needAt_20 ⟨Nat.le_of_ble_eq_true rfl, Nat.le_of_ble_eq_true rfl⟩) ?_
    have b_2 := (show 0 ≤ m_need (ar 1) (t - 97) ps ∧ m_need (ar 1) (t - 97) ps < 8 from ⟨Int.emod_nonneg _ (by decide), Int.emod_lt_of_pos _ (by decide)⟩)
    refine n_csi (x := 97 + (m_need (ar 1) (t - 97) ps)) (va_runS (As := [iv (m_need (ar 1) (t - 97) ps)]) (rest := []) ⟨hx, hb, hml, hown, hts⟩ (mt_X5_letter l E o (us (us sc 7 0) 8 (c_need (ar 1) t ps)) ar (m_need (ar 1) (t - 97) ps) (by omega)) (va_cwS 1 hts (lw_S q2223 q2224 q113 q2225) rfl rfl rfl (by decide +kernel) ⟨Nat.le_of_ble_eq_true rfl, Nat.le_of_ble_eq_true rfl⟩) (PW_S hP hK) rfl rfl hl.1 rfl (lv_room (Nat.le_of_ble_eq_true rfl)) dX5_needAt_23 ⟨Nat.le_of_ble_eq_true rfl, Nat.le_of_ble_eq_true rfl⟩) ?_
    have hfin : 97 + (m_need (ar 1) (t - 97) ps) = if 0 < c_need (ar 1) t ps then 32 else 97 + m_need (ar 1) (t - 97) ps := by
      first | exact (if_pos (by assumption)).symm | exact (if_neg (by assumption)).symm
    exact W.zret (v := iI (97 + (m_need (ar 1) (t - 97) ps))) hx hb hr (nr_c (by omega)) (fun tt_ ht_ hW_ => ⟨⟨iI (97 + (m_need (ar 1) (t - 97) ps)), (), rfl, (congrArg iI hfin), by rw [ht_]; exact hP, hD⟩, hS.F ht_⟩) hS.2.2 dX5_needAt_26
  · refine lv_bipush (v := iI 32) hx hb dX5_needAt_9 (by decide) ?_
    refine lv_goto (tgt := 26) hx hb dX5_needAt_11 (by decide) ?_
    have hfin : 32 = if 0 < c_need (ar 1) t ps then 32 else 97 + m_need (ar 1) (t - 97) ps := by
      first | exact (if_pos (by assumption)).symm | exact (if_neg (by assumption)).symm
    exact W.zret (v := iI 32) hx hb hr (nr_c (by omega)) (fun tt_ ht_ hW_ => ⟨⟨iI 32, (), rfl, (congrArg iI hfin), by rw [ht_]; exact hP, hD⟩, hS.F ht_⟩) hS.2.2 dX5_needAt_26
set_option maxHeartbeats 4000000 in
set_option maxRecDepth 100000 in
theorem mt_X5_isLazyNeed (l : Launch) (E : EE) (o : Nat → Nat) (sc : Nat → Int) (ar : Nat → Int → Int) (t : Int) (ps : Int) (hB : ∀ k x, 0 ≤ ar k x ∧ ar k x < 2147483648) (ht : 0 ≤ t ∧ t < 65536) (hp : -2147483648 ≤ ps ∧ ps < 2147483648) (htw : TW (ar 1)) (sz : Nat) : Met l yX5_isLazyNeed (ws_ yX5_isLazyNeed cX5_isLazyNeed 3 (some .boolean)) { frames := 4, cells := 0, slots := 0, locals := 86 } (va_Pc [.ref (o 0), iv t, iv ps] (UW E (MW E o sc ar) sz)) (UQi E (b2 (!(decide (0 < c_need (ar 1) t ps)) && !(m_dir (ar 1) (t - 97) ps))) (MW E o (us (us sc 7 0) 8 (c_need (ar 1) t ps)) ar) (va_A (MW E o sc ar) sz)) 0 0 (va_A (MW E o sc ar) sz) := by
  refine Met.ofW (cc := cX5_isLazyNeed) (maxL := 3) (ret := (some .boolean)) (by decide) rfl ?_
  intro p e s m args below meth c s₁ B hml hv
  obtain ⟨rfl, hsz, hP, hK, hD0⟩ := hv
  have hx := B.exec
  have hb := B.bytes
  have hr := B.returns
  have hts := atoms_spec (ws := (ws_ yX5_isLazyNeed cX5_isLazyNeed 3 (some .boolean))) B.pre
  have hts : ∀ w ∈ lw_all, w.before _ s = true := fun w h => hts w (List.mem_cons_of_mem _ h)
  have hown : s.vm.findClass RX5 = some m.cls := findClass_of_methodNamed B.named
  have hlocks := B.notSynchronized
  subst hsz
  have hD := hD0.self (sz := s.heap.size)
  generalize hAe : va_A (MW E o sc ar) s.heap.size = A at hD ⊢
  have hA : ∀ q : Nat, s.heap.size ≤ q → A q := fun q h => by rw [← hAe]; exact Or.inr h
  have hS : va_S A s.heap s.heap [] := va_S.rf
  have hl := lv_entry ([.ref (o 0), iv t, iv ps]) (n := 3) (Nat.le_of_ble_eq_true rfl)
  rw [lg_entry_eq]
  generalize (lg_sl ([.ref (o 0), iv t, iv ps]) ++ List.replicate (3 - (lg_sl ([.ref (o 0), iv t, iv ps])).length) Slot.unset).toArray = ls at hl ⊢
  have hl : lv_has ls 3 [(0, .ref (o 0)), (1, iv t), (2, iv ps)] := hl
  refine lv_aload_n hx hb dX5_isLazyNeed_0 rfl (lv_at hl 0 rfl) ?_
  refine lv_iload_n hx hb dX5_isLazyNeed_1 rfl (lv_at hl 1 rfl) ?_
  refine lv_iload_n hx hb dX5_isLazyNeed_2 rfl (lv_at hl 2 rfl) ?_
  refine n_cui (x := b2 (decide (0 < c_need (ar 1) t ps))) (va_runV (As := [iv t, iv ps]) (rest := []) ⟨hx, hb, hml, hown, hts⟩ (mt_X5_isNoNeed l E o sc ar t ps hB (by omega) (by omega) (by assumption) _) (cwV 2 hts (lw_V q2219 q2221 qs65 q113 q2222) rfl rfl rfl (by decide +kernel) ⟨Nat.le_of_ble_eq_true rfl, Nat.le_of_ble_eq_true rfl⟩) (UW_V hP hK (hD) (va_recv hK.1 hP (ci := 0) (q0 := 0) rfl rfl)) rfl rfl hl.1 rfl (lv_room (Nat.le_of_ble_eq_true rfl)) dX5_isLazyNeed_3 ⟨Nat.le_of_ble_eq_true rfl, Nat.le_of_ble_eq_true rfl⟩) hD hS hA (fun H locs hP hD hS => ?_)
  have hP : va_P E.1 CL (MW E o (us (us sc 7 0) 8 (c_need (ar 1) t ps)) ar) H := hP
  have hD : va_D A (MW E o (us (us sc 7 0) 8 (c_need (ar 1) t ps)) ar) := hD
  refine n_ifd_ne (tgt := 25) hx hb dX5_isLazyNeed_6 (by decide) (fun c_1 => ?_) (fun c_1 => ?_)
  · refine lv_iconst (v := iI 0) hx hb dX5_isLazyNeed_25 rfl ?_
    have hfin : 0 = b2 (!(decide (0 < c_need (ar 1) t ps)) && !(m_dir (ar 1) (t - 97) ps)) := by
      simp [*, b2]
    exact W.zret (v := iI 0) hx hb hr (nr_b (by decide)) (fun tt_ ht_ hW_ => ⟨⟨iI 0, (), rfl, (congrArg iI hfin), by rw [ht_]; exact hP, hD⟩, hS.F ht_⟩) hS.2.2 dX5_isLazyNeed_26
  · have hz := c_need_ok (by assumption)
    have hy := htw (t - 97) (by omega) (by omega)
    refine lv_aload_n hx hb dX5_isLazyNeed_9 rfl (lv_at hl 0 rfl) ?_
    refine lv_iload_n hx hb dX5_isLazyNeed_10 rfl (lv_at hl 1 rfl) ?_
    refine lv_bipush (v := iI 97) hx hb dX5_isLazyNeed_11 (by decide) ?_
    refine n_isub hx hb dX5_isLazyNeed_13 ?_
    refine lv_iload_n hx hb dX5_isLazyNeed_14 rfl (lv_at hl 2 rfl) ?_
    refine n_csi (x := b2 (m_dir (ar 1) (t - 97) ps)) (va_runV (As := [iv (t - 97), iv ps]) (rest := []) ⟨hx, hb, hml, hown, hts⟩ (mt_X5_isDirect l E o (us (us sc 7 0) 8 (c_need (ar 1) t ps)) ar (t - 97) ps hB (by omega) (by omega)) (cwV 2 hts (lw_V q2187 q2189 qs63 q113 q2190) rfl rfl rfl (by decide +kernel) ⟨Nat.le_of_ble_eq_true rfl, Nat.le_of_ble_eq_true rfl⟩) (PW_V hP hK (va_recv hK.1 hP (ci := 0) (q0 := 0) rfl rfl)) rfl rfl hl.1 rfl (lv_room (Nat.le_of_ble_eq_true rfl)) dX5_isLazyNeed_15 ⟨Nat.le_of_ble_eq_true rfl, Nat.le_of_ble_eq_true rfl⟩) ?_
    refine n_ifb_ne (tgt := 25) hx hb dX5_isLazyNeed_18 (by decide) (fun c_2 => ?_) (fun c_2 => ?_)
    · refine lv_iconst (v := iI 0) hx hb dX5_isLazyNeed_25 rfl ?_
      have hfin : 0 = b2 (!(decide (0 < c_need (ar 1) t ps)) && !(m_dir (ar 1) (t - 97) ps)) := by
        simp [*, b2]
      exact W.zret (v := iI 0) hx hb hr (nr_b (by decide)) (fun tt_ ht_ hW_ => ⟨⟨iI 0, (), rfl, (congrArg iI hfin), by rw [ht_]; exact hP, hD⟩, hS.F ht_⟩) hS.2.2 dX5_isLazyNeed_26
    · refine lv_iconst (v := iI 1) hx hb dX5_isLazyNeed_21 rfl ?_
      refine lv_goto (tgt := 26) hx hb dX5_isLazyNeed_22 (by decide) ?_
      have hfin : 1 = b2 (!(decide (0 < c_need (ar 1) t ps)) && !(m_dir (ar 1) (t - 97) ps)) := by
        simp [*, b2]
      exact W.zret (v := iI 1) hx hb hr (nr_b (by decide)) (fun tt_ ht_ hW_ => ⟨⟨iI 1, (), rfl, (congrArg iI hfin), by rw [ht_]; exact hP, hD⟩, hS.F ht_⟩) hS.2.2 dX5_isLazyNeed_26
set_option maxHeartbeats 4000000 in
set_option maxRecDepth 100000 in
theorem mt_X5_next (l : Launch) (E : EE) (o : Nat → Nat) (sc : Nat → Int) (ar : Nat → Int → Int) (t : Int) (a : Bool) (hB : ∀ k x, 0 ≤ ar k x ∧ ar k x < 2147483648) (h : 0 ≤ t ∧ t < 8) (htw : TW (ar 1)) (hsw : SwOK (ar 1)) : Met l yX5_next (ws_ yX5_next cX5_next 5 (some .int)) { frames := 2, cells := 0, slots := 0, locals := 44 } (va_Pc [.ref (o 0), iv t, iv (b2 a)] (PW E (MW E o sc ar))) (NP (bsI (m_edge (ar 1) a t))) 0 0 (fun _ => False) := by
  refine Met.ofW (cc := cX5_next) (maxL := 5) (ret := (some .int)) (by decide) rfl ?_
  intro p e s m args below meth c s₁ B hml hv
  obtain ⟨rfl, hP, hK⟩ := hv
  have hx := B.exec
  have hb := B.bytes
  have hr := B.returns
  have hts := atoms_spec (ws := (ws_ yX5_next cX5_next 5 (some .int))) B.pre
  have hts : ∀ w ∈ lw_all, w.before _ s = true := fun w h => hts w (List.mem_cons_of_mem _ h)
  have hown : s.vm.findClass RX5 = some m.cls := findClass_of_methodNamed B.named
  have hlocks := B.notSynchronized
  have hl := lv_entry ([.ref (o 0), iv t, iv (b2 a)]) (n := 5) (Nat.le_of_ble_eq_true rfl)
  rw [lg_entry_eq]
  generalize (lg_sl ([.ref (o 0), iv t, iv (b2 a)]) ++ List.replicate (5 - (lg_sl ([.ref (o 0), iv t, iv (b2 a)])).length) Slot.unset).toArray = ls at hl ⊢
  have hl : lv_has ls 5 [(0, .ref (o 0)), (1, iv t), (2, iv (b2 a))] := hl
  have hnn := htw t h.1 h.2
  refine lv_iconst (v := iI 0) hx hb dX5_next_0 rfl ?_
  refine lv_istore_n (lv' := [(3, iv 0), (0, .ref (o 0)), (1, iv t), (2, iv (b2 a))]) hx hb dX5_next_1 rfl hl (by decide) rfl (fun ls hl => ?_)
  refine lv_aload_n hx hb dX5_next_2 rfl (lv_at hl 1 rfl) ?_
  refine lv_iload_n hx hb dX5_next_3 rfl (lv_at hl 2 rfl) ?_
  refine n_csi (x := b2 (m_has (ar 1) t)) (va_runV (As := [iv t]) (rest := []) ⟨hx, hb, hml, hown, hts⟩ (mt_X5_has l E o sc ar t hB (by omega)) (cwV 1 hts (lw_V q2116 q2118 qs48 q113 q2119) rfl rfl rfl (by decide +kernel) ⟨Nat.le_of_ble_eq_true rfl, Nat.le_of_ble_eq_true rfl⟩) (PW_V hP hK (va_recv hK.1 hP (ci := 0) (q0 := 0) rfl rfl)) rfl rfl hl.1 rfl (lv_room (Nat.le_of_ble_eq_true rfl)) dX5_next_4 ⟨Nat.le_of_ble_eq_true rfl, Nat.le_of_ble_eq_true rfl⟩) ?_
  refine n_ifb_ne (tgt := 12) hx hb dX5_next_7 (by decide) (fun c_1 => ?_) (fun c_1 => ?_)
  · refine lv_iconst (v := iI 0) hx hb dX5_next_12 rfl ?_
    refine lv_istore (lv' := [(4, iv 0), (3, iv 0), (0, .ref (o 0)), (1, iv t), (2, iv (b2 a))]) hx hb dX5_next_13 hl (by decide) rfl (fun ls hl => ?_)
    have l15 : ∀ (fu : Nat) (f3 : Int → Bool) (x4 : Int), (0 ≤ x4 ∧ x4 ≤ m_of (ar 1) t 2) → (∀ u, f3 u = exB (fun k => (a || m_dir (ar 1) t k) && decide (m_stands (ar 1) (m_need (ar 1) t k) = u)) x4) → (m_of (ar 1) t 2 - x4 < (fu : Int)) → ∀ ls : Array Slot, lv_has ls 5 [(4, iv x4), (3, iv (bsI f3)), (0, .ref (o 0)), (1, iv t), (2, iv (b2 a))] → W p l e (headSpec (ws_ yX5_next cX5_next 5 (some .int)) { frames := 2, cells := 0, slots := 0, locals := 44 }).room s m ([.ref (o 0), iv t, iv (b2 a)] : List Value).toArray below meth c s.heap [] 0 0 (MQ below (NP (bsI (m_edge (ar 1) a t))) ([.ref (o 0), iv t, iv (b2 a)] : List Value).toArray s 0 0 (fun _ => False)) (F0 m 15 ls []) := by
      intro fu
      induction fu with
      | zero =>
        intro f3 x4 il15_0 il15_1 hm
        exfalso; omega
      | succ fu ih =>
        intro f3 x4 il15_0 il15_1 hm ls hl
        have ihl15 := ih
        refine lv_iload hx hb dX5_next_15 (lv_at hl 0 rfl) ?_
        refine lv_aload_n hx hb dX5_next_17 rfl (lv_at hl 2 rfl) ?_
        refine lv_iload_n hx hb dX5_next_18 rfl (lv_at hl 3 rfl) ?_
        refine lv_iconst (v := iI 2) hx hb dX5_next_19 rfl ?_
        refine n_csi (x := m_of (ar 1) t 2) (va_runV (As := [iv t, iv 2]) (rest := [iv x4]) ⟨hx, hb, hml, hown, hts⟩ (mt_X5_of l E o sc ar t 2 (by omega)) (cwV 2 hts (lw_V q2120 q2122 qs49 q113 q2123) rfl rfl rfl (by decide +kernel) ⟨Nat.le_of_ble_eq_true rfl, Nat.le_of_ble_eq_true rfl⟩) (PW_V hP hK (va_recv hK.1 hP (ci := 0) (q0 := 0) rfl rfl)) rfl rfl hl.1 rfl (lv_room (Nat.le_of_ble_eq_true rfl)) dX5_next_20 ⟨Nat.le_of_ble_eq_true rfl, Nat.le_of_ble_eq_true rfl⟩) ?_
        have b_2 := (show 0 ≤ m_of (ar 1) t 2 ∧ m_of (ar 1) t 2 < 2147483648 from (hB 1) _)
        refine n_icmp_ge (tgt := 62) hx hb dX5_next_23 (by decide) (by omega) (by omega) (fun c_3 => ?_) (fun c_3 => ?_)
        · refine lv_iload_n hx hb dX5_next_62 rfl (lv_at hl 1 rfl) ?_
          have hfin : bsI f3 = bsI (m_edge (ar 1) a t) := by
            obtain rfl : x4 = m_of (ar 1) t 2 := by omega
            exact bsI_ext (fun k _ _ => by unfold m_edge; rw [c_1, il15_1 k]; rfl)
          exact W.iret (v := iI (bsI f3)) hx hb hr (fun tt_ ht_ hW_ => ⟨iI (bsI f3), rfl, (congrArg iI hfin), ht_⟩) (fun q h => by cases h) dX5_next_63
        · refine lv_iload_n hx hb dX5_next_26 rfl (lv_at hl 4 rfl) ?_
          refine n_ifb_ne (tgt := 40) hx hb dX5_next_27 (by decide) (fun c_4 => ?_) (fun c_4 => ?_)
          · refine lv_iload_n hx hb dX5_next_40 rfl (lv_at hl 1 rfl) ?_
            refine lv_iconst (v := iI 1) hx hb dX5_next_41 rfl ?_
            refine lv_aload_n hx hb dX5_next_42 rfl (lv_at hl 2 rfl) ?_
            refine lv_aload_n hx hb dX5_next_43 rfl (lv_at hl 2 rfl) ?_
            refine lv_iload_n hx hb dX5_next_44 rfl (lv_at hl 3 rfl) ?_
            refine lv_iload hx hb dX5_next_45 (lv_at hl 0 rfl) ?_
            refine n_csi (x := m_need (ar 1) t x4) (va_runV (As := [iv t, iv x4]) (rest := [.ref (o 0), iv 1, iv (bsI f3)]) ⟨hx, hb, hml, hown, hts⟩ (mt_X5_need l E o sc ar t x4 hB (by omega) (by omega)) (cwV 2 hts (lw_V q2167 q2169 qs58 q113 q2170) rfl rfl rfl (by decide +kernel) ⟨Nat.le_of_ble_eq_true rfl, Nat.le_of_ble_eq_true rfl⟩) (PW_V hP hK (va_recv hK.1 hP (ci := 0) (q0 := 0) rfl rfl)) rfl rfl hl.1 rfl (lv_room (Nat.le_of_ble_eq_true rfl)) dX5_next_47 ⟨Nat.le_of_ble_eq_true rfl, Nat.le_of_ble_eq_true rfl⟩) ?_
            have b_5 := (show 0 ≤ m_need (ar 1) t x4 ∧ m_need (ar 1) t x4 < 8 from ⟨Int.emod_nonneg _ (by decide), Int.emod_lt_of_pos _ (by decide)⟩)
            refine n_csi (x := m_stands (ar 1) (m_need (ar 1) t x4)) (va_runV (As := [iv (m_need (ar 1) t x4)]) (rest := [iv 1, iv (bsI f3)]) ⟨hx, hb, hml, hown, hts⟩ (mt_X5_stands l E o sc ar (m_need (ar 1) t x4) hB (by omega) (by assumption)) (cwV 1 hts (lw_V q2191 q2193 qs64 q113 q2194) rfl rfl rfl (by decide +kernel) ⟨Nat.le_of_ble_eq_true rfl, Nat.le_of_ble_eq_true rfl⟩) (PW_V hP hK (va_recv hK.1 hP (ci := 0) (q0 := 0) rfl rfl)) rfl rfl hl.1 rfl (lv_room (Nat.le_of_ble_eq_true rfl)) dX5_next_50 ⟨Nat.le_of_ble_eq_true rfl, Nat.le_of_ble_eq_true rfl⟩) ?_
            have b_6 := m_stands_r (g := (ar 1)) (by assumption) (t := (m_need (ar 1) t x4)) (by omega)
            refine n_ishl1_bs hx hb (by omega) dX5_next_53 ?_
            refine n_ior_bs hx hb dX5_next_54 ?_
            refine lv_istore_n (lv' := [(3, iv (bsI (fun v => f3 v || (fun v => decide (v = m_stands (ar 1) (m_need (ar 1) t x4))) v))), (4, iv x4), (0, .ref (o 0)), (1, iv t), (2, iv (b2 a))]) hx hb dX5_next_55 rfl hl (by decide) rfl (fun ls hl => ?_)
            refine lv_iinc (v := iI (x4 + 1)) (lv' := [(4, iv (x4 + 1)), (3, iv (bsI (fun v => f3 v || (fun v => decide (v = m_stands (ar 1) (m_need (ar 1) t x4))) v))), (0, .ref (o 0)), (1, iv t), (2, iv (b2 a))]) hx hb dX5_next_56 hl (k := 1) rfl (iI_add _ _) (by decide) rfl (fun ls hl => ?_)
            refine lv_goto (tgt := 15) hx hb dX5_next_59 (by decide) ?_
            exact ihl15 (fun v => f3 v || (fun v => decide (v = m_stands (ar 1) (m_need (ar 1) t x4))) v) (x4 + 1) (by first | omega | rfl) (by intro u; rw [exB_s (by omega), ← il15_1 u]; simp [*, eq_comm]) (by omega) ls (lv_sub hl [0, 1, 2, 3, 4] rfl)
          · refine lv_aload_n hx hb dX5_next_30 rfl (lv_at hl 2 rfl) ?_
            refine lv_iload_n hx hb dX5_next_31 rfl (lv_at hl 3 rfl) ?_
            refine lv_iload hx hb dX5_next_32 (lv_at hl 0 rfl) ?_
            refine n_csi (x := b2 (m_dir (ar 1) t x4)) (va_runV (As := [iv t, iv x4]) (rest := []) ⟨hx, hb, hml, hown, hts⟩ (mt_X5_isDirect l E o sc ar t x4 hB (by omega) (by omega)) (cwV 2 hts (lw_V q2187 q2189 qs63 q113 q2190) rfl rfl rfl (by decide +kernel) ⟨Nat.le_of_ble_eq_true rfl, Nat.le_of_ble_eq_true rfl⟩) (PW_V hP hK (va_recv hK.1 hP (ci := 0) (q0 := 0) rfl rfl)) rfl rfl hl.1 rfl (lv_room (Nat.le_of_ble_eq_true rfl)) dX5_next_34 ⟨Nat.le_of_ble_eq_true rfl, Nat.le_of_ble_eq_true rfl⟩) ?_
            refine n_ifb_eq (tgt := 56) hx hb dX5_next_37 (by decide) (fun c_7 => ?_) (fun c_7 => ?_)
            · refine lv_iinc (v := iI (x4 + 1)) (lv' := [(4, iv (x4 + 1)), (3, iv (bsI f3)), (0, .ref (o 0)), (1, iv t), (2, iv (b2 a))]) hx hb dX5_next_56 hl (k := 0) rfl (iI_add _ _) (by decide) rfl (fun ls hl => ?_)
              refine lv_goto (tgt := 15) hx hb dX5_next_59 (by decide) ?_
              exact ihl15 f3 (x4 + 1) (by first | omega | rfl) (by intro u; rw [exB_s (by omega), ← il15_1 u]; simp [*, eq_comm]) (by omega) ls (lv_sub hl [0, 1, 2, 3, 4] rfl)
            · refine lv_iload_n hx hb dX5_next_40 rfl (lv_at hl 1 rfl) ?_
              refine lv_iconst (v := iI 1) hx hb dX5_next_41 rfl ?_
              refine lv_aload_n hx hb dX5_next_42 rfl (lv_at hl 2 rfl) ?_
              refine lv_aload_n hx hb dX5_next_43 rfl (lv_at hl 2 rfl) ?_
              refine lv_iload_n hx hb dX5_next_44 rfl (lv_at hl 3 rfl) ?_
              refine lv_iload hx hb dX5_next_45 (lv_at hl 0 rfl) ?_
              refine n_csi (x := m_need (ar 1) t x4) (va_runV (As := [iv t, iv x4]) (rest := [.ref (o 0), iv 1, iv (bsI f3)]) ⟨hx, hb, hml, hown, hts⟩ (mt_X5_need l E o sc ar t x4 hB (by omega) (by omega)) (cwV 2 hts (lw_V q2167 q2169 qs58 q113 q2170) rfl rfl rfl (by decide +kernel) ⟨Nat.le_of_ble_eq_true rfl, Nat.le_of_ble_eq_true rfl⟩) (PW_V hP hK (va_recv hK.1 hP (ci := 0) (q0 := 0) rfl rfl)) rfl rfl hl.1 rfl (lv_room (Nat.le_of_ble_eq_true rfl)) dX5_next_47 ⟨Nat.le_of_ble_eq_true rfl, Nat.le_of_ble_eq_true rfl⟩) ?_
              have b_8 := (show 0 ≤ m_need (ar 1) t x4 ∧ m_need (ar 1) t x4 < 8 from ⟨Int.emod_nonneg _ (by decide), Int.emod_lt_of_pos _ (by decide)⟩)
              refine n_csi (x := m_stands (ar 1) (m_need (ar 1) t x4)) (va_runV (As := [iv (m_need (ar 1) t x4)]) (rest := [iv 1, iv (bsI f3)]) ⟨hx, hb, hml, hown, hts⟩ (mt_X5_stands l E o sc ar (m_need (ar 1) t x4) hB (by omega) (by assumption)) (cwV 1 hts (lw_V q2191 q2193 qs64 q113 q2194) rfl rfl rfl (by decide +kernel) ⟨Nat.le_of_ble_eq_true rfl, Nat.le_of_ble_eq_true rfl⟩) (PW_V hP hK (va_recv hK.1 hP (ci := 0) (q0 := 0) rfl rfl)) rfl rfl hl.1 rfl (lv_room (Nat.le_of_ble_eq_true rfl)) dX5_next_50 ⟨Nat.le_of_ble_eq_true rfl, Nat.le_of_ble_eq_true rfl⟩) ?_
              have b_9 := m_stands_r (g := (ar 1)) (by assumption) (t := (m_need (ar 1) t x4)) (by omega)
              refine n_ishl1_bs hx hb (by omega) dX5_next_53 ?_
              refine n_ior_bs hx hb dX5_next_54 ?_
              refine lv_istore_n (lv' := [(3, iv (bsI (fun v => f3 v || (fun v => decide (v = m_stands (ar 1) (m_need (ar 1) t x4))) v))), (4, iv x4), (0, .ref (o 0)), (1, iv t), (2, iv (b2 a))]) hx hb dX5_next_55 rfl hl (by decide) rfl (fun ls hl => ?_)
              refine lv_iinc (v := iI (x4 + 1)) (lv' := [(4, iv (x4 + 1)), (3, iv (bsI (fun v => f3 v || (fun v => decide (v = m_stands (ar 1) (m_need (ar 1) t x4))) v))), (0, .ref (o 0)), (1, iv t), (2, iv (b2 a))]) hx hb dX5_next_56 hl (k := 1) rfl (iI_add _ _) (by decide) rfl (fun ls hl => ?_)
              refine lv_goto (tgt := 15) hx hb dX5_next_59 (by decide) ?_
              exact ihl15 (fun v => f3 v || (fun v => decide (v = m_stands (ar 1) (m_need (ar 1) t x4))) v) (x4 + 1) (by first | omega | rfl) (by intro u; rw [exB_s (by omega), ← il15_1 u]; simp [*, eq_comm]) (by omega) ls (lv_sub hl [0, 1, 2, 3, 4] rfl)
    exact l15 4 (fun _ => false) 0 (by first | omega | rfl | trivial) (by intro u; rfl) (by omega) ls hl
  · refine lv_iconst (v := iI 0) hx hb dX5_next_10 rfl ?_
    have hfin : 0 = bsI (m_edge (ar 1) a t) := by
      rw [← bsI_no]
      exact bsI_ext (fun k _ _ => by unfold m_edge; rw [c_1]; rfl)
    exact W.iret (v := iI 0) hx hb hr (fun tt_ ht_ hW_ => ⟨iI 0, rfl, (congrArg iI hfin), ht_⟩) (fun q h => by cases h) dX5_next_11
set_option maxHeartbeats 4000000 in
set_option maxRecDepth 100000 in
theorem mt_X5_nextOf (l : Launch) (E : EE) (o : Nat → Nat) (sc : Nat → Int) (ar : Nat → Int → Int) (f : Int → Bool) (a : Bool) (hB : ∀ k x, 0 ≤ ar k x ∧ ar k x < 2147483648) (htw : TW (ar 1)) (hsw : SwOK (ar 1)) : Met l yX5_nextOf (ws_ yX5_nextOf cX5_nextOf 5 (some .int)) { frames := 3, cells := 0, slots := 0, locals := 68 } (va_Pc [.ref (o 0), iv (bsI f), iv (b2 a)] (PW E (MW E o sc ar))) (NP (bsI (m_nextOf (ar 1) f a))) 0 0 (fun _ => False) := by
  refine Met.ofW (cc := cX5_nextOf) (maxL := 5) (ret := (some .int)) (by decide) rfl ?_
  intro p e s m args below meth c s₁ B hml hv
  obtain ⟨rfl, hP, hK⟩ := hv
  have hx := B.exec
  have hb := B.bytes
  have hr := B.returns
  have hts := atoms_spec (ws := (ws_ yX5_nextOf cX5_nextOf 5 (some .int))) B.pre
  have hts : ∀ w ∈ lw_all, w.before _ s = true := fun w h => hts w (List.mem_cons_of_mem _ h)
  have hown : s.vm.findClass RX5 = some m.cls := findClass_of_methodNamed B.named
  have hlocks := B.notSynchronized
  have hl := lv_entry ([.ref (o 0), iv (bsI f), iv (b2 a)]) (n := 5) (Nat.le_of_ble_eq_true rfl)
  rw [lg_entry_eq]
  generalize (lg_sl ([.ref (o 0), iv (bsI f), iv (b2 a)]) ++ List.replicate (5 - (lg_sl ([.ref (o 0), iv (bsI f), iv (b2 a)])).length) Slot.unset).toArray = ls at hl ⊢
  have hl : lv_has ls 5 [(0, .ref (o 0)), (1, iv (bsI f)), (2, iv (b2 a))] := hl
  refine lv_iconst (v := iI 0) hx hb dX5_nextOf_0 rfl ?_
  refine lv_istore_n (lv' := [(3, iv 0), (0, .ref (o 0)), (1, iv (bsI f)), (2, iv (b2 a))]) hx hb dX5_nextOf_1 rfl hl (by decide) rfl (fun ls hl => ?_)
  refine lv_iconst (v := iI 0) hx hb dX5_nextOf_2 rfl ?_
  refine lv_istore (lv' := [(4, iv 0), (3, iv 0), (0, .ref (o 0)), (1, iv (bsI f)), (2, iv (b2 a))]) hx hb dX5_nextOf_3 hl (by decide) rfl (fun ls hl => ?_)
  have l5 : ∀ (fu : Nat) (f3 : Int → Bool) (x4 : Int), (0 ≤ x4 ∧ x4 ≤ 8) → (∀ u, f3 u = exB (fun k => f k && m_edge (ar 1) a k u) x4) → (8 - x4 < (fu : Int)) → ∀ ls : Array Slot, lv_has ls 5 [(4, iv x4), (3, iv (bsI f3)), (0, .ref (o 0)), (1, iv (bsI f)), (2, iv (b2 a))] → W p l e (headSpec (ws_ yX5_nextOf cX5_nextOf 5 (some .int)) { frames := 3, cells := 0, slots := 0, locals := 68 }).room s m ([.ref (o 0), iv (bsI f), iv (b2 a)] : List Value).toArray below meth c s.heap [] 0 0 (MQ below (NP (bsI (m_nextOf (ar 1) f a))) ([.ref (o 0), iv (bsI f), iv (b2 a)] : List Value).toArray s 0 0 (fun _ => False)) (F0 m 5 ls []) := by
    intro fu
    induction fu with
    | zero =>
      intro f3 x4 il5_0 il5_1 hm
      exfalso; omega
    | succ fu ih =>
      intro f3 x4 il5_0 il5_1 hm ls hl
      have ihl5 := ih
      refine lv_iload hx hb dX5_nextOf_5 (lv_at hl 0 rfl) ?_
      refine lv_bipush (v := iI 8) hx hb dX5_nextOf_7 (by decide) ?_
      refine n_icmp_ge (tgt := 38) hx hb dX5_nextOf_9 (by decide) (by omega) (by omega) (fun c_1 => ?_) (fun c_1 => ?_)
      · refine lv_iload_n hx hb dX5_nextOf_38 rfl (lv_at hl 1 rfl) ?_
        have hfin : bsI f3 = bsI (m_nextOf (ar 1) f a) := by
          obtain rfl : x4 = 8 := by omega
          exact bsI_ext (fun k _ _ => il5_1 k)
        exact W.iret (v := iI (bsI f3)) hx hb hr (fun tt_ ht_ hW_ => ⟨iI (bsI f3), rfl, (congrArg iI hfin), ht_⟩) (fun q h => by cases h) dX5_nextOf_39
      · refine lv_iload_n hx hb dX5_nextOf_12 rfl (lv_at hl 3 rfl) ?_
        refine lv_iload hx hb dX5_nextOf_13 (lv_at hl 0 rfl) ?_
        have b_2 := bsI_r f
        refine n_ishr hx hb (by omega) (by omega) dX5_nextOf_15 ?_
        refine lv_iconst (v := iI 1) hx hb dX5_nextOf_16 rfl ?_
        refine n_iand1 hx hb dX5_nextOf_17 ?_
        rw [bsI_bit f (by omega)]
        refine lv_iconst (v := iI 1) hx hb dX5_nextOf_18 rfl ?_
        refine n_icmpb_ne (tgt := 32) hx hb dX5_nextOf_19 (by decide) (fun c_3 => ?_) (fun c_3 => ?_)
        · refine lv_iinc (v := iI (x4 + 1)) (lv' := [(4, iv (x4 + 1)), (3, iv (bsI f3)), (0, .ref (o 0)), (1, iv (bsI f)), (2, iv (b2 a))]) hx hb dX5_nextOf_32 hl (k := 0) rfl (iI_add _ _) (by decide) rfl (fun ls hl => ?_)
          refine lv_goto (tgt := 5) hx hb dX5_nextOf_35 (by decide) ?_
          exact ihl5 f3 (x4 + 1) (by first | omega | rfl) (by intro u; rw [exB_s (by omega), ← il5_1 u]; simp [*]) (by omega) ls (lv_sub hl [0, 1, 2, 3, 4] rfl)
        · refine lv_iload_n hx hb dX5_nextOf_22 rfl (lv_at hl 1 rfl) ?_
          refine lv_aload_n hx hb dX5_nextOf_23 rfl (lv_at hl 2 rfl) ?_
          refine lv_iload hx hb dX5_nextOf_24 (lv_at hl 0 rfl) ?_
          refine lv_iload_n hx hb dX5_nextOf_26 rfl (lv_at hl 4 rfl) ?_
          refine n_csi (x := bsI (m_edge (ar 1) a x4)) (va_runV (As := [iv x4, iv (b2 a)]) (rest := [iv (bsI f3)]) ⟨hx, hb, hml, hown, hts⟩ (mt_X5_next l E o sc ar x4 a hB (by omega) (by assumption) (by assumption)) (cwV 2 hts (lw_V q2183 q2185 qs62 q113 q2186) rfl rfl rfl (by decide +kernel) ⟨Nat.le_of_ble_eq_true rfl, Nat.le_of_ble_eq_true rfl⟩) (PW_V hP hK (va_recv hK.1 hP (ci := 0) (q0 := 0) rfl rfl)) rfl rfl hl.1 rfl (lv_room (Nat.le_of_ble_eq_true rfl)) dX5_nextOf_27 ⟨Nat.le_of_ble_eq_true rfl, Nat.le_of_ble_eq_true rfl⟩) ?_
          refine n_ior_bs hx hb dX5_nextOf_30 ?_
          refine lv_istore_n (lv' := [(3, iv (bsI (fun v => f3 v || (m_edge (ar 1) a x4) v))), (4, iv x4), (0, .ref (o 0)), (1, iv (bsI f)), (2, iv (b2 a))]) hx hb dX5_nextOf_31 rfl hl (by decide) rfl (fun ls hl => ?_)
          refine lv_iinc (v := iI (x4 + 1)) (lv' := [(4, iv (x4 + 1)), (3, iv (bsI (fun v => f3 v || (m_edge (ar 1) a x4) v))), (0, .ref (o 0)), (1, iv (bsI f)), (2, iv (b2 a))]) hx hb dX5_nextOf_32 hl (k := 1) rfl (iI_add _ _) (by decide) rfl (fun ls hl => ?_)
          refine lv_goto (tgt := 5) hx hb dX5_nextOf_35 (by decide) ?_
          exact ihl5 (fun v => f3 v || (m_edge (ar 1) a x4) v) (x4 + 1) (by first | omega | rfl) (by intro u; rw [exB_s (by omega), ← il5_1 u]; simp [*]) (by omega) ls (lv_sub hl [0, 1, 2, 3, 4] rfl)
  exact l5 9 (fun _ => false) 0 (by first | omega | rfl | trivial) (by intro u; rfl) (by omega) ls hl
set_option maxHeartbeats 4000000 in
set_option maxRecDepth 100000 in
theorem mt_X5_bits (l : Launch) (E : EE) (o : Nat → Nat) (sc : Nat → Int) (ar : Nat → Int → Int) (f : Int → Bool) : Met l yX5_bits (ws_ yX5_bits cX5_bits 3 (some .int)) { frames := 0, cells := 0, slots := 0, locals := 0 } (va_Pc [iv (bsI f)] (PW E (MW E o sc ar))) (NP (sumI (fun k => b2 (f k)) 8)) 0 0 (fun _ => False) := by
  refine Met.ofW (cc := cX5_bits) (maxL := 3) (ret := (some .int)) (by decide) rfl ?_
  intro p e s m args below meth c s₁ B hml hv
  obtain ⟨rfl, hP, hK⟩ := hv
  have hx := B.exec
  have hb := B.bytes
  have hr := B.returns
  have hts := atoms_spec (ws := (ws_ yX5_bits cX5_bits 3 (some .int))) B.pre
  have hts : ∀ w ∈ lw_all, w.before _ s = true := fun w h => hts w (List.mem_cons_of_mem _ h)
  have hown : s.vm.findClass RX5 = some m.cls := findClass_of_methodNamed B.named
  have hlocks := B.notSynchronized
  have hl := lv_entry ([iv (bsI f)]) (n := 3) (Nat.le_of_ble_eq_true rfl)
  rw [lg_entry_eq]
  generalize (lg_sl ([iv (bsI f)]) ++ List.replicate (3 - (lg_sl ([iv (bsI f)])).length) Slot.unset).toArray = ls at hl ⊢
  have hl : lv_has ls 3 [(0, iv (bsI f))] := hl
  refine lv_iconst (v := iI 0) hx hb dX5_bits_0 rfl ?_
  refine lv_istore_n (lv' := [(1, iv 0), (0, iv (bsI f))]) hx hb dX5_bits_1 rfl hl (by decide) rfl (fun ls hl => ?_)
  refine lv_iconst (v := iI 0) hx hb dX5_bits_2 rfl ?_
  refine lv_istore_n (lv' := [(2, iv 0), (1, iv 0), (0, iv (bsI f))]) hx hb dX5_bits_3 rfl hl (by decide) rfl (fun ls hl => ?_)
  have l4 : ∀ (fu : Nat) (x1 : Int) (x2 : Int), (0 ≤ x2 ∧ x2 ≤ 8) → (x1 = sumI (fun k => b2 (f k)) x2) → (8 - x2 < (fu : Int)) → ∀ ls : Array Slot, lv_has ls 3 [(2, iv x2), (1, iv x1), (0, iv (bsI f))] → W p l e (headSpec (ws_ yX5_bits cX5_bits 3 (some .int)) { frames := 0, cells := 0, slots := 0, locals := 0 }).room s m ([iv (bsI f)] : List Value).toArray below meth c s.heap [] 0 0 (MQ below (NP (sumI (fun k => b2 (f k)) 8)) ([iv (bsI f)] : List Value).toArray s 0 0 (fun _ => False)) (F0 m 4 ls []) := by
    intro fu
    induction fu with
    | zero =>
      intro x1 x2 il4_0 il4_1 hm
      exfalso; omega
    | succ fu ih =>
      intro x1 x2 il4_0 il4_1 hm ls hl
      have ihl4 := ih
      refine lv_iload_n hx hb dX5_bits_4 rfl (lv_at hl 0 rfl) ?_
      refine lv_bipush (v := iI 8) hx hb dX5_bits_5 (by decide) ?_
      refine n_icmp_ge (tgt := 24) hx hb dX5_bits_7 (by decide) (by omega) (by omega) (fun c_1 => ?_) (fun c_1 => ?_)
      · refine lv_iload_n hx hb dX5_bits_24 rfl (lv_at hl 1 rfl) ?_
        have hfin : x1 = sumI (fun k => b2 (f k)) 8 := by
          obtain rfl : x2 = 8 := by omega
          exact il4_1
        exact W.iret (v := iI x1) hx hb hr (fun tt_ ht_ hW_ => ⟨iI x1, rfl, (congrArg iI hfin), ht_⟩) (fun q h => by cases h) dX5_bits_25
      · refine lv_iload_n hx hb dX5_bits_10 rfl (lv_at hl 1 rfl) ?_
        refine lv_iload_n hx hb dX5_bits_11 rfl (lv_at hl 2 rfl) ?_
        refine lv_iload_n hx hb dX5_bits_12 rfl (lv_at hl 0 rfl) ?_
        have b_2 := bsI_r f
        refine n_ishr hx hb (by omega) (by omega) dX5_bits_13 ?_
        refine lv_iconst (v := iI 1) hx hb dX5_bits_14 rfl ?_
        refine n_iand1 hx hb dX5_bits_15 ?_
        rw [bsI_bit f (by omega)]
        refine n_iadd hx hb dX5_bits_16 ?_
        refine lv_istore_n (lv' := [(1, iv (x1 + (b2 (f x2)))), (2, iv x2), (0, iv (bsI f))]) hx hb dX5_bits_17 rfl hl (by decide) rfl (fun ls hl => ?_)
        refine lv_iinc (v := iI (x2 + 1)) (lv' := [(2, iv (x2 + 1)), (1, iv (x1 + (b2 (f x2)))), (0, iv (bsI f))]) hx hb dX5_bits_18 hl (k := 1) rfl (iI_add _ _) (by decide) rfl (fun ls hl => ?_)
        refine lv_goto (tgt := 4) hx hb dX5_bits_21 (by decide) ?_
        exact ihl4 (x1 + (b2 (f x2))) (x2 + 1) (by first | omega | rfl) (by rw [sumI_s (by omega), ← il4_1]) (by omega) ls (lv_sub hl [0, 1, 2] rfl)
  exact l4 9 0 0 (by first | omega | rfl | trivial) (by rfl) (by omega) ls hl
set_option maxHeartbeats 4000000 in
set_option maxRecDepth 100000 in
theorem mt_X5_standInFor (l : Launch) (E : EE) (o : Nat → Nat) (sc : Nat → Int) (ar : Nat → Int → Int) (t : Int) (hB : ∀ k x, 0 ≤ ar k x ∧ ar k x < 2147483648) (ht : 0 ≤ t ∧ t < 65536) (hsw : SwOK (ar 1)) (sz : Nat) : Met l yX5_standInFor (ws_ yX5_standInFor cX5_standInFor 2 (some .char)) { frames := 2, cells := 0, slots := 0, locals := 44 } (va_Pc [.ref (o 0), iv t] (UW E (MW E o sc ar) sz)) (UQi E (if 0 < c_tool t then 32 else 97 + m_stands (ar 1) (t - 97)) (MW E o (us (us sc 7 0) 8 (c_tool t)) ar) (va_A (MW E o sc ar) sz)) 0 0 (va_A (MW E o sc ar) sz) := by
  refine Met.ofW (cc := cX5_standInFor) (maxL := 2) (ret := (some .char)) (by decide) rfl ?_
  intro p e s m args below meth c s₁ B hml hv
  obtain ⟨rfl, hsz, hP, hK, hD0⟩ := hv
  have hx := B.exec
  have hb := B.bytes
  have hr := B.returns
  have hts := atoms_spec (ws := (ws_ yX5_standInFor cX5_standInFor 2 (some .char))) B.pre
  have hts : ∀ w ∈ lw_all, w.before _ s = true := fun w h => hts w (List.mem_cons_of_mem _ h)
  have hown : s.vm.findClass RX5 = some m.cls := findClass_of_methodNamed B.named
  have hlocks := B.notSynchronized
  subst hsz
  have hD := hD0.self (sz := s.heap.size)
  generalize hAe : va_A (MW E o sc ar) s.heap.size = A at hD ⊢
  have hA : ∀ q : Nat, s.heap.size ≤ q → A q := fun q h => by rw [← hAe]; exact Or.inr h
  have hS : va_S A s.heap s.heap [] := va_S.rf
  have hl := lv_entry ([.ref (o 0), iv t]) (n := 2) (Nat.le_of_ble_eq_true rfl)
  rw [lg_entry_eq]
  generalize (lg_sl ([.ref (o 0), iv t]) ++ List.replicate (2 - (lg_sl ([.ref (o 0), iv t])).length) Slot.unset).toArray = ls at hl ⊢
  have hl : lv_has ls 2 [(0, .ref (o 0)), (1, iv t)] := hl
  refine lv_aload_n hx hb dX5_standInFor_0 rfl (lv_at hl 0 rfl) ?_
  have j_1 : W p l e (headSpec (ws_ yX5_standInFor cX5_standInFor 2 (some .char)) { frames := 2, cells := 0, slots := 0, locals := 44 }).room s m ([.ref (o 0), iv t] : List Value).toArray below meth c s.heap [] 0 0 (MQ below (UQi E (if 0 < c_tool t then 32 else 97 + m_stands (ar 1) (t - 97)) (MW E o (us (us sc 7 0) 8 (c_tool t)) ar) A) ([.ref (o 0), iv t] : List Value).toArray s 0 0 A) (F0 m 13 ls [iv (c_tool t), .ref (o 0)]) := by
    have b_2 := c_tool_r t
    refine n_cui (x := b2 (decide (0 < (c_tool t)))) (va_runV (As := [iv (c_tool t)]) (rest := []) ⟨hx, hb, hml, hown, hts⟩ (mt_X5_fails l E o sc ar (c_tool t) (by omega) _) (cwV 1 hts (lw_V q2124 q2126 qs50 q113 q2127) rfl rfl rfl (by decide +kernel) ⟨Nat.le_of_ble_eq_true rfl, Nat.le_of_ble_eq_true rfl⟩) (UW_V hP hK (hD) (va_recv hK.1 hP (ci := 0) (q0 := 0) rfl rfl)) rfl rfl hl.1 rfl (lv_room (Nat.le_of_ble_eq_true rfl)) dX5_standInFor_13 ⟨Nat.le_of_ble_eq_true rfl, Nat.le_of_ble_eq_true rfl⟩) hD hS hA (fun H locs hP hD hS => ?_)
    have hP : va_P E.1 CL (MW E o (us (us sc 7 0) 8 (c_tool t)) ar) H := hP
    have hD : va_D A (MW E o (us (us sc 7 0) 8 (c_tool t)) ar) := hD
    refine n_ifd_eq (tgt := 24) hx hb dX5_standInFor_16 (by decide) (fun c_3 => ?_) (fun c_3 => ?_)
    · have hz := c_tool_ok (by assumption)
      refine lv_aload_n hx hb dX5_standInFor_24 rfl (lv_at hl 0 rfl) ?_
      refine lv_iload_n hx hb dX5_standInFor_25 rfl (lv_at hl 1 rfl) ?_
      refine lv_bipush (v := iI 97) hx hb dX5_standInFor_26 (by decide) ?_
      refine n_isub hx hb dX5_standInFor_28 ?_
      refine n_csi (x := m_stands (ar 1) (t - 97)) (va_runV (As := [iv (t - 97)]) (rest := []) ⟨hx, hb, hml, hown, hts⟩ (mt_X5_stands l E o (us (us sc 7 0) 8 (c_tool t)) ar (t - 97) hB (by omega) (by assumption)) (cwV 1 hts (lw_V q2191 q2193 qs64 q113 q2194) rfl rfl rfl (by decide +kernel) ⟨Nat.le_of_ble_eq_true rfl, Nat.le_of_ble_eq_true rfl⟩) (PW_V hP hK (va_recv hK.1 hP (ci := 0) (q0 := 0) rfl rfl)) rfl rfl hl.1 rfl (lv_room (Nat.le_of_ble_eq_true rfl)) dX5_standInFor_29 ⟨Nat.le_of_ble_eq_true rfl, Nat.le_of_ble_eq_true rfl⟩) ?_
      have b_4 := m_stands_r (g := (ar 1)) (by assumption) (t := (t - 97)) (by omega)
      refine n_csi (x := 97 + (m_stands (ar 1) (t - 97))) (va_runS (As := [iv (m_stands (ar 1) (t - 97))]) (rest := []) ⟨hx, hb, hml, hown, hts⟩ (mt_X5_letter l E o (us (us sc 7 0) 8 (c_tool t)) ar (m_stands (ar 1) (t - 97)) (by omega)) (va_cwS 1 hts (lw_S q2223 q2224 q113 q2225) rfl rfl rfl (by decide +kernel) ⟨Nat.le_of_ble_eq_true rfl, Nat.le_of_ble_eq_true rfl⟩) (PW_S hP hK) rfl rfl hl.1 rfl (lv_room (Nat.le_of_ble_eq_true rfl)) dX5_standInFor_32 ⟨Nat.le_of_ble_eq_true rfl, Nat.le_of_ble_eq_true rfl⟩) ?_
      have hfin : 97 + (m_stands (ar 1) (t - 97)) = if 0 < c_tool t then 32 else 97 + m_stands (ar 1) (t - 97) := by
        first | exact (if_pos (by assumption)).symm | exact (if_neg (by assumption)).symm
      exact W.zret (v := iI (97 + (m_stands (ar 1) (t - 97)))) hx hb hr (nr_c (by omega)) (fun tt_ ht_ hW_ => ⟨⟨iI (97 + (m_stands (ar 1) (t - 97))), (), rfl, (congrArg iI hfin), by rw [ht_]; exact hP, hD⟩, hS.F ht_⟩) hS.2.2 dX5_standInFor_35
    · refine lv_bipush (v := iI 32) hx hb dX5_standInFor_19 (by decide) ?_
      refine lv_goto (tgt := 35) hx hb dX5_standInFor_21 (by decide) ?_
      have hfin : 32 = if 0 < c_tool t then 32 else 97 + m_stands (ar 1) (t - 97) := by
        first | exact (if_pos (by assumption)).symm | exact (if_neg (by assumption)).symm
      exact W.zret (v := iI 32) hx hb hr (nr_c (by omega)) (fun tt_ ht_ hW_ => ⟨⟨iI 32, (), rfl, (congrArg iI hfin), by rw [ht_]; exact hP, hD⟩, hS.F ht_⟩) hS.2.2 dX5_standInFor_35
  refine lv_iload_n hx hb dX5_standInFor_1 rfl (lv_at hl 1 rfl) ?_
  refine n_csi (x := b2 (decide (97 ≤ t ∧ t ≤ 104))) (va_runS (As := [iv t]) (rest := [.ref (o 0)]) ⟨hx, hb, hml, hown, hts⟩ (mt_X5_isTool l E o sc ar t (by omega)) (va_cwS 1 hts (lw_S q2107 q2108 q113 q2109) rfl rfl rfl (by decide +kernel) ⟨Nat.le_of_ble_eq_true rfl, Nat.le_of_ble_eq_true rfl⟩) (PW_S hP hK) rfl rfl hl.1 rfl (lv_room (Nat.le_of_ble_eq_true rfl)) dX5_standInFor_2 ⟨Nat.le_of_ble_eq_true rfl, Nat.le_of_ble_eq_true rfl⟩) ?_
  refine n_ifd_eq (tgt := 12) hx hb dX5_standInFor_5 (by decide) (fun c_5 => ?_) (fun c_5 => ?_)
  · refine lv_iconst (v := iI 1) hx hb dX5_standInFor_12 rfl ?_
    refine n_top (y := c_tool t) (by (try unfold c_tool); (repeat' split) <;> first | rfl | omega | contradiction | (exfalso; omega) | (simp_all; done)) ?_
    exact j_1
  · refine lv_iconst (v := iI 0) hx hb dX5_standInFor_8 rfl ?_
    refine lv_goto (tgt := 13) hx hb dX5_standInFor_9 (by decide) ?_
    refine n_top (y := c_tool t) (by (try unfold c_tool); (repeat' split) <;> first | rfl | omega | contradiction | (exfalso; omega) | (simp_all; done)) ?_
    exact j_1
set_option maxHeartbeats 4000000 in
set_option maxRecDepth 100000 in
theorem mt_X5_captives (l : Launch) (E : EE) (o : Nat → Nat) (sc : Nat → Int) (ar : Nat → Int → Int) (hB : ∀ k x, 0 ≤ ar k x ∧ ar k x < 2147483648) (htw : TW (ar 1)) (hsw : SwOK (ar 1)) (sz : Nat) : Met l yX5_captives (ws_ yX5_captives cX5_captives 4 (some .int)) { frames := 2, cells := 0, slots := 0, locals := 44 } (va_Pc [.ref (o 0)] (UW E (MW E o sc ar) sz)) (UQi E (m_capt (ar 1)) (MW E o (us sc 8 0) ar) (va_A (MW E o sc ar) sz)) 0 0 (va_A (MW E o sc ar) sz) := by
  refine Met.ofW (cc := cX5_captives) (maxL := 4) (ret := (some .int)) (by decide) rfl ?_
  intro p e s m args below meth c s₁ B hml hv
  obtain ⟨rfl, hsz, hP, hK, hD0⟩ := hv
  have hx := B.exec
  have hb := B.bytes
  have hr := B.returns
  have hts := atoms_spec (ws := (ws_ yX5_captives cX5_captives 4 (some .int))) B.pre
  have hts : ∀ w ∈ lw_all, w.before _ s = true := fun w h => hts w (List.mem_cons_of_mem _ h)
  have hown : s.vm.findClass RX5 = some m.cls := findClass_of_methodNamed B.named
  have hlocks := B.notSynchronized
  subst hsz
  have hD := hD0.self (sz := s.heap.size)
  generalize hAe : va_A (MW E o sc ar) s.heap.size = A at hD ⊢
  have hA : ∀ q : Nat, s.heap.size ≤ q → A q := fun q h => by rw [← hAe]; exact Or.inr h
  have hS : va_S A s.heap s.heap [] := va_S.rf
  have hl := lv_entry ([.ref (o 0)]) (n := 4) (Nat.le_of_ble_eq_true rfl)
  rw [lg_entry_eq]
  generalize (lg_sl ([.ref (o 0)]) ++ List.replicate (4 - (lg_sl ([.ref (o 0)])).length) Slot.unset).toArray = ls at hl ⊢
  have hl : lv_has ls 4 [(0, .ref (o 0))] := hl
  refine lv_aload_n hx hb dX5_captives_0 rfl (lv_at hl 0 rfl) ?_
  refine lv_iconst (v := iI 0) hx hb dX5_captives_1 rfl ?_
  refine va_put (D := E.1) (ci := 0) (v := iv 0) (ty := .int) (C := RX5) (T := TX5) (N := 23) hx hb hts in_X5 tyX5 tyX5_ok nmX5 hown hK.1 hP hD hS 0 rfl rfl 8 (by decide) (hts _ q2037) (fun _ h9 => h9) rfl (by decide +kernel) rfl rfl (Nat.le_of_ble_eq_true rfl) dX5_captives_2 (fun H locs hP hD hS => ?_)
  have hP : va_P E.1 CL (MW E o (us sc 8 0) ar) H := hP
  have hD : va_D A (MW E o (us sc 8 0) ar) := hD
  refine lv_iconst (v := iI 0) hx hb dX5_captives_5 rfl ?_
  refine lv_istore_n (lv' := [(1, iv 0), (0, .ref (o 0))]) hx hb dX5_captives_6 rfl hl (by decide) rfl (fun ls hl => ?_)
  refine lv_iconst (v := iI 0) hx hb dX5_captives_7 rfl ?_
  refine lv_istore_n (lv' := [(2, iv 0), (1, iv 0), (0, .ref (o 0))]) hx hb dX5_captives_8 rfl hl (by decide) rfl (fun ls hl => ?_)
  have la : ∀ (fu : Nat) (x1 : Int) (x2 : Int), (0 ≤ x2 ∧ x2 ≤ 8) → (x1 = sumI (fun t => if m_of (ar 1) t 0 = 115 then sumI (fun k => b2 (m_dir (ar 1) t k && decide (m_of (ar 1) (m_stands (ar 1) (m_need (ar 1) t k)) 0 = 116))) (m_of (ar 1) t 2) else 0) x2) → (8 - x2 < (fu : Int)) → ∀ ls : Array Slot, lv_has ls 4 [(2, iv x2), (1, iv x1), (0, .ref (o 0))] → W p l e (headSpec (ws_ yX5_captives cX5_captives 4 (some .int)) { frames := 2, cells := 0, slots := 0, locals := 44 }).room s m ([.ref (o 0)] : List Value).toArray below meth c H locs 0 0 (MQ below (UQi E (m_capt (ar 1)) (MW E o (us sc 8 0) ar) A) ([.ref (o 0)] : List Value).toArray s 0 0 A) (F0 m 9 ls []) := by
    intro fu
    induction fu with
    | zero =>
      intro x1 x2 ila_0 ila_1 hm
      exfalso; omega
    | succ fu ih =>
      intro x1 x2 ila_0 ila_1 hm ls hl
      have ihla := ih
      have hnn := htw x2
      refine lv_iload_n hx hb dX5_captives_9 rfl (lv_at hl 0 rfl) ?_
      refine lv_bipush (v := iI 8) hx hb dX5_captives_10 (by decide) ?_
      refine n_icmp_ge (tgt := 90) hx hb dX5_captives_12 (by decide) (by omega) (by omega) (fun c_1 => ?_) (fun c_1 => ?_)
      · refine lv_iload_n hx hb dX5_captives_90 rfl (lv_at hl 1 rfl) ?_
        have hfin : x1 = m_capt (ar 1) := by
          obtain rfl : x2 = 8 := by omega
          exact ila_1
        exact W.iret (v := iI x1) hx hb hr (fun tt_ ht_ hW_ => ⟨⟨iI x1, (), rfl, (congrArg iI hfin), by rw [ht_]; exact hP, hD⟩, hS.F ht_⟩) hS.2.2 dX5_captives_91
      · refine lv_aload_n hx hb dX5_captives_15 rfl (lv_at hl 2 rfl) ?_
        refine lv_iload_n hx hb dX5_captives_16 rfl (lv_at hl 0 rfl) ?_
        refine lv_iconst (v := iI 0) hx hb dX5_captives_17 rfl ?_
        refine n_csi (x := m_of (ar 1) x2 0) (va_runV (As := [iv x2, iv 0]) (rest := []) ⟨hx, hb, hml, hown, hts⟩ (mt_X5_of l E o (us sc 8 0) ar x2 0 (by omega)) (cwV 2 hts (lw_V q2120 q2122 qs49 q113 q2123) rfl rfl rfl (by decide +kernel) ⟨Nat.le_of_ble_eq_true rfl, Nat.le_of_ble_eq_true rfl⟩) (PW_V hP hK (va_recv hK.1 hP (ci := 0) (q0 := 0) rfl rfl)) rfl rfl hl.1 rfl (lv_room (Nat.le_of_ble_eq_true rfl)) dX5_captives_18 ⟨Nat.le_of_ble_eq_true rfl, Nat.le_of_ble_eq_true rfl⟩) ?_
        refine lv_bipush (v := iI 115) hx hb dX5_captives_21 (by decide) ?_
        have b_2 := (show 0 ≤ m_of (ar 1) x2 0 ∧ m_of (ar 1) x2 0 < 2147483648 from (hB 1) _)
        refine n_icmp_eq (tgt := 29) hx hb dX5_captives_23 (by decide) (by omega) (by omega) (fun c_3 => ?_) (fun c_3 => ?_)
        · refine lv_iconst (v := iI 0) hx hb dX5_captives_29 rfl ?_
          refine lv_istore_n (lv' := [(3, iv 0), (2, iv x2), (1, iv x1), (0, .ref (o 0))]) hx hb dX5_captives_30 rfl hl (by decide) rfl (fun ls hl => ?_)
          have hnn2 := hnn (by omega) (by omega)
          have lb : ∀ (fu : Nat) (y1 : Int) (x3 : Int), (0 ≤ x3 ∧ x3 ≤ m_of (ar 1) x2 2) → (y1 = x1 + sumI (fun k => b2 (m_dir (ar 1) x2 k && decide (m_of (ar 1) (m_stands (ar 1) (m_need (ar 1) x2 k)) 0 = 116))) x3) → (m_of (ar 1) x2 2 - x3 < (fu : Int)) → ∀ ls : Array Slot, lv_has ls 4 [(3, iv x3), (2, iv x2), (1, iv y1), (0, .ref (o 0))] → W p l e (headSpec (ws_ yX5_captives cX5_captives 4 (some .int)) { frames := 2, cells := 0, slots := 0, locals := 44 }).room s m ([.ref (o 0)] : List Value).toArray below meth c H locs 0 0 (MQ below (UQi E (m_capt (ar 1)) (MW E o (us sc 8 0) ar) A) ([.ref (o 0)] : List Value).toArray s 0 0 A) (F0 m 31 ls []) := by
            intro fu
            induction fu with
            | zero =>
              intro y1 x3 ilb_0 ilb_1 hm
              exfalso; omega
            | succ fu ih =>
              intro y1 x3 ilb_0 ilb_1 hm ls hl
              have ihlb := ih
              refine lv_iload_n hx hb dX5_captives_31 rfl (lv_at hl 0 rfl) ?_
              refine lv_aload_n hx hb dX5_captives_32 rfl (lv_at hl 3 rfl) ?_
              refine lv_iload_n hx hb dX5_captives_33 rfl (lv_at hl 1 rfl) ?_
              refine lv_iconst (v := iI 2) hx hb dX5_captives_34 rfl ?_
              refine n_csi (x := m_of (ar 1) x2 2) (va_runV (As := [iv x2, iv 2]) (rest := [iv x3]) ⟨hx, hb, hml, hown, hts⟩ (mt_X5_of l E o (us sc 8 0) ar x2 2 (by omega)) (cwV 2 hts (lw_V q2120 q2122 qs49 q113 q2123) rfl rfl rfl (by decide +kernel) ⟨Nat.le_of_ble_eq_true rfl, Nat.le_of_ble_eq_true rfl⟩) (PW_V hP hK (va_recv hK.1 hP (ci := 0) (q0 := 0) rfl rfl)) rfl rfl hl.1 rfl (lv_room (Nat.le_of_ble_eq_true rfl)) dX5_captives_35 ⟨Nat.le_of_ble_eq_true rfl, Nat.le_of_ble_eq_true rfl⟩) ?_
              have b_4 := (show 0 ≤ m_of (ar 1) x2 2 ∧ m_of (ar 1) x2 2 < 2147483648 from (hB 1) _)
              refine n_icmp_ge (tgt := 84) hx hb dX5_captives_38 (by decide) (by omega) (by omega) (fun c_5 => ?_) (fun c_5 => ?_)
              · have e3 : x3 = m_of (ar 1) x2 2 := by omega
                rw [e3] at ilb_1
                refine lv_iinc (v := iI (x2 + 1)) (lv' := [(2, iv (x2 + 1)), (3, iv x3), (1, iv y1), (0, .ref (o 0))]) hx hb dX5_captives_84 hl (k := 1) rfl (iI_add _ _) (by decide) rfl (fun ls hl => ?_)
                refine lv_goto (tgt := 9) hx hb dX5_captives_87 (by decide) ?_
                exact ihla y1 (x2 + 1) (by first | omega | rfl) (by rw [sumI_s (by omega)]; split <;> first | omega | contradiction | (rw [ilb_1, ila_1]; done)) (by omega) ls (lv_sub hl [0, 2, 3] rfl)
              · refine lv_iload_n hx hb dX5_captives_41 rfl (lv_at hl 2 rfl) ?_
                refine lv_aload_n hx hb dX5_captives_42 rfl (lv_at hl 3 rfl) ?_
                refine lv_iload_n hx hb dX5_captives_43 rfl (lv_at hl 1 rfl) ?_
                refine lv_iload_n hx hb dX5_captives_44 rfl (lv_at hl 0 rfl) ?_
                refine n_csi (x := b2 (m_dir (ar 1) x2 x3)) (va_runV (As := [iv x2, iv x3]) (rest := [iv y1]) ⟨hx, hb, hml, hown, hts⟩ (mt_X5_isDirect l E o (us sc 8 0) ar x2 x3 hB (by omega) (by omega)) (cwV 2 hts (lw_V q2187 q2189 qs63 q113 q2190) rfl rfl rfl (by decide +kernel) ⟨Nat.le_of_ble_eq_true rfl, Nat.le_of_ble_eq_true rfl⟩) (PW_V hP hK (va_recv hK.1 hP (ci := 0) (q0 := 0) rfl rfl)) rfl rfl hl.1 rfl (lv_room (Nat.le_of_ble_eq_true rfl)) dX5_captives_45 ⟨Nat.le_of_ble_eq_true rfl, Nat.le_of_ble_eq_true rfl⟩) ?_
                refine n_ifb_eq (tgt := 75) hx hb dX5_captives_48 (by decide) (fun c_6 => ?_) (fun c_6 => ?_)
                · refine lv_iconst (v := iI 0) hx hb dX5_captives_75 rfl ?_
                  refine n_iadd hx hb dX5_captives_76 ?_
                  refine lv_istore_n (lv' := [(1, iv (y1 + 0)), (3, iv x3), (2, iv x2), (0, .ref (o 0))]) hx hb dX5_captives_77 rfl hl (by decide) rfl (fun ls hl => ?_)
                  refine lv_iinc (v := iI (x3 + 1)) (lv' := [(3, iv (x3 + 1)), (1, iv (y1 + 0)), (2, iv x2), (0, .ref (o 0))]) hx hb dX5_captives_78 hl (k := 1) rfl (iI_add _ _) (by decide) rfl (fun ls hl => ?_)
                  refine lv_goto (tgt := 31) hx hb dX5_captives_81 (by decide) ?_
                  exact ihlb (y1 + 0) (x3 + 1) (by first | omega | rfl) (by rw [sumI_s (by omega)]; simp [*, b2]; try omega) (by omega) ls (lv_sub hl [0, 2, 1, 3] rfl)
                · refine lv_aload_n hx hb dX5_captives_51 rfl (lv_at hl 3 rfl) ?_
                  refine lv_aload_n hx hb dX5_captives_52 rfl (lv_at hl 3 rfl) ?_
                  refine lv_aload_n hx hb dX5_captives_53 rfl (lv_at hl 3 rfl) ?_
                  refine lv_iload_n hx hb dX5_captives_54 rfl (lv_at hl 1 rfl) ?_
                  refine lv_iload_n hx hb dX5_captives_55 rfl (lv_at hl 0 rfl) ?_
                  refine n_csi (x := m_need (ar 1) x2 x3) (va_runV (As := [iv x2, iv x3]) (rest := [.ref (o 0), .ref (o 0), iv y1]) ⟨hx, hb, hml, hown, hts⟩ (mt_X5_need l E o (us sc 8 0) ar x2 x3 hB (by omega) (by omega)) (cwV 2 hts (lw_V q2167 q2169 qs58 q113 q2170) rfl rfl rfl (by decide +kernel) ⟨Nat.le_of_ble_eq_true rfl, Nat.le_of_ble_eq_true rfl⟩) (PW_V hP hK (va_recv hK.1 hP (ci := 0) (q0 := 0) rfl rfl)) rfl rfl hl.1 rfl (lv_room (Nat.le_of_ble_eq_true rfl)) dX5_captives_56 ⟨Nat.le_of_ble_eq_true rfl, Nat.le_of_ble_eq_true rfl⟩) ?_
                  have b_7 := (show 0 ≤ m_need (ar 1) x2 x3 ∧ m_need (ar 1) x2 x3 < 8 from ⟨Int.emod_nonneg _ (by decide), Int.emod_lt_of_pos _ (by decide)⟩)
                  refine n_csi (x := m_stands (ar 1) (m_need (ar 1) x2 x3)) (va_runV (As := [iv (m_need (ar 1) x2 x3)]) (rest := [.ref (o 0), iv y1]) ⟨hx, hb, hml, hown, hts⟩ (mt_X5_stands l E o (us sc 8 0) ar (m_need (ar 1) x2 x3) hB (by omega) (by assumption)) (cwV 1 hts (lw_V q2191 q2193 qs64 q113 q2194) rfl rfl rfl (by decide +kernel) ⟨Nat.le_of_ble_eq_true rfl, Nat.le_of_ble_eq_true rfl⟩) (PW_V hP hK (va_recv hK.1 hP (ci := 0) (q0 := 0) rfl rfl)) rfl rfl hl.1 rfl (lv_room (Nat.le_of_ble_eq_true rfl)) dX5_captives_59 ⟨Nat.le_of_ble_eq_true rfl, Nat.le_of_ble_eq_true rfl⟩) ?_
                  refine lv_iconst (v := iI 0) hx hb dX5_captives_62 rfl ?_
                  have b_8 := m_stands_r (g := (ar 1)) (by assumption) (t := (m_need (ar 1) x2 x3)) (by omega)
                  refine n_csi (x := m_of (ar 1) (m_stands (ar 1) (m_need (ar 1) x2 x3)) 0) (va_runV (As := [iv (m_stands (ar 1) (m_need (ar 1) x2 x3)), iv 0]) (rest := [iv y1]) ⟨hx, hb, hml, hown, hts⟩ (mt_X5_of l E o (us sc 8 0) ar (m_stands (ar 1) (m_need (ar 1) x2 x3)) 0 (by omega)) (cwV 2 hts (lw_V q2120 q2122 qs49 q113 q2123) rfl rfl rfl (by decide +kernel) ⟨Nat.le_of_ble_eq_true rfl, Nat.le_of_ble_eq_true rfl⟩) (PW_V hP hK (va_recv hK.1 hP (ci := 0) (q0 := 0) rfl rfl)) rfl rfl hl.1 rfl (lv_room (Nat.le_of_ble_eq_true rfl)) dX5_captives_63 ⟨Nat.le_of_ble_eq_true rfl, Nat.le_of_ble_eq_true rfl⟩) ?_
                  refine lv_bipush (v := iI 116) hx hb dX5_captives_66 (by decide) ?_
                  have b_9 := (show 0 ≤ m_of (ar 1) (m_stands (ar 1) (m_need (ar 1) x2 x3)) 0 ∧ m_of (ar 1) (m_stands (ar 1) (m_need (ar 1) x2 x3)) 0 < 2147483648 from (hB 1) _)
                  refine n_icmp_ne (tgt := 75) hx hb dX5_captives_68 (by decide) (by omega) (by omega) (fun c_10 => ?_) (fun c_10 => ?_)
                  · refine lv_iconst (v := iI 0) hx hb dX5_captives_75 rfl ?_
                    refine n_iadd hx hb dX5_captives_76 ?_
                    refine lv_istore_n (lv' := [(1, iv (y1 + 0)), (3, iv x3), (2, iv x2), (0, .ref (o 0))]) hx hb dX5_captives_77 rfl hl (by decide) rfl (fun ls hl => ?_)
                    refine lv_iinc (v := iI (x3 + 1)) (lv' := [(3, iv (x3 + 1)), (1, iv (y1 + 0)), (2, iv x2), (0, .ref (o 0))]) hx hb dX5_captives_78 hl (k := 1) rfl (iI_add _ _) (by decide) rfl (fun ls hl => ?_)
                    refine lv_goto (tgt := 31) hx hb dX5_captives_81 (by decide) ?_
                    exact ihlb (y1 + 0) (x3 + 1) (by first | omega | rfl) (by rw [sumI_s (by omega)]; simp [*, b2]; try omega) (by omega) ls (lv_sub hl [0, 2, 1, 3] rfl)
                  · refine lv_iconst (v := iI 1) hx hb dX5_captives_71 rfl ?_
                    refine lv_goto (tgt := 76) hx hb dX5_captives_72 (by decide) ?_
                    refine n_iadd hx hb dX5_captives_76 ?_
                    refine lv_istore_n (lv' := [(1, iv (y1 + 1)), (3, iv x3), (2, iv x2), (0, .ref (o 0))]) hx hb dX5_captives_77 rfl hl (by decide) rfl (fun ls hl => ?_)
                    refine lv_iinc (v := iI (x3 + 1)) (lv' := [(3, iv (x3 + 1)), (1, iv (y1 + 1)), (2, iv x2), (0, .ref (o 0))]) hx hb dX5_captives_78 hl (k := 1) rfl (iI_add _ _) (by decide) rfl (fun ls hl => ?_)
                    refine lv_goto (tgt := 31) hx hb dX5_captives_81 (by decide) ?_
                    exact ihlb (y1 + 1) (x3 + 1) (by first | omega | rfl) (by rw [sumI_s (by omega)]; simp [*, b2]; try omega) (by omega) ls (lv_sub hl [0, 2, 1, 3] rfl)
          exact lb 4 x1 0 (by first | omega | rfl | trivial) (by rw [sumI_0]; omega) (by omega) ls hl
        · refine lv_goto (tgt := 84) hx hb dX5_captives_26 (by decide) ?_
          refine lv_iinc (v := iI (x2 + 1)) (lv' := [(2, iv (x2 + 1)), (1, iv x1), (0, .ref (o 0))]) hx hb dX5_captives_84 hl (k := 0) rfl (iI_add _ _) (by decide) rfl (fun ls hl => ?_)
          refine lv_goto (tgt := 9) hx hb dX5_captives_87 (by decide) ?_
          exact ihla x1 (x2 + 1) (by first | omega | rfl) (by rw [sumI_s (by omega)]; split <;> first | omega | contradiction | (rw [ilb_1, ila_1]; done)) (by omega) ls (lv_sub hl [0, 1, 2] rfl)
  exact la 9 0 0 (by first | omega | rfl | trivial) (by rfl) (by omega) ls hl
set_option maxHeartbeats 4000000 in
set_option maxRecDepth 100000 in
theorem mt_X5_thing (l : Launch) (E : EE) (o : Nat → Nat) (sc : Nat → Int) (ar : Nat → Int → Int) (k : Int) (w : Int) (h : 0 ≤ 61 + 10 * k + w ∧ 61 + 10 * k + w < 661) : Met l yX5_thing (ws_ yX5_thing cX5_thing 3 (some .int)) { frames := 0, cells := 0, slots := 0, locals := 0 } (va_Pc [.ref (o 0), iv k, iv w] (PW E (MW E o sc ar))) (NP (m_thing (ar 1) k w)) 0 0 (fun _ => False) := by
  refine Met.ofW (cc := cX5_thing) (maxL := 3) (ret := (some .int)) (by decide) rfl ?_
  intro p e s m args below meth c s₁ B hml hv
  obtain ⟨rfl, hP, hK⟩ := hv
  have hx := B.exec
  have hb := B.bytes
  have hr := B.returns
  have hts := atoms_spec (ws := (ws_ yX5_thing cX5_thing 3 (some .int))) B.pre
  have hts : ∀ w ∈ lw_all, w.before _ s = true := fun w h => hts w (List.mem_cons_of_mem _ h)
  have hown : s.vm.findClass RX5 = some m.cls := findClass_of_methodNamed B.named
  have hlocks := B.notSynchronized
  have hl := lv_entry ([.ref (o 0), iv k, iv w]) (n := 3) (Nat.le_of_ble_eq_true rfl)
  rw [lg_entry_eq]
  generalize (lg_sl ([.ref (o 0), iv k, iv w]) ++ List.replicate (3 - (lg_sl ([.ref (o 0), iv k, iv w])).length) Slot.unset).toArray = ls at hl ⊢
  have hl : lv_has ls 3 [(0, .ref (o 0)), (1, iv k), (2, iv w)] := hl
  refine lv_aload_n hx hb dX5_thing_0 rfl (lv_at hl 0 rfl) ?_
  refine va_get (D := E.1) (ci := 0) (v := .ref (o 1)) (C := RX5) (T := TX5) (N := 23) hx hb hts in_X5 hown hK.1 hP 0 rfl rfl 0 (by decide) (hts _ q2029) (fun _ h9 => h9) rfl dX5_thing_1 ?_
  refine lv_bipush (v := iI 61) hx hb dX5_thing_4 (by decide) ?_
  refine lv_bipush (v := iI 10) hx hb dX5_thing_6 (by decide) ?_
  refine lv_iload_n hx hb dX5_thing_8 rfl (lv_at hl 1 rfl) ?_
  refine n_imul hx hb dX5_thing_9 ?_
  refine n_iadd hx hb dX5_thing_10 ?_
  refine lv_iload_n hx hb dX5_thing_11 rfl (lv_at hl 2 rfl) ?_
  refine n_iadd hx hb dX5_thing_12 ?_
  refine n_iald (f := ar 1) hx hb hK.1 hP 1 0 rfl rfl (by omega) (by decide) dX5_thing_13 ?_
  have hfin : ar 1 ((61 + (10 * k)) + w) = m_thing (ar 1) k w := by
    first | rfl | omega
  exact W.iret (v := iI (ar 1 ((61 + (10 * k)) + w))) hx hb hr (fun tt_ ht_ hW_ => ⟨iI (ar 1 ((61 + (10 * k)) + w)), rfl, (congrArg iI hfin), ht_⟩) (fun q h => by cases h) dX5_thing_14
set_option maxHeartbeats 4000000 in
set_option maxRecDepth 100000 in
theorem mt_X5_isHere (l : Launch) (E : EE) (o : Nat → Nat) (sc : Nat → Int) (ar : Nat → Int → Int) (k : Int) (hB : ∀ k x, 0 ≤ ar k x ∧ ar k x < 2147483648) (h : 0 ≤ k ∧ k < 60) : Met l yX5_isHere (ws_ yX5_isHere cX5_isHere 2 (some .boolean)) { frames := 1, cells := 0, slots := 0, locals := 22 } (va_Pc [.ref (o 0), iv k] (PW E (MW E o sc ar))) (NP (b2 (m_here (ar 1) k))) 0 0 (fun _ => False) := by
  refine Met.ofW (cc := cX5_isHere) (maxL := 2) (ret := (some .boolean)) (by decide) rfl ?_
  intro p e s m args below meth c s₁ B hml hv
  obtain ⟨rfl, hP, hK⟩ := hv
  have hx := B.exec
  have hb := B.bytes
  have hr := B.returns
  have hts := atoms_spec (ws := (ws_ yX5_isHere cX5_isHere 2 (some .boolean))) B.pre
  have hts : ∀ w ∈ lw_all, w.before _ s = true := fun w h => hts w (List.mem_cons_of_mem _ h)
  have hown : s.vm.findClass RX5 = some m.cls := findClass_of_methodNamed B.named
  have hlocks := B.notSynchronized
  have hl := lv_entry ([.ref (o 0), iv k]) (n := 2) (Nat.le_of_ble_eq_true rfl)
  rw [lg_entry_eq]
  generalize (lg_sl ([.ref (o 0), iv k]) ++ List.replicate (2 - (lg_sl ([.ref (o 0), iv k])).length) Slot.unset).toArray = ls at hl ⊢
  have hl : lv_has ls 2 [(0, .ref (o 0)), (1, iv k)] := hl
  refine lv_aload_n hx hb dX5_isHere_0 rfl (lv_at hl 0 rfl) ?_
  refine lv_iload_n hx hb dX5_isHere_1 rfl (lv_at hl 1 rfl) ?_
  refine lv_iconst (v := iI 2) hx hb dX5_isHere_2 rfl ?_
  refine n_csi (x := m_thing (ar 1) k 2) (va_runV (As := [iv k, iv 2]) (rest := []) ⟨hx, hb, hml, hown, hts⟩ (mt_X5_thing l E o sc ar k 2 (by omega)) (cwV 2 hts (lw_V q2155 q2157 qs56 q113 q2158) rfl rfl rfl (by decide +kernel) ⟨Nat.le_of_ble_eq_true rfl, Nat.le_of_ble_eq_true rfl⟩) (PW_V hP hK (va_recv hK.1 hP (ci := 0) (q0 := 0) rfl rfl)) rfl rfl hl.1 rfl (lv_room (Nat.le_of_ble_eq_true rfl)) dX5_isHere_3 ⟨Nat.le_of_ble_eq_true rfl, Nat.le_of_ble_eq_true rfl⟩) ?_
  have b_1 := (show 0 ≤ m_thing (ar 1) k 2 ∧ m_thing (ar 1) k 2 < 2147483648 from (hB 1) _)
  refine n_if_ne (tgt := 13) hx hb dX5_isHere_6 (by decide) (by omega) (fun c_2 => ?_) (fun c_2 => ?_)
  · refine lv_iconst (v := iI 0) hx hb dX5_isHere_13 rfl ?_
    have hfin : 0 = b2 (m_here (ar 1) k) := by
      first | exact (b2_pos (P := m_thing (ar 1) k 2 = 0) (by omega)).symm | exact (b2_neg (P := m_thing (ar 1) k 2 = 0) (by omega)).symm
    exact W.zret (v := iI 0) hx hb hr (nr_b (by decide)) (fun tt_ ht_ hW_ => ⟨iI 0, rfl, (congrArg iI hfin), ht_⟩) (fun q h => by cases h) dX5_isHere_14
  · refine lv_iconst (v := iI 1) hx hb dX5_isHere_9 rfl ?_
    refine lv_goto (tgt := 14) hx hb dX5_isHere_10 (by decide) ?_
    have hfin : 1 = b2 (m_here (ar 1) k) := by
      first | exact (b2_pos (P := m_thing (ar 1) k 2 = 0) (by omega)).symm | exact (b2_neg (P := m_thing (ar 1) k 2 = 0) (by omega)).symm
    exact W.zret (v := iI 1) hx hb hr (nr_b (by decide)) (fun tt_ ht_ hW_ => ⟨iI 1, rfl, (congrArg iI hfin), ht_⟩) (fun q h => by cases h) dX5_isHere_14
set_option maxHeartbeats 4000000 in
set_option maxRecDepth 100000 in
theorem mt_X5_isObject (l : Launch) (E : EE) (o : Nat → Nat) (sc : Nat → Int) (ar : Nat → Int → Int) (k : Int) (hB : ∀ k x, 0 ≤ ar k x ∧ ar k x < 2147483648) (h : -2147483648 ≤ k ∧ k < 2147483648) (how : OW (ar 1)) : Met l yX5_isObject (ws_ yX5_isObject cX5_isObject 2 (some .boolean)) { frames := 2, cells := 0, slots := 0, locals := 43 } (va_Pc [.ref (o 0), iv k] (PW E (MW E o sc ar))) (NP (b2 (m_isobj (ar 1) k))) 0 0 (fun _ => False) := by
  refine Met.ofW (cc := cX5_isObject) (maxL := 2) (ret := (some .boolean)) (by decide) rfl ?_
  intro p e s m args below meth c s₁ B hml hv
  obtain ⟨rfl, hP, hK⟩ := hv
  have hx := B.exec
  have hb := B.bytes
  have hr := B.returns
  have hts := atoms_spec (ws := (ws_ yX5_isObject cX5_isObject 2 (some .boolean))) B.pre
  have hts : ∀ w ∈ lw_all, w.before _ s = true := fun w h => hts w (List.mem_cons_of_mem _ h)
  have hown : s.vm.findClass RX5 = some m.cls := findClass_of_methodNamed B.named
  have hlocks := B.notSynchronized
  have hl := lv_entry ([.ref (o 0), iv k]) (n := 2) (Nat.le_of_ble_eq_true rfl)
  rw [lg_entry_eq]
  generalize (lg_sl ([.ref (o 0), iv k]) ++ List.replicate (2 - (lg_sl ([.ref (o 0), iv k])).length) Slot.unset).toArray = ls at hl ⊢
  have hl : lv_has ls 2 [(0, .ref (o 0)), (1, iv k)] := hl
  have ho1 := how.1
  have ho2 := how.2.1
  refine lv_iload_n hx hb dX5_isObject_0 rfl (lv_at hl 1 rfl) ?_
  refine lv_iconst (v := iI 0) hx hb dX5_isObject_1 rfl ?_
  refine lv_aload_n hx hb dX5_isObject_2 rfl (lv_at hl 0 rfl) ?_
  refine va_get (D := E.1) (ci := 0) (v := .ref (o 1)) (C := RX5) (T := TX5) (N := 23) hx hb hts in_X5 hown hK.1 hP 0 rfl rfl 0 (by decide) (hts _ q2029) (fun _ h9 => h9) rfl dX5_isObject_3 ?_
  refine lv_iconst (v := iI 1) hx hb dX5_isObject_6 rfl ?_
  refine n_iald (f := ar 1) hx hb hK.1 hP 1 0 rfl rfl (by omega) (by decide) dX5_isObject_7 ?_
  refine lv_iconst (v := iI 1) hx hb dX5_isObject_8 rfl ?_
  refine n_isub hx hb dX5_isObject_9 ?_
  have b_1 := (hB 1) 1
  refine n_csi (x := b2 (decide (0 ≤ k ∧ k ≤ ((ar 1 1) - 1)))) (va_runS (As := [iv k, iv 0, iv ((ar 1 1) - 1)]) (rest := []) ⟨hx, hb, hml, hown, hts⟩ (mt_X5_in l E o sc ar k 0 ((ar 1 1) - 1) (by omega) (by omega) (by omega)) (va_cwS 3 hts (lw_S q2110 q2111 q113 q2112) rfl rfl rfl (by decide +kernel) ⟨Nat.le_of_ble_eq_true rfl, Nat.le_of_ble_eq_true rfl⟩) (PW_S hP hK) rfl rfl hl.1 rfl (lv_room (Nat.le_of_ble_eq_true rfl)) dX5_isObject_10 ⟨Nat.le_of_ble_eq_true rfl, Nat.le_of_ble_eq_true rfl⟩) ?_
  refine n_ifd_eq (tgt := 28) hx hb dX5_isObject_13 (by decide) (fun c_2 => ?_) (fun c_2 => ?_)
  · refine lv_iconst (v := iI 0) hx hb dX5_isObject_28 rfl ?_
    have hfin : 0 = b2 (m_isobj (ar 1) k) := by
      unfold m_isobj
      simp [*, b2]
      try omega
    exact W.zret (v := iI 0) hx hb hr (nr_b (by decide)) (fun tt_ ht_ hW_ => ⟨iI 0, rfl, (congrArg iI hfin), ht_⟩) (fun q h => by cases h) dX5_isObject_29
  · refine lv_aload_n hx hb dX5_isObject_16 rfl (lv_at hl 0 rfl) ?_
    refine lv_iload_n hx hb dX5_isObject_17 rfl (lv_at hl 1 rfl) ?_
    refine n_csi (x := b2 (m_here (ar 1) k)) (va_runV (As := [iv k]) (rest := []) ⟨hx, hb, hml, hown, hts⟩ (mt_X5_isHere l E o sc ar k hB (by omega)) (cwV 1 hts (lw_V q2151 q2153 qs55 q113 q2154) rfl rfl rfl (by decide +kernel) ⟨Nat.le_of_ble_eq_true rfl, Nat.le_of_ble_eq_true rfl⟩) (PW_V hP hK (va_recv hK.1 hP (ci := 0) (q0 := 0) rfl rfl)) rfl rfl hl.1 rfl (lv_room (Nat.le_of_ble_eq_true rfl)) dX5_isObject_18 ⟨Nat.le_of_ble_eq_true rfl, Nat.le_of_ble_eq_true rfl⟩) ?_
    refine n_ifb_eq (tgt := 28) hx hb dX5_isObject_21 (by decide) (fun c_3 => ?_) (fun c_3 => ?_)
    · refine lv_iconst (v := iI 0) hx hb dX5_isObject_28 rfl ?_
      have hfin : 0 = b2 (m_isobj (ar 1) k) := by
        unfold m_isobj
        simp [*, b2]
        try omega
      exact W.zret (v := iI 0) hx hb hr (nr_b (by decide)) (fun tt_ ht_ hW_ => ⟨iI 0, rfl, (congrArg iI hfin), ht_⟩) (fun q h => by cases h) dX5_isObject_29
    · refine lv_iconst (v := iI 1) hx hb dX5_isObject_24 rfl ?_
      refine lv_goto (tgt := 29) hx hb dX5_isObject_25 (by decide) ?_
      have hfin : 1 = b2 (m_isobj (ar 1) k) := by
        unfold m_isobj
        simp [*, b2]
        try omega
      exact W.zret (v := iI 1) hx hb hr (nr_b (by decide)) (fun tt_ ht_ hW_ => ⟨iI 1, rfl, (congrArg iI hfin), ht_⟩) (fun q h => by cases h) dX5_isObject_29
set_option maxHeartbeats 4000000 in
set_option maxRecDepth 100000 in
theorem mt_X5_isOpened (l : Launch) (E : EE) (o : Nat → Nat) (sc : Nat → Int) (ar : Nat → Int → Int) (th : Int) (hB : ∀ k x, 0 ≤ ar k x ∧ ar k x < 2147483648) (h : -2147483648 ≤ th ∧ th < 2147483648) : Met l yX5_isOpened (ws_ yX5_isOpened cX5_isOpened 2 (some .boolean)) { frames := 1, cells := 0, slots := 0, locals := 22 } (va_Pc [.ref (o 0), iv th] (PW E (MW E o sc ar))) (NP (b2 (m_opened (ar 1) th))) 0 0 (fun _ => False) := by
  refine Met.ofW (cc := cX5_isOpened) (maxL := 2) (ret := (some .boolean)) (by decide) rfl ?_
  intro p e s m args below meth c s₁ B hml hv
  obtain ⟨rfl, hP, hK⟩ := hv
  have hx := B.exec
  have hb := B.bytes
  have hr := B.returns
  have hts := atoms_spec (ws := (ws_ yX5_isOpened cX5_isOpened 2 (some .boolean))) B.pre
  have hts : ∀ w ∈ lw_all, w.before _ s = true := fun w h => hts w (List.mem_cons_of_mem _ h)
  have hown : s.vm.findClass RX5 = some m.cls := findClass_of_methodNamed B.named
  have hlocks := B.notSynchronized
  have hl := lv_entry ([.ref (o 0), iv th]) (n := 2) (Nat.le_of_ble_eq_true rfl)
  rw [lg_entry_eq]
  generalize (lg_sl ([.ref (o 0), iv th]) ++ List.replicate (2 - (lg_sl ([.ref (o 0), iv th])).length) Slot.unset).toArray = ls at hl ⊢
  have hl : lv_has ls 2 [(0, .ref (o 0)), (1, iv th)] := hl
  refine lv_iload_n hx hb dX5_isOpened_0 rfl (lv_at hl 1 rfl) ?_
  refine lv_iconst (v := iI 0) hx hb dX5_isOpened_1 rfl ?_
  refine lv_iconst (v := iI 3) hx hb dX5_isOpened_2 rfl ?_
  refine n_csi (x := b2 (decide (0 ≤ th ∧ th ≤ 3))) (va_runS (As := [iv th, iv 0, iv 3]) (rest := []) ⟨hx, hb, hml, hown, hts⟩ (mt_X5_in l E o sc ar th 0 3 (by omega) (by omega) (by omega)) (va_cwS 3 hts (lw_S q2110 q2111 q113 q2112) rfl rfl rfl (by decide +kernel) ⟨Nat.le_of_ble_eq_true rfl, Nat.le_of_ble_eq_true rfl⟩) (PW_S hP hK) rfl rfl hl.1 rfl (lv_room (Nat.le_of_ble_eq_true rfl)) dX5_isOpened_3 ⟨Nat.le_of_ble_eq_true rfl, Nat.le_of_ble_eq_true rfl⟩) ?_
  refine n_ifd_eq (tgt := 27) hx hb dX5_isOpened_6 (by decide) (fun c_1 => ?_) (fun c_1 => ?_)
  · refine lv_iconst (v := iI 0) hx hb dX5_isOpened_27 rfl ?_
    have hfin : 0 = b2 (m_opened (ar 1) th) := by
      unfold m_opened
      simp [*, b2]
      try omega
    exact W.zret (v := iI 0) hx hb hr (nr_b (by decide)) (fun tt_ ht_ hW_ => ⟨iI 0, rfl, (congrArg iI hfin), ht_⟩) (fun q h => by cases h) dX5_isOpened_28
  · refine lv_aload_n hx hb dX5_isOpened_9 rfl (lv_at hl 0 rfl) ?_
    refine va_get (D := E.1) (ci := 0) (v := .ref (o 1)) (C := RX5) (T := TX5) (N := 23) hx hb hts in_X5 hown hK.1 hP 0 rfl rfl 0 (by decide) (hts _ q2029) (fun _ h9 => h9) rfl dX5_isOpened_10 ?_
    refine lv_iconst (v := iI 0) hx hb dX5_isOpened_13 rfl ?_
    refine n_iald (f := ar 1) hx hb hK.1 hP 1 0 rfl rfl (by omega) (by decide) dX5_isOpened_14 ?_
    refine lv_iload_n hx hb dX5_isOpened_15 rfl (lv_at hl 1 rfl) ?_
    have b_2 := (hB 1) 0
    refine n_ishr hx hb (by omega) (by omega) dX5_isOpened_16 ?_
    refine lv_iconst (v := iI 1) hx hb dX5_isOpened_17 rfl ?_
    refine n_iand1 hx hb dX5_isOpened_18 ?_
    refine lv_iconst (v := iI 1) hx hb dX5_isOpened_19 rfl ?_
    have hsh := Int.emod_two_eq (shr (ar 1 0) th)
    refine n_icmp_ne (tgt := 27) hx hb dX5_isOpened_20 (by decide) (by omega) (by omega) (fun c_3 => ?_) (fun c_3 => ?_)
    · refine lv_iconst (v := iI 0) hx hb dX5_isOpened_27 rfl ?_
      have hfin : 0 = b2 (m_opened (ar 1) th) := by
        unfold m_opened
        simp [*, b2]
        try omega
      exact W.zret (v := iI 0) hx hb hr (nr_b (by decide)) (fun tt_ ht_ hW_ => ⟨iI 0, rfl, (congrArg iI hfin), ht_⟩) (fun q h => by cases h) dX5_isOpened_28
    · refine lv_iconst (v := iI 1) hx hb dX5_isOpened_23 rfl ?_
      refine lv_goto (tgt := 28) hx hb dX5_isOpened_24 (by decide) ?_
      have hfin : 1 = b2 (m_opened (ar 1) th) := by
        unfold m_opened
        simp [*, b2]
        try omega
      exact W.zret (v := iI 1) hx hb hr (nr_b (by decide)) (fun tt_ ht_ hW_ => ⟨iI 1, rfl, (congrArg iI hfin), ht_⟩) (fun q h => by cases h) dX5_isOpened_28
set_option maxHeartbeats 4000000 in
set_option maxRecDepth 100000 in
theorem mt_X5_existing (l : Launch) (E : EE) (o : Nat → Nat) (sc : Nat → Int) (ar : Nat → Int → Int) (t : Int) (th : Int) (hB : ∀ k x, 0 ≤ ar k x ∧ ar k x < 2147483648) (h : 0 ≤ t ∧ t < 8) (hth : -2147483648 ≤ th ∧ th < 2147483648) (hom : 0 ≤ (ar 1) 1 ∧ (ar 1) 1 ≤ 60) : Met l yX5_existing (ws_ yX5_existing cX5_existing 4 (some .int)) { frames := 2, cells := 0, slots := 0, locals := 43 } (va_Pc [.ref (o 0), iv t, iv th] (PW E (MW E o sc ar))) (NP (m_exist (ar 1) t th)) 0 0 (fun _ => False) := by
  refine Met.ofW (cc := cX5_existing) (maxL := 4) (ret := (some .int)) (by decide) rfl ?_
  intro p e s m args below meth c s₁ B hml hv
  obtain ⟨rfl, hP, hK⟩ := hv
  have hx := B.exec
  have hb := B.bytes
  have hr := B.returns
  have hts := atoms_spec (ws := (ws_ yX5_existing cX5_existing 4 (some .int))) B.pre
  have hts : ∀ w ∈ lw_all, w.before _ s = true := fun w h => hts w (List.mem_cons_of_mem _ h)
  have hown : s.vm.findClass RX5 = some m.cls := findClass_of_methodNamed B.named
  have hlocks := B.notSynchronized
  have hl := lv_entry ([.ref (o 0), iv t, iv th]) (n := 4) (Nat.le_of_ble_eq_true rfl)
  rw [lg_entry_eq]
  generalize (lg_sl ([.ref (o 0), iv t, iv th]) ++ List.replicate (4 - (lg_sl ([.ref (o 0), iv t, iv th])).length) Slot.unset).toArray = ls at hl ⊢
  have hl : lv_has ls 4 [(0, .ref (o 0)), (1, iv t), (2, iv th)] := hl
  refine lv_aload_n hx hb dX5_existing_0 rfl (lv_at hl 0 rfl) ?_
  refine lv_iload_n hx hb dX5_existing_1 rfl (lv_at hl 1 rfl) ?_
  refine lv_iconst (v := iI 0) hx hb dX5_existing_2 rfl ?_
  refine n_csi (x := m_of (ar 1) t 0) (va_runV (As := [iv t, iv 0]) (rest := []) ⟨hx, hb, hml, hown, hts⟩ (mt_X5_of l E o sc ar t 0 (by omega)) (cwV 2 hts (lw_V q2120 q2122 qs49 q113 q2123) rfl rfl rfl (by decide +kernel) ⟨Nat.le_of_ble_eq_true rfl, Nat.le_of_ble_eq_true rfl⟩) (PW_V hP hK (va_recv hK.1 hP (ci := 0) (q0 := 0) rfl rfl)) rfl rfl hl.1 rfl (lv_room (Nat.le_of_ble_eq_true rfl)) dX5_existing_3 ⟨Nat.le_of_ble_eq_true rfl, Nat.le_of_ble_eq_true rfl⟩) ?_
  refine lv_bipush (v := iI 101) hx hb dX5_existing_6 (by decide) ?_
  have b_1 := (show 0 ≤ m_of (ar 1) t 0 ∧ m_of (ar 1) t 0 < 2147483648 from (hB 1) _)
  refine n_icmp_ne (tgt := 13) hx hb dX5_existing_8 (by decide) (by omega) (by omega) (fun c_2 => ?_) (fun c_2 => ?_)
  · refine lv_iconst (v := iI 0) hx hb dX5_existing_13 rfl ?_
    refine lv_istore_n (lv' := [(3, iv 0), (0, .ref (o 0)), (1, iv t), (2, iv th)]) hx hb dX5_existing_14 rfl hl (by decide) rfl (fun ls hl => ?_)
    have l15 : ∀ (fu : Nat) (x3 : Int), (0 ≤ x3 ∧ x3 ≤ ar 1 1) → (fnd (fun k => m_here (ar 1) k && (decide (m_thing (ar 1) k 0 = t) && (decide (m_of (ar 1) t 0 = 115) || decide (m_thing (ar 1) k 1 = th)))) x3 = -1) → (ar 1 1 - x3 < (fu : Int)) → ∀ ls : Array Slot, lv_has ls 4 [(3, iv x3), (0, .ref (o 0)), (1, iv t), (2, iv th)] → W p l e (headSpec (ws_ yX5_existing cX5_existing 4 (some .int)) { frames := 2, cells := 0, slots := 0, locals := 43 }).room s m ([.ref (o 0), iv t, iv th] : List Value).toArray below meth c s.heap [] 0 0 (MQ below (NP (m_exist (ar 1) t th)) ([.ref (o 0), iv t, iv th] : List Value).toArray s 0 0 (fun _ => False)) (F0 m 15 ls []) := by
      intro fu
      induction fu with
      | zero =>
        intro x3 il15_0 il15_1 hm
        exfalso; omega
      | succ fu ih =>
        intro x3 il15_0 il15_1 hm ls hl
        have ihl15 := ih
        refine lv_iload_n hx hb dX5_existing_15 rfl (lv_at hl 0 rfl) ?_
        refine lv_aload_n hx hb dX5_existing_16 rfl (lv_at hl 1 rfl) ?_
        refine va_get (D := E.1) (ci := 0) (v := .ref (o 1)) (C := RX5) (T := TX5) (N := 23) hx hb hts in_X5 hown hK.1 hP 0 rfl rfl 0 (by decide) (hts _ q2029) (fun _ h9 => h9) rfl dX5_existing_17 ?_
        refine lv_iconst (v := iI 1) hx hb dX5_existing_20 rfl ?_
        refine n_iald (f := ar 1) hx hb hK.1 hP 1 0 rfl rfl (by omega) (by decide) dX5_existing_21 ?_
        have b_3 := (hB 1) 1
        refine n_icmp_ge (tgt := 72) hx hb dX5_existing_22 (by decide) (by omega) (by omega) (fun c_4 => ?_) (fun c_4 => ?_)
        · refine lv_iconst (v := iI (-1)) hx hb dX5_existing_72 rfl ?_
          have hfin : (-1) = m_exist (ar 1) t th := by
            unfold m_exist
            rw [if_neg (by assumption)]
            obtain rfl : x3 = ar 1 1 := by omega
            exact il15_1.symm
          exact W.iret (v := iI (-1)) hx hb hr (fun tt_ ht_ hW_ => ⟨iI (-1), rfl, (congrArg iI hfin), ht_⟩) (fun q h => by cases h) dX5_existing_73
        · refine lv_aload_n hx hb dX5_existing_25 rfl (lv_at hl 1 rfl) ?_
          refine lv_iload_n hx hb dX5_existing_26 rfl (lv_at hl 0 rfl) ?_
          refine n_csi (x := b2 (m_here (ar 1) x3)) (va_runV (As := [iv x3]) (rest := []) ⟨hx, hb, hml, hown, hts⟩ (mt_X5_isHere l E o sc ar x3 hB (by omega)) (cwV 1 hts (lw_V q2151 q2153 qs55 q113 q2154) rfl rfl rfl (by decide +kernel) ⟨Nat.le_of_ble_eq_true rfl, Nat.le_of_ble_eq_true rfl⟩) (PW_V hP hK (va_recv hK.1 hP (ci := 0) (q0 := 0) rfl rfl)) rfl rfl hl.1 rfl (lv_room (Nat.le_of_ble_eq_true rfl)) dX5_existing_27 ⟨Nat.le_of_ble_eq_true rfl, Nat.le_of_ble_eq_true rfl⟩) ?_
          refine n_ifb_eq (tgt := 66) hx hb dX5_existing_30 (by decide) (fun c_5 => ?_) (fun c_5 => ?_)
          · refine lv_iinc (v := iI (x3 + 1)) (lv' := [(3, iv (x3 + 1)), (0, .ref (o 0)), (1, iv t), (2, iv th)]) hx hb dX5_existing_66 hl (k := 0) rfl (iI_add _ _) (by decide) rfl (fun ls hl => ?_)
            refine lv_goto (tgt := 15) hx hb dX5_existing_69 (by decide) ?_
            exact ihl15 (x3 + 1) (by first | omega | rfl) (by exact fnd_no (by omega) il15_1 (by simp [*])) (by omega) ls (lv_sub hl [0, 1, 2, 3] rfl)
          · refine lv_aload_n hx hb dX5_existing_33 rfl (lv_at hl 1 rfl) ?_
            refine lv_iload_n hx hb dX5_existing_34 rfl (lv_at hl 0 rfl) ?_
            refine lv_iconst (v := iI 0) hx hb dX5_existing_35 rfl ?_
            refine n_csi (x := m_thing (ar 1) x3 0) (va_runV (As := [iv x3, iv 0]) (rest := []) ⟨hx, hb, hml, hown, hts⟩ (mt_X5_thing l E o sc ar x3 0 (by omega)) (cwV 2 hts (lw_V q2155 q2157 qs56 q113 q2158) rfl rfl rfl (by decide +kernel) ⟨Nat.le_of_ble_eq_true rfl, Nat.le_of_ble_eq_true rfl⟩) (PW_V hP hK (va_recv hK.1 hP (ci := 0) (q0 := 0) rfl rfl)) rfl rfl hl.1 rfl (lv_room (Nat.le_of_ble_eq_true rfl)) dX5_existing_36 ⟨Nat.le_of_ble_eq_true rfl, Nat.le_of_ble_eq_true rfl⟩) ?_
            refine lv_iload_n hx hb dX5_existing_39 rfl (lv_at hl 2 rfl) ?_
            have b_6 := (show 0 ≤ m_thing (ar 1) x3 0 ∧ m_thing (ar 1) x3 0 < 2147483648 from (hB 1) _)
            refine n_icmp_ne (tgt := 66) hx hb dX5_existing_40 (by decide) (by omega) (by omega) (fun c_7 => ?_) (fun c_7 => ?_)
            · refine lv_iinc (v := iI (x3 + 1)) (lv' := [(3, iv (x3 + 1)), (0, .ref (o 0)), (1, iv t), (2, iv th)]) hx hb dX5_existing_66 hl (k := 0) rfl (iI_add _ _) (by decide) rfl (fun ls hl => ?_)
              refine lv_goto (tgt := 15) hx hb dX5_existing_69 (by decide) ?_
              exact ihl15 (x3 + 1) (by first | omega | rfl) (by exact fnd_no (by omega) il15_1 (by simp [*])) (by omega) ls (lv_sub hl [0, 1, 2, 3] rfl)
            · refine lv_aload_n hx hb dX5_existing_43 rfl (lv_at hl 1 rfl) ?_
              refine lv_iload_n hx hb dX5_existing_44 rfl (lv_at hl 2 rfl) ?_
              refine lv_iconst (v := iI 0) hx hb dX5_existing_45 rfl ?_
              refine n_csi (x := m_of (ar 1) t 0) (va_runV (As := [iv t, iv 0]) (rest := []) ⟨hx, hb, hml, hown, hts⟩ (mt_X5_of l E o sc ar t 0 (by omega)) (cwV 2 hts (lw_V q2120 q2122 qs49 q113 q2123) rfl rfl rfl (by decide +kernel) ⟨Nat.le_of_ble_eq_true rfl, Nat.le_of_ble_eq_true rfl⟩) (PW_V hP hK (va_recv hK.1 hP (ci := 0) (q0 := 0) rfl rfl)) rfl rfl hl.1 rfl (lv_room (Nat.le_of_ble_eq_true rfl)) dX5_existing_46 ⟨Nat.le_of_ble_eq_true rfl, Nat.le_of_ble_eq_true rfl⟩) ?_
              refine lv_bipush (v := iI 115) hx hb dX5_existing_49 (by decide) ?_
              refine n_icmp_eq (tgt := 64) hx hb dX5_existing_51 (by decide) (by omega) (by omega) (fun c_8 => ?_) (fun c_8 => ?_)
              · refine lv_iload_n hx hb dX5_existing_64 rfl (lv_at hl 0 rfl) ?_
                have hfin : x3 = m_exist (ar 1) t th := by
                  unfold m_exist
                  rw [if_neg (by assumption)]
                  exact (fnd_yes (by omega) (by omega) il15_1 (by simp [*])).symm
                exact W.iret (v := iI x3) hx hb hr (fun tt_ ht_ hW_ => ⟨iI x3, rfl, (congrArg iI hfin), ht_⟩) (fun q h => by cases h) dX5_existing_65
              · refine lv_aload_n hx hb dX5_existing_54 rfl (lv_at hl 1 rfl) ?_
                refine lv_iload_n hx hb dX5_existing_55 rfl (lv_at hl 0 rfl) ?_
                refine lv_iconst (v := iI 1) hx hb dX5_existing_56 rfl ?_
                refine n_csi (x := m_thing (ar 1) x3 1) (va_runV (As := [iv x3, iv 1]) (rest := []) ⟨hx, hb, hml, hown, hts⟩ (mt_X5_thing l E o sc ar x3 1 (by omega)) (cwV 2 hts (lw_V q2155 q2157 qs56 q113 q2158) rfl rfl rfl (by decide +kernel) ⟨Nat.le_of_ble_eq_true rfl, Nat.le_of_ble_eq_true rfl⟩) (PW_V hP hK (va_recv hK.1 hP (ci := 0) (q0 := 0) rfl rfl)) rfl rfl hl.1 rfl (lv_room (Nat.le_of_ble_eq_true rfl)) dX5_existing_57 ⟨Nat.le_of_ble_eq_true rfl, Nat.le_of_ble_eq_true rfl⟩) ?_
                refine lv_iload_n hx hb dX5_existing_60 rfl (lv_at hl 3 rfl) ?_
                have b_9 := (show 0 ≤ m_thing (ar 1) x3 1 ∧ m_thing (ar 1) x3 1 < 2147483648 from (hB 1) _)
                refine n_icmp_ne (tgt := 66) hx hb dX5_existing_61 (by decide) (by omega) (by omega) (fun c_10 => ?_) (fun c_10 => ?_)
                · refine lv_iinc (v := iI (x3 + 1)) (lv' := [(3, iv (x3 + 1)), (0, .ref (o 0)), (1, iv t), (2, iv th)]) hx hb dX5_existing_66 hl (k := 0) rfl (iI_add _ _) (by decide) rfl (fun ls hl => ?_)
                  refine lv_goto (tgt := 15) hx hb dX5_existing_69 (by decide) ?_
                  exact ihl15 (x3 + 1) (by first | omega | rfl) (by exact fnd_no (by omega) il15_1 (by simp [*])) (by omega) ls (lv_sub hl [0, 1, 2, 3] rfl)
                · refine lv_iload_n hx hb dX5_existing_64 rfl (lv_at hl 0 rfl) ?_
                  have hfin : x3 = m_exist (ar 1) t th := by
                    unfold m_exist
                    rw [if_neg (by assumption)]
                    exact (fnd_yes (by omega) (by omega) il15_1 (by simp [*])).symm
                  exact W.iret (v := iI x3) hx hb hr (fun tt_ ht_ hW_ => ⟨iI x3, rfl, (congrArg iI hfin), ht_⟩) (fun q h => by cases h) dX5_existing_65
    exact l15 61 0 (by first | omega | rfl | trivial) (by rfl) (by omega) ls hl
  · refine lv_iconst (v := iI (-1)) hx hb dX5_existing_11 rfl ?_
    have hfin : (-1) = m_exist (ar 1) t th := by
      unfold m_exist
      rw [if_pos (by assumption)]
    exact W.iret (v := iI (-1)) hx hb hr (fun tt_ ht_ hW_ => ⟨iI (-1), rfl, (congrArg iI hfin), ht_⟩) (fun q h => by cases h) dX5_existing_12
set_option maxHeartbeats 4000000 in
set_option maxRecDepth 100000 in
theorem mt_X5_isNoNeedOf (l : Launch) (E : EE) (o : Nat → Nat) (sc : Nat → Int) (ar : Nat → Int → Int) (k : Int) (ps : Int) (hB : ∀ k x, 0 ≤ ar k x ∧ ar k x < 2147483648) (h : -2147483648 ≤ k ∧ k < 2147483648) (h2 : -2147483648 ≤ ps ∧ ps < 2147483648) (how : OW (ar 1)) : Met l yX5_isNoNeedOf (ws_ yX5_isNoNeedOf cX5_isNoNeedOf 3 (some .boolean)) { frames := 3, cells := 0, slots := 0, locals := 64 } (va_Pc [.ref (o 0), iv k, iv ps] (PW E (MW E o sc ar))) (NP (b2 (m_noneed (ar 1) k ps))) 0 0 (fun _ => False) := by
  refine Met.ofW (cc := cX5_isNoNeedOf) (maxL := 3) (ret := (some .boolean)) (by decide) rfl ?_
  intro p e s m args below meth c s₁ B hml hv
  obtain ⟨rfl, hP, hK⟩ := hv
  have hx := B.exec
  have hb := B.bytes
  have hr := B.returns
  have hts := atoms_spec (ws := (ws_ yX5_isNoNeedOf cX5_isNoNeedOf 3 (some .boolean))) B.pre
  have hts : ∀ w ∈ lw_all, w.before _ s = true := fun w h => hts w (List.mem_cons_of_mem _ h)
  have hown : s.vm.findClass RX5 = some m.cls := findClass_of_methodNamed B.named
  have hlocks := B.notSynchronized
  have hl := lv_entry ([.ref (o 0), iv k, iv ps]) (n := 3) (Nat.le_of_ble_eq_true rfl)
  rw [lg_entry_eq]
  generalize (lg_sl ([.ref (o 0), iv k, iv ps]) ++ List.replicate (3 - (lg_sl ([.ref (o 0), iv k, iv ps])).length) Slot.unset).toArray = ls at hl ⊢
  have hl : lv_has ls 3 [(0, .ref (o 0)), (1, iv k), (2, iv ps)] := hl
  have ho1 := how.1
  have ho2 := how.2.1
  refine lv_aload_n hx hb dX5_isNoNeedOf_0 rfl (lv_at hl 0 rfl) ?_
  refine lv_iload_n hx hb dX5_isNoNeedOf_1 rfl (lv_at hl 1 rfl) ?_
  refine n_csi (x := b2 (m_isobj (ar 1) k)) (va_runV (As := [iv k]) (rest := []) ⟨hx, hb, hml, hown, hts⟩ (mt_X5_isObject l E o sc ar k hB (by omega) (by assumption)) (cwV 1 hts (lw_V q2344 q2346 qs78 q113 q2347) rfl rfl rfl (by decide +kernel) ⟨Nat.le_of_ble_eq_true rfl, Nat.le_of_ble_eq_true rfl⟩) (PW_V hP hK (va_recv hK.1 hP (ci := 0) (q0 := 0) rfl rfl)) rfl rfl hl.1 rfl (lv_room (Nat.le_of_ble_eq_true rfl)) dX5_isNoNeedOf_2 ⟨Nat.le_of_ble_eq_true rfl, Nat.le_of_ble_eq_true rfl⟩) ?_
  refine n_ifb_eq (tgt := 24) hx hb dX5_isNoNeedOf_5 (by decide) (fun c_1 => ?_) (fun c_1 => ?_)
  · refine lv_iconst (v := iI 1) hx hb dX5_isNoNeedOf_24 rfl ?_
    refine lv_goto (tgt := 29) hx hb dX5_isNoNeedOf_25 (by decide) ?_
    have hfin : 1 = b2 (m_noneed (ar 1) k ps) := by
      unfold m_noneed
      simp [*, b2]
      try omega
    exact W.zret (v := iI 1) hx hb hr (nr_b (by decide)) (fun tt_ ht_ hW_ => ⟨iI 1, rfl, (congrArg iI hfin), ht_⟩) (fun q h => by cases h) dX5_isNoNeedOf_29
  · have hz := m_isobj_ok (by assumption)
    have hob := how.2.2 k (by omega) (by omega)
    refine lv_iload_n hx hb dX5_isNoNeedOf_8 rfl (lv_at hl 2 rfl) ?_
    refine lv_iconst (v := iI 0) hx hb dX5_isNoNeedOf_9 rfl ?_
    refine lv_aload_n hx hb dX5_isNoNeedOf_10 rfl (lv_at hl 0 rfl) ?_
    refine lv_iload_n hx hb dX5_isNoNeedOf_11 rfl (lv_at hl 1 rfl) ?_
    refine lv_iconst (v := iI 3) hx hb dX5_isNoNeedOf_12 rfl ?_
    refine n_csi (x := m_thing (ar 1) k 3) (va_runV (As := [iv k, iv 3]) (rest := [iv 0, iv ps]) ⟨hx, hb, hml, hown, hts⟩ (mt_X5_thing l E o sc ar k 3 (by omega)) (cwV 2 hts (lw_V q2155 q2157 qs56 q113 q2158) rfl rfl rfl (by decide +kernel) ⟨Nat.le_of_ble_eq_true rfl, Nat.le_of_ble_eq_true rfl⟩) (PW_V hP hK (va_recv hK.1 hP (ci := 0) (q0 := 0) rfl rfl)) rfl rfl hl.1 rfl (lv_room (Nat.le_of_ble_eq_true rfl)) dX5_isNoNeedOf_13 ⟨Nat.le_of_ble_eq_true rfl, Nat.le_of_ble_eq_true rfl⟩) ?_
    refine lv_iconst (v := iI 1) hx hb dX5_isNoNeedOf_16 rfl ?_
    refine n_isub hx hb dX5_isNoNeedOf_17 ?_
    have b_2 := (show 0 ≤ m_thing (ar 1) k 3 ∧ m_thing (ar 1) k 3 < 2147483648 from (hB 1) _)
    refine n_csi (x := b2 (decide (0 ≤ ps ∧ ps ≤ ((m_thing (ar 1) k 3) - 1)))) (va_runS (As := [iv ps, iv 0, iv ((m_thing (ar 1) k 3) - 1)]) (rest := []) ⟨hx, hb, hml, hown, hts⟩ (mt_X5_in l E o sc ar ps 0 ((m_thing (ar 1) k 3) - 1) (by omega) (by omega) (by omega)) (va_cwS 3 hts (lw_S q2110 q2111 q113 q2112) rfl rfl rfl (by decide +kernel) ⟨Nat.le_of_ble_eq_true rfl, Nat.le_of_ble_eq_true rfl⟩) (PW_S hP hK) rfl rfl hl.1 rfl (lv_room (Nat.le_of_ble_eq_true rfl)) dX5_isNoNeedOf_18 ⟨Nat.le_of_ble_eq_true rfl, Nat.le_of_ble_eq_true rfl⟩) ?_
    refine n_ifd_ne (tgt := 28) hx hb dX5_isNoNeedOf_21 (by decide) (fun c_3 => ?_) (fun c_3 => ?_)
    · refine lv_iconst (v := iI 0) hx hb dX5_isNoNeedOf_28 rfl ?_
      have hfin : 0 = b2 (m_noneed (ar 1) k ps) := by
        unfold m_noneed
        simp [*, b2]
        try omega
      exact W.zret (v := iI 0) hx hb hr (nr_b (by decide)) (fun tt_ ht_ hW_ => ⟨iI 0, rfl, (congrArg iI hfin), ht_⟩) (fun q h => by cases h) dX5_isNoNeedOf_29
    · refine lv_iconst (v := iI 1) hx hb dX5_isNoNeedOf_24 rfl ?_
      refine lv_goto (tgt := 29) hx hb dX5_isNoNeedOf_25 (by decide) ?_
      have hfin : 1 = b2 (m_noneed (ar 1) k ps) := by
        unfold m_noneed
        simp [*, b2]
        try omega
      exact W.zret (v := iI 1) hx hb hr (nr_b (by decide)) (fun tt_ ht_ hW_ => ⟨iI 1, rfl, (congrArg iI hfin), ht_⟩) (fun q h => by cases h) dX5_isNoNeedOf_29
set_option maxHeartbeats 4000000 in
set_option maxRecDepth 100000 in
theorem mt_X5_objectCount (l : Launch) (E : EE) (o : Nat → Nat) (sc : Nat → Int) (ar : Nat → Int → Int) (sz : Nat) : Met l yX5_objectCount (ws_ yX5_objectCount cX5_objectCount 1 (some .int)) { frames := 0, cells := 0, slots := 0, locals := 0 } (va_Pc [.ref (o 0)] (UW E (MW E o sc ar) sz)) (UQi E ((ar 1) 1) (MW E o (us sc 8 0) ar) (va_A (MW E o sc ar) sz)) 0 0 (va_A (MW E o sc ar) sz) := by
  refine Met.ofW (cc := cX5_objectCount) (maxL := 1) (ret := (some .int)) (by decide) rfl ?_
  intro p e s m args below meth c s₁ B hml hv
  obtain ⟨rfl, hsz, hP, hK, hD0⟩ := hv
  have hx := B.exec
  have hb := B.bytes
  have hr := B.returns
  have hts := atoms_spec (ws := (ws_ yX5_objectCount cX5_objectCount 1 (some .int))) B.pre
  have hts : ∀ w ∈ lw_all, w.before _ s = true := fun w h => hts w (List.mem_cons_of_mem _ h)
  have hown : s.vm.findClass RX5 = some m.cls := findClass_of_methodNamed B.named
  have hlocks := B.notSynchronized
  subst hsz
  have hD := hD0.self (sz := s.heap.size)
  generalize hAe : va_A (MW E o sc ar) s.heap.size = A at hD ⊢
  have hA : ∀ q : Nat, s.heap.size ≤ q → A q := fun q h => by rw [← hAe]; exact Or.inr h
  have hS : va_S A s.heap s.heap [] := va_S.rf
  have hl := lv_entry ([.ref (o 0)]) (n := 1) (Nat.le_of_ble_eq_true rfl)
  rw [lg_entry_eq]
  generalize (lg_sl ([.ref (o 0)]) ++ List.replicate (1 - (lg_sl ([.ref (o 0)])).length) Slot.unset).toArray = ls at hl ⊢
  have hl : lv_has ls 1 [(0, .ref (o 0))] := hl
  refine lv_aload_n hx hb dX5_objectCount_0 rfl (lv_at hl 0 rfl) ?_
  refine lv_iconst (v := iI 0) hx hb dX5_objectCount_1 rfl ?_
  refine va_put (D := E.1) (ci := 0) (v := iv 0) (ty := .int) (C := RX5) (T := TX5) (N := 23) hx hb hts in_X5 tyX5 tyX5_ok nmX5 hown hK.1 hP hD hS 0 rfl rfl 8 (by decide) (hts _ q2037) (fun _ h9 => h9) rfl (by decide +kernel) rfl rfl (Nat.le_of_ble_eq_true rfl) dX5_objectCount_2 (fun H locs hP hD hS => ?_)
  have hP : va_P E.1 CL (MW E o (us sc 8 0) ar) H := hP
  have hD : va_D A (MW E o (us sc 8 0) ar) := hD
  refine lv_aload_n hx hb dX5_objectCount_5 rfl (lv_at hl 0 rfl) ?_
  refine va_get (D := E.1) (ci := 0) (v := .ref (o 1)) (C := RX5) (T := TX5) (N := 23) hx hb hts in_X5 hown hK.1 hP 0 rfl rfl 0 (by decide) (hts _ q2029) (fun _ h9 => h9) rfl dX5_objectCount_6 ?_
  refine lv_iconst (v := iI 1) hx hb dX5_objectCount_9 rfl ?_
  refine n_iald (f := ar 1) hx hb hK.1 hP 1 0 rfl rfl (by omega) (by decide) dX5_objectCount_10 ?_
  have hfin : ar 1 1 = (ar 1) 1 := by
    first | rfl | omega
  exact W.iret (v := iI (ar 1 1)) hx hb hr (fun tt_ ht_ hW_ => ⟨⟨iI (ar 1 1), (), rfl, (congrArg iI hfin), by rw [ht_]; exact hP, hD⟩, hS.F ht_⟩) hS.2.2 dX5_objectCount_11
set_option maxHeartbeats 4000000 in
set_option maxRecDepth 100000 in
theorem mt_X5_gotCount (l : Launch) (E : EE) (o : Nat → Nat) (sc : Nat → Int) (ar : Nat → Int → Int) (sz : Nat) : Met l yX5_gotCount (ws_ yX5_gotCount cX5_gotCount 1 (some .int)) { frames := 0, cells := 0, slots := 0, locals := 0 } (va_Pc [.ref (o 0)] (UW E (MW E o sc ar) sz)) (UQi E ((ar 1) 2) (MW E o (us sc 8 0) ar) (va_A (MW E o sc ar) sz)) 0 0 (va_A (MW E o sc ar) sz) := by
  refine Met.ofW (cc := cX5_gotCount) (maxL := 1) (ret := (some .int)) (by decide) rfl ?_
  intro p e s m args below meth c s₁ B hml hv
  obtain ⟨rfl, hsz, hP, hK, hD0⟩ := hv
  have hx := B.exec
  have hb := B.bytes
  have hr := B.returns
  have hts := atoms_spec (ws := (ws_ yX5_gotCount cX5_gotCount 1 (some .int))) B.pre
  have hts : ∀ w ∈ lw_all, w.before _ s = true := fun w h => hts w (List.mem_cons_of_mem _ h)
  have hown : s.vm.findClass RX5 = some m.cls := findClass_of_methodNamed B.named
  have hlocks := B.notSynchronized
  subst hsz
  have hD := hD0.self (sz := s.heap.size)
  generalize hAe : va_A (MW E o sc ar) s.heap.size = A at hD ⊢
  have hA : ∀ q : Nat, s.heap.size ≤ q → A q := fun q h => by rw [← hAe]; exact Or.inr h
  have hS : va_S A s.heap s.heap [] := va_S.rf
  have hl := lv_entry ([.ref (o 0)]) (n := 1) (Nat.le_of_ble_eq_true rfl)
  rw [lg_entry_eq]
  generalize (lg_sl ([.ref (o 0)]) ++ List.replicate (1 - (lg_sl ([.ref (o 0)])).length) Slot.unset).toArray = ls at hl ⊢
  have hl : lv_has ls 1 [(0, .ref (o 0))] := hl
  refine lv_aload_n hx hb dX5_gotCount_0 rfl (lv_at hl 0 rfl) ?_
  refine lv_iconst (v := iI 0) hx hb dX5_gotCount_1 rfl ?_
  refine va_put (D := E.1) (ci := 0) (v := iv 0) (ty := .int) (C := RX5) (T := TX5) (N := 23) hx hb hts in_X5 tyX5 tyX5_ok nmX5 hown hK.1 hP hD hS 0 rfl rfl 8 (by decide) (hts _ q2037) (fun _ h9 => h9) rfl (by decide +kernel) rfl rfl (Nat.le_of_ble_eq_true rfl) dX5_gotCount_2 (fun H locs hP hD hS => ?_)
  have hP : va_P E.1 CL (MW E o (us sc 8 0) ar) H := hP
  have hD : va_D A (MW E o (us sc 8 0) ar) := hD
  refine lv_aload_n hx hb dX5_gotCount_5 rfl (lv_at hl 0 rfl) ?_
  refine va_get (D := E.1) (ci := 0) (v := .ref (o 1)) (C := RX5) (T := TX5) (N := 23) hx hb hts in_X5 hown hK.1 hP 0 rfl rfl 0 (by decide) (hts _ q2029) (fun _ h9 => h9) rfl dX5_gotCount_6 ?_
  refine lv_iconst (v := iI 2) hx hb dX5_gotCount_9 rfl ?_
  refine n_iald (f := ar 1) hx hb hK.1 hP 1 0 rfl rfl (by omega) (by decide) dX5_gotCount_10 ?_
  have hfin : ar 1 2 = (ar 1) 2 := by
    first | rfl | omega
  exact W.iret (v := iI (ar 1 2)) hx hb hr (fun tt_ ht_ hW_ => ⟨⟨iI (ar 1 2), (), rfl, (congrArg iI hfin), by rw [ht_]; exact hP, hD⟩, hS.F ht_⟩) hS.2.2 dX5_gotCount_11
set_option maxHeartbeats 4000000 in
set_option maxRecDepth 100000 in
theorem mt_X5_reusedCount (l : Launch) (E : EE) (o : Nat → Nat) (sc : Nat → Int) (ar : Nat → Int → Int) (sz : Nat) : Met l yX5_reusedCount (ws_ yX5_reusedCount cX5_reusedCount 1 (some .int)) { frames := 0, cells := 0, slots := 0, locals := 0 } (va_Pc [.ref (o 0)] (UW E (MW E o sc ar) sz)) (UQi E ((ar 1) 3) (MW E o (us sc 8 0) ar) (va_A (MW E o sc ar) sz)) 0 0 (va_A (MW E o sc ar) sz) := by
  refine Met.ofW (cc := cX5_reusedCount) (maxL := 1) (ret := (some .int)) (by decide) rfl ?_
  intro p e s m args below meth c s₁ B hml hv
  obtain ⟨rfl, hsz, hP, hK, hD0⟩ := hv
  have hx := B.exec
  have hb := B.bytes
  have hr := B.returns
  have hts := atoms_spec (ws := (ws_ yX5_reusedCount cX5_reusedCount 1 (some .int))) B.pre
  have hts : ∀ w ∈ lw_all, w.before _ s = true := fun w h => hts w (List.mem_cons_of_mem _ h)
  have hown : s.vm.findClass RX5 = some m.cls := findClass_of_methodNamed B.named
  have hlocks := B.notSynchronized
  subst hsz
  have hD := hD0.self (sz := s.heap.size)
  generalize hAe : va_A (MW E o sc ar) s.heap.size = A at hD ⊢
  have hA : ∀ q : Nat, s.heap.size ≤ q → A q := fun q h => by rw [← hAe]; exact Or.inr h
  have hS : va_S A s.heap s.heap [] := va_S.rf
  have hl := lv_entry ([.ref (o 0)]) (n := 1) (Nat.le_of_ble_eq_true rfl)
  rw [lg_entry_eq]
  generalize (lg_sl ([.ref (o 0)]) ++ List.replicate (1 - (lg_sl ([.ref (o 0)])).length) Slot.unset).toArray = ls at hl ⊢
  have hl : lv_has ls 1 [(0, .ref (o 0))] := hl
  refine lv_aload_n hx hb dX5_reusedCount_0 rfl (lv_at hl 0 rfl) ?_
  refine lv_iconst (v := iI 0) hx hb dX5_reusedCount_1 rfl ?_
  refine va_put (D := E.1) (ci := 0) (v := iv 0) (ty := .int) (C := RX5) (T := TX5) (N := 23) hx hb hts in_X5 tyX5 tyX5_ok nmX5 hown hK.1 hP hD hS 0 rfl rfl 8 (by decide) (hts _ q2037) (fun _ h9 => h9) rfl (by decide +kernel) rfl rfl (Nat.le_of_ble_eq_true rfl) dX5_reusedCount_2 (fun H locs hP hD hS => ?_)
  have hP : va_P E.1 CL (MW E o (us sc 8 0) ar) H := hP
  have hD : va_D A (MW E o (us sc 8 0) ar) := hD
  refine lv_aload_n hx hb dX5_reusedCount_5 rfl (lv_at hl 0 rfl) ?_
  refine va_get (D := E.1) (ci := 0) (v := .ref (o 1)) (C := RX5) (T := TX5) (N := 23) hx hb hts in_X5 hown hK.1 hP 0 rfl rfl 0 (by decide) (hts _ q2029) (fun _ h9 => h9) rfl dX5_reusedCount_6 ?_
  refine lv_iconst (v := iI 3) hx hb dX5_reusedCount_9 rfl ?_
  refine n_iald (f := ar 1) hx hb hK.1 hP 1 0 rfl rfl (by omega) (by decide) dX5_reusedCount_10 ?_
  have hfin : ar 1 3 = (ar 1) 3 := by
    first | rfl | omega
  exact W.iret (v := iI (ar 1 3)) hx hb hr (fun tt_ ht_ hW_ => ⟨⟨iI (ar 1 3), (), rfl, (congrArg iI hfin), by rw [ht_]; exact hP, hD⟩, hS.F ht_⟩) hS.2.2 dX5_reusedCount_11
set_option maxHeartbeats 4000000 in
set_option maxRecDepth 100000 in
theorem mt_X5_isThere (l : Launch) (E : EE) (o : Nat → Nat) (sc : Nat → Int) (ar : Nat → Int → Int) (k : Int) (hB : ∀ k x, 0 ≤ ar k x ∧ ar k x < 2147483648) (h : -2147483648 ≤ k ∧ k < 2147483648) (how : OW (ar 1)) (sz : Nat) : Met l yX5_isThere (ws_ yX5_isThere cX5_isThere 2 (some .boolean)) { frames := 2, cells := 0, slots := 0, locals := 43 } (va_Pc [.ref (o 0), iv k] (UW E (MW E o sc ar) sz)) (UQi E (b2 (!(decide (0 < c_in k 0 ((ar 1) 1 - 1) 1)) && m_here (ar 1) k)) (MW E o (us (us sc 7 0) 8 (c_in k 0 ((ar 1) 1 - 1) 1)) ar) (va_A (MW E o sc ar) sz)) 0 0 (va_A (MW E o sc ar) sz) := by
  refine Met.ofW (cc := cX5_isThere) (maxL := 2) (ret := (some .boolean)) (by decide) rfl ?_
  intro p e s m args below meth c s₁ B hml hv
  obtain ⟨rfl, hsz, hP, hK, hD0⟩ := hv
  have hx := B.exec
  have hb := B.bytes
  have hr := B.returns
  have hts := atoms_spec (ws := (ws_ yX5_isThere cX5_isThere 2 (some .boolean))) B.pre
  have hts : ∀ w ∈ lw_all, w.before _ s = true := fun w h => hts w (List.mem_cons_of_mem _ h)
  have hown : s.vm.findClass RX5 = some m.cls := findClass_of_methodNamed B.named
  have hlocks := B.notSynchronized
  subst hsz
  have hD := hD0.self (sz := s.heap.size)
  generalize hAe : va_A (MW E o sc ar) s.heap.size = A at hD ⊢
  have hA : ∀ q : Nat, s.heap.size ≤ q → A q := fun q h => by rw [← hAe]; exact Or.inr h
  have hS : va_S A s.heap s.heap [] := va_S.rf
  have hl := lv_entry ([.ref (o 0), iv k]) (n := 2) (Nat.le_of_ble_eq_true rfl)
  rw [lg_entry_eq]
  generalize (lg_sl ([.ref (o 0), iv k]) ++ List.replicate (2 - (lg_sl ([.ref (o 0), iv k])).length) Slot.unset).toArray = ls at hl ⊢
  have hl : lv_has ls 2 [(0, .ref (o 0)), (1, iv k)] := hl
  have ho1 := how.1
  have ho2 := how.2.1
  refine lv_aload_n hx hb dX5_isThere_0 rfl (lv_at hl 0 rfl) ?_
  have j_1 : W p l e (headSpec (ws_ yX5_isThere cX5_isThere 2 (some .boolean)) { frames := 2, cells := 0, slots := 0, locals := 43 }).room s m ([.ref (o 0), iv k] : List Value).toArray below meth c s.heap [] 0 0 (MQ below (UQi E (b2 (!(decide (0 < c_in k 0 ((ar 1) 1 - 1) 1)) && m_here (ar 1) k)) (MW E o (us (us sc 7 0) 8 (c_in k 0 ((ar 1) 1 - 1) 1)) ar) A) ([.ref (o 0), iv k] : List Value).toArray s 0 0 A) (F0 m 22 ls [iv (c_in k 0 (ar 1 1 - 1) 1), .ref (o 0)]) := by
    have b_2 := c_in_r (v := k) (lo := 0) (hi := ar 1 1 - 1) (k := 1) (by decide)
    refine n_cui (x := b2 (decide (0 < (c_in k 0 (ar 1 1 - 1) 1)))) (va_runV (As := [iv (c_in k 0 (ar 1 1 - 1) 1)]) (rest := []) ⟨hx, hb, hml, hown, hts⟩ (mt_X5_fails l E o sc ar (c_in k 0 (ar 1 1 - 1) 1) (by omega) _) (cwV 1 hts (lw_V q2124 q2126 qs50 q113 q2127) rfl rfl rfl (by decide +kernel) ⟨Nat.le_of_ble_eq_true rfl, Nat.le_of_ble_eq_true rfl⟩) (UW_V hP hK (hD) (va_recv hK.1 hP (ci := 0) (q0 := 0) rfl rfl)) rfl rfl hl.1 rfl (lv_room (Nat.le_of_ble_eq_true rfl)) dX5_isThere_22 ⟨Nat.le_of_ble_eq_true rfl, Nat.le_of_ble_eq_true rfl⟩) hD hS hA (fun H locs hP hD hS => ?_)
    have hP : va_P E.1 CL (MW E o (us (us sc 7 0) 8 (c_in k 0 (ar 1 1 - 1) 1)) ar) H := hP
    have hD : va_D A (MW E o (us (us sc 7 0) 8 (c_in k 0 (ar 1 1 - 1) 1)) ar) := hD
    refine n_ifd_ne (tgt := 40) hx hb dX5_isThere_25 (by decide) (fun c_3 => ?_) (fun c_3 => ?_)
    · refine lv_iconst (v := iI 0) hx hb dX5_isThere_40 rfl ?_
      have hfin : 0 = b2 (!(decide (0 < c_in k 0 ((ar 1) 1 - 1) 1)) && m_here (ar 1) k) := by
        simp [*, b2]
      have w_4 : (c_in k 0 (ar 1 1 - 1) 1) = c_in k 0 ((ar 1) 1 - 1) 1 := by
        rfl
      rw [show (us (us sc 7 0) 8 (c_in k 0 (ar 1 1 - 1) 1)) = (us (us sc 7 0) 8 (c_in k 0 ((ar 1) 1 - 1) 1)) from congrArg (fun z0 : Int => (us (us sc 7 0) 8 z0)) w_4] at hP hD
      exact W.zret (v := iI 0) hx hb hr (nr_b (by decide)) (fun tt_ ht_ hW_ => ⟨⟨iI 0, (), rfl, (congrArg iI hfin), by rw [ht_]; exact hP, hD⟩, hS.F ht_⟩) hS.2.2 dX5_isThere_41
    · have hz := c_in_ok (k := 1) (by decide) (by assumption)
      refine lv_aload_n hx hb dX5_isThere_28 rfl (lv_at hl 0 rfl) ?_
      refine lv_iload_n hx hb dX5_isThere_29 rfl (lv_at hl 1 rfl) ?_
      refine n_csi (x := b2 (m_here (ar 1) k)) (va_runV (As := [iv k]) (rest := []) ⟨hx, hb, hml, hown, hts⟩ (mt_X5_isHere l E o (us (us sc 7 0) 8 (c_in k 0 (ar 1 1 - 1) 1)) ar k hB (by omega)) (cwV 1 hts (lw_V q2151 q2153 qs55 q113 q2154) rfl rfl rfl (by decide +kernel) ⟨Nat.le_of_ble_eq_true rfl, Nat.le_of_ble_eq_true rfl⟩) (PW_V hP hK (va_recv hK.1 hP (ci := 0) (q0 := 0) rfl rfl)) rfl rfl hl.1 rfl (lv_room (Nat.le_of_ble_eq_true rfl)) dX5_isThere_30 ⟨Nat.le_of_ble_eq_true rfl, Nat.le_of_ble_eq_true rfl⟩) ?_
      refine n_ifb_eq (tgt := 40) hx hb dX5_isThere_33 (by decide) (fun c_5 => ?_) (fun c_5 => ?_)
      · refine lv_iconst (v := iI 0) hx hb dX5_isThere_40 rfl ?_
        have hfin : 0 = b2 (!(decide (0 < c_in k 0 ((ar 1) 1 - 1) 1)) && m_here (ar 1) k) := by
          simp [*, b2]
        have w_6 : (c_in k 0 (ar 1 1 - 1) 1) = c_in k 0 ((ar 1) 1 - 1) 1 := by
          rfl
        rw [show (us (us sc 7 0) 8 (c_in k 0 (ar 1 1 - 1) 1)) = (us (us sc 7 0) 8 (c_in k 0 ((ar 1) 1 - 1) 1)) from congrArg (fun z0 : Int => (us (us sc 7 0) 8 z0)) w_6] at hP hD
        exact W.zret (v := iI 0) hx hb hr (nr_b (by decide)) (fun tt_ ht_ hW_ => ⟨⟨iI 0, (), rfl, (congrArg iI hfin), by rw [ht_]; exact hP, hD⟩, hS.F ht_⟩) hS.2.2 dX5_isThere_41
      · refine lv_iconst (v := iI 1) hx hb dX5_isThere_36 rfl ?_
        refine lv_goto (tgt := 41) hx hb dX5_isThere_37 (by decide) ?_
        have hfin : 1 = b2 (!(decide (0 < c_in k 0 ((ar 1) 1 - 1) 1)) && m_here (ar 1) k) := by
          simp [*, b2]
        have w_7 : (c_in k 0 (ar 1 1 - 1) 1) = c_in k 0 ((ar 1) 1 - 1) 1 := by
          rfl
        rw [show (us (us sc 7 0) 8 (c_in k 0 (ar 1 1 - 1) 1)) = (us (us sc 7 0) 8 (c_in k 0 ((ar 1) 1 - 1) 1)) from congrArg (fun z0 : Int => (us (us sc 7 0) 8 z0)) w_7] at hP hD
        exact W.zret (v := iI 1) hx hb hr (nr_b (by decide)) (fun tt_ ht_ hW_ => ⟨⟨iI 1, (), rfl, (congrArg iI hfin), by rw [ht_]; exact hP, hD⟩, hS.F ht_⟩) hS.2.2 dX5_isThere_41
  refine lv_iload_n hx hb dX5_isThere_1 rfl (lv_at hl 1 rfl) ?_
  refine lv_iconst (v := iI 0) hx hb dX5_isThere_2 rfl ?_
  refine lv_aload_n hx hb dX5_isThere_3 rfl (lv_at hl 0 rfl) ?_
  refine va_get (D := E.1) (ci := 0) (v := .ref (o 1)) (C := RX5) (T := TX5) (N := 23) hx hb hts in_X5 hown hK.1 hP 0 rfl rfl 0 (by decide) (hts _ q2029) (fun _ h9 => h9) rfl dX5_isThere_4 ?_
  refine lv_iconst (v := iI 1) hx hb dX5_isThere_7 rfl ?_
  refine n_iald (f := ar 1) hx hb hK.1 hP 1 0 rfl rfl (by omega) (by decide) dX5_isThere_8 ?_
  refine lv_iconst (v := iI 1) hx hb dX5_isThere_9 rfl ?_
  refine n_isub hx hb dX5_isThere_10 ?_
  have b_8 := (hB 1) 1
  refine n_csi (x := b2 (decide (0 ≤ k ∧ k ≤ ((ar 1 1) - 1)))) (va_runS (As := [iv k, iv 0, iv ((ar 1 1) - 1)]) (rest := [.ref (o 0)]) ⟨hx, hb, hml, hown, hts⟩ (mt_X5_in l E o sc ar k 0 ((ar 1 1) - 1) (by omega) (by omega) (by omega)) (va_cwS 3 hts (lw_S q2110 q2111 q113 q2112) rfl rfl rfl (by decide +kernel) ⟨Nat.le_of_ble_eq_true rfl, Nat.le_of_ble_eq_true rfl⟩) (PW_S hP hK) rfl rfl hl.1 rfl (lv_room (Nat.le_of_ble_eq_true rfl)) dX5_isThere_11 ⟨Nat.le_of_ble_eq_true rfl, Nat.le_of_ble_eq_true rfl⟩) ?_
  refine n_ifd_eq (tgt := 21) hx hb dX5_isThere_14 (by decide) (fun c_9 => ?_) (fun c_9 => ?_)
  · refine lv_iconst (v := iI 1) hx hb dX5_isThere_21 rfl ?_
    refine n_top (y := c_in k 0 (ar 1 1 - 1) 1) (by (try unfold c_in); (repeat' split) <;> first | rfl | omega | contradiction | (exfalso; omega) | (simp_all; done)) ?_
    exact j_1
  · refine lv_iconst (v := iI 0) hx hb dX5_isThere_17 rfl ?_
    refine lv_goto (tgt := 22) hx hb dX5_isThere_18 (by decide) ?_
    refine n_top (y := c_in k 0 (ar 1 1 - 1) 1) (by (try unfold c_in); (repeat' split) <;> first | rfl | omega | contradiction | (exfalso; omega) | (simp_all; done)) ?_
    exact j_1
set_option maxHeartbeats 4000000 in
set_option maxRecDepth 100000 in
theorem mt_X5_toolOf (l : Launch) (E : EE) (o : Nat → Nat) (sc : Nat → Int) (ar : Nat → Int → Int) (k : Int) (hB : ∀ k x, 0 ≤ ar k x ∧ ar k x < 2147483648) (h : -2147483648 ≤ k ∧ k < 2147483648) (how : OW (ar 1)) (sz : Nat) : Met l yX5_toolOf (ws_ yX5_toolOf cX5_toolOf 2 (some .char)) { frames := 3, cells := 0, slots := 0, locals := 64 } (va_Pc [.ref (o 0), iv k] (UW E (MW E o sc ar) sz)) (UQi E (if 0 < c_obj (ar 1) k then 32 else 97 + m_thing (ar 1) k 0) (MW E o (us (us sc 7 0) 8 (c_obj (ar 1) k)) ar) (va_A (MW E o sc ar) sz)) 0 0 (va_A (MW E o sc ar) sz) := by
  refine Met.ofW (cc := cX5_toolOf) (maxL := 2) (ret := (some .char)) (by decide) rfl ?_
  intro p e s m args below meth c s₁ B hml hv
  obtain ⟨rfl, hsz, hP, hK, hD0⟩ := hv
  have hx := B.exec
  have hb := B.bytes
  have hr := B.returns
  have hts := atoms_spec (ws := (ws_ yX5_toolOf cX5_toolOf 2 (some .char))) B.pre
  have hts : ∀ w ∈ lw_all, w.before _ s = true := fun w h => hts w (List.mem_cons_of_mem _ h)
  have hown : s.vm.findClass RX5 = some m.cls := findClass_of_methodNamed B.named
  have hlocks := B.notSynchronized
  subst hsz
  have hD := hD0.self (sz := s.heap.size)
  generalize hAe : va_A (MW E o sc ar) s.heap.size = A at hD ⊢
  have hA : ∀ q : Nat, s.heap.size ≤ q → A q := fun q h => by rw [← hAe]; exact Or.inr h
  have hS : va_S A s.heap s.heap [] := va_S.rf
  have hl := lv_entry ([.ref (o 0), iv k]) (n := 2) (Nat.le_of_ble_eq_true rfl)
  rw [lg_entry_eq]
  generalize (lg_sl ([.ref (o 0), iv k]) ++ List.replicate (2 - (lg_sl ([.ref (o 0), iv k])).length) Slot.unset).toArray = ls at hl ⊢
  have hl : lv_has ls 2 [(0, .ref (o 0)), (1, iv k)] := hl
  have ho1 := how.1
  have ho2 := how.2.1
  refine lv_aload_n hx hb dX5_toolOf_0 rfl (lv_at hl 0 rfl) ?_
  have j_1 : W p l e (headSpec (ws_ yX5_toolOf cX5_toolOf 2 (some .char)) { frames := 3, cells := 0, slots := 0, locals := 64 }).room s m ([.ref (o 0), iv k] : List Value).toArray below meth c s.heap [] 0 0 (MQ below (UQi E (if 0 < c_obj (ar 1) k then 32 else 97 + m_thing (ar 1) k 0) (MW E o (us (us sc 7 0) 8 (c_obj (ar 1) k)) ar) A) ([.ref (o 0), iv k] : List Value).toArray s 0 0 A) (F0 m 14 ls [iv (c_obj (ar 1) k), .ref (o 0)]) := by
    have b_2 := c_obj_r (ar 1) k
    refine n_cui (x := b2 (decide (0 < (c_obj (ar 1) k)))) (va_runV (As := [iv (c_obj (ar 1) k)]) (rest := []) ⟨hx, hb, hml, hown, hts⟩ (mt_X5_fails l E o sc ar (c_obj (ar 1) k) (by omega) _) (cwV 1 hts (lw_V q2124 q2126 qs50 q113 q2127) rfl rfl rfl (by decide +kernel) ⟨Nat.le_of_ble_eq_true rfl, Nat.le_of_ble_eq_true rfl⟩) (UW_V hP hK (hD) (va_recv hK.1 hP (ci := 0) (q0 := 0) rfl rfl)) rfl rfl hl.1 rfl (lv_room (Nat.le_of_ble_eq_true rfl)) dX5_toolOf_14 ⟨Nat.le_of_ble_eq_true rfl, Nat.le_of_ble_eq_true rfl⟩) hD hS hA (fun H locs hP hD hS => ?_)
    have hP : va_P E.1 CL (MW E o (us (us sc 7 0) 8 (c_obj (ar 1) k)) ar) H := hP
    have hD : va_D A (MW E o (us (us sc 7 0) 8 (c_obj (ar 1) k)) ar) := hD
    refine n_ifd_eq (tgt := 25) hx hb dX5_toolOf_17 (by decide) (fun c_3 => ?_) (fun c_3 => ?_)
    · have hz := c_obj_ok (by assumption)
      have hob := how.2.2 k (by omega) (by omega)
      refine lv_aload_n hx hb dX5_toolOf_25 rfl (lv_at hl 0 rfl) ?_
      refine lv_iload_n hx hb dX5_toolOf_26 rfl (lv_at hl 1 rfl) ?_
      refine lv_iconst (v := iI 0) hx hb dX5_toolOf_27 rfl ?_
      refine n_csi (x := m_thing (ar 1) k 0) (va_runV (As := [iv k, iv 0]) (rest := []) ⟨hx, hb, hml, hown, hts⟩ (mt_X5_thing l E o (us (us sc 7 0) 8 (c_obj (ar 1) k)) ar k 0 (by omega)) (cwV 2 hts (lw_V q2155 q2157 qs56 q113 q2158) rfl rfl rfl (by decide +kernel) ⟨Nat.le_of_ble_eq_true rfl, Nat.le_of_ble_eq_true rfl⟩) (PW_V hP hK (va_recv hK.1 hP (ci := 0) (q0 := 0) rfl rfl)) rfl rfl hl.1 rfl (lv_room (Nat.le_of_ble_eq_true rfl)) dX5_toolOf_28 ⟨Nat.le_of_ble_eq_true rfl, Nat.le_of_ble_eq_true rfl⟩) ?_
      have b_4 := (show 0 ≤ m_thing (ar 1) k 0 ∧ m_thing (ar 1) k 0 < 2147483648 from (hB 1) _)
      refine n_csi (x := 97 + (m_thing (ar 1) k 0)) (va_runS (As := [iv (m_thing (ar 1) k 0)]) (rest := []) ⟨hx, hb, hml, hown, hts⟩ (mt_X5_letter l E o (us (us sc 7 0) 8 (c_obj (ar 1) k)) ar (m_thing (ar 1) k 0) (by omega)) (va_cwS 1 hts (lw_S q2223 q2224 q113 q2225) rfl rfl rfl (by decide +kernel) ⟨Nat.le_of_ble_eq_true rfl, Nat.le_of_ble_eq_true rfl⟩) (PW_S hP hK) rfl rfl hl.1 rfl (lv_room (Nat.le_of_ble_eq_true rfl)) dX5_toolOf_31 ⟨Nat.le_of_ble_eq_true rfl, Nat.le_of_ble_eq_true rfl⟩) ?_
      have hfin : 97 + (m_thing (ar 1) k 0) = if 0 < c_obj (ar 1) k then 32 else 97 + m_thing (ar 1) k 0 := by
        first | exact (if_pos (by assumption)).symm | exact (if_neg (by assumption)).symm
      exact W.zret (v := iI (97 + (m_thing (ar 1) k 0))) hx hb hr (nr_c (by omega)) (fun tt_ ht_ hW_ => ⟨⟨iI (97 + (m_thing (ar 1) k 0)), (), rfl, (congrArg iI hfin), by rw [ht_]; exact hP, hD⟩, hS.F ht_⟩) hS.2.2 dX5_toolOf_34
    · refine lv_bipush (v := iI 32) hx hb dX5_toolOf_20 (by decide) ?_
      refine lv_goto (tgt := 34) hx hb dX5_toolOf_22 (by decide) ?_
      have hfin : 32 = if 0 < c_obj (ar 1) k then 32 else 97 + m_thing (ar 1) k 0 := by
        first | exact (if_pos (by assumption)).symm | exact (if_neg (by assumption)).symm
      exact W.zret (v := iI 32) hx hb hr (nr_c (by omega)) (fun tt_ ht_ hW_ => ⟨⟨iI 32, (), rfl, (congrArg iI hfin), by rw [ht_]; exact hP, hD⟩, hS.F ht_⟩) hS.2.2 dX5_toolOf_34
  refine lv_aload_n hx hb dX5_toolOf_1 rfl (lv_at hl 0 rfl) ?_
  refine lv_iload_n hx hb dX5_toolOf_2 rfl (lv_at hl 1 rfl) ?_
  refine n_csi (x := b2 (m_isobj (ar 1) k)) (va_runV (As := [iv k]) (rest := [.ref (o 0)]) ⟨hx, hb, hml, hown, hts⟩ (mt_X5_isObject l E o sc ar k hB (by omega) (by assumption)) (cwV 1 hts (lw_V q2344 q2346 qs78 q113 q2347) rfl rfl rfl (by decide +kernel) ⟨Nat.le_of_ble_eq_true rfl, Nat.le_of_ble_eq_true rfl⟩) (PW_V hP hK (va_recv hK.1 hP (ci := 0) (q0 := 0) rfl rfl)) rfl rfl hl.1 rfl (lv_room (Nat.le_of_ble_eq_true rfl)) dX5_toolOf_3 ⟨Nat.le_of_ble_eq_true rfl, Nat.le_of_ble_eq_true rfl⟩) ?_
  refine n_ifb_eq (tgt := 13) hx hb dX5_toolOf_6 (by decide) (fun c_5 => ?_) (fun c_5 => ?_)
  · refine lv_iconst (v := iI 1) hx hb dX5_toolOf_13 rfl ?_
    refine n_top (y := c_obj (ar 1) k) (by (try unfold c_obj); (repeat' split) <;> first | rfl | omega | contradiction | (exfalso; omega) | (simp_all; done)) ?_
    exact j_1
  · refine lv_iconst (v := iI 0) hx hb dX5_toolOf_9 rfl ?_
    refine lv_goto (tgt := 14) hx hb dX5_toolOf_10 (by decide) ?_
    refine n_top (y := c_obj (ar 1) k) (by (try unfold c_obj); (repeat' split) <;> first | rfl | omega | contradiction | (exfalso; omega) | (simp_all; done)) ?_
    exact j_1
set_option maxHeartbeats 4000000 in
set_option maxRecDepth 100000 in
theorem mt_X5_threadOf (l : Launch) (E : EE) (o : Nat → Nat) (sc : Nat → Int) (ar : Nat → Int → Int) (k : Int) (hB : ∀ k x, 0 ≤ ar k x ∧ ar k x < 2147483648) (h : -2147483648 ≤ k ∧ k < 2147483648) (how : OW (ar 1)) (sz : Nat) : Met l yX5_threadOf (ws_ yX5_threadOf cX5_threadOf 2 (some .int)) { frames := 3, cells := 0, slots := 0, locals := 64 } (va_Pc [.ref (o 0), iv k] (UW E (MW E o sc ar) sz)) (UQi E (if 0 < c_obj (ar 1) k then 0 else m_thing (ar 1) k 1) (MW E o (us (us sc 7 0) 8 (c_obj (ar 1) k)) ar) (va_A (MW E o sc ar) sz)) 0 0 (va_A (MW E o sc ar) sz) := by
  refine Met.ofW (cc := cX5_threadOf) (maxL := 2) (ret := (some .int)) (by decide) rfl ?_
  intro p e s m args below meth c s₁ B hml hv
  obtain ⟨rfl, hsz, hP, hK, hD0⟩ := hv
  have hx := B.exec
  have hb := B.bytes
  have hr := B.returns
  have hts := atoms_spec (ws := (ws_ yX5_threadOf cX5_threadOf 2 (some .int))) B.pre
  have hts : ∀ w ∈ lw_all, w.before _ s = true := fun w h => hts w (List.mem_cons_of_mem _ h)
  have hown : s.vm.findClass RX5 = some m.cls := findClass_of_methodNamed B.named
  have hlocks := B.notSynchronized
  subst hsz
  have hD := hD0.self (sz := s.heap.size)
  generalize hAe : va_A (MW E o sc ar) s.heap.size = A at hD ⊢
  have hA : ∀ q : Nat, s.heap.size ≤ q → A q := fun q h => by rw [← hAe]; exact Or.inr h
  have hS : va_S A s.heap s.heap [] := va_S.rf
  have hl := lv_entry ([.ref (o 0), iv k]) (n := 2) (Nat.le_of_ble_eq_true rfl)
  rw [lg_entry_eq]
  generalize (lg_sl ([.ref (o 0), iv k]) ++ List.replicate (2 - (lg_sl ([.ref (o 0), iv k])).length) Slot.unset).toArray = ls at hl ⊢
  have hl : lv_has ls 2 [(0, .ref (o 0)), (1, iv k)] := hl
  have ho1 := how.1
  have ho2 := how.2.1
  refine lv_aload_n hx hb dX5_threadOf_0 rfl (lv_at hl 0 rfl) ?_
  have j_1 : W p l e (headSpec (ws_ yX5_threadOf cX5_threadOf 2 (some .int)) { frames := 3, cells := 0, slots := 0, locals := 64 }).room s m ([.ref (o 0), iv k] : List Value).toArray below meth c s.heap [] 0 0 (MQ below (UQi E (if 0 < c_obj (ar 1) k then 0 else m_thing (ar 1) k 1) (MW E o (us (us sc 7 0) 8 (c_obj (ar 1) k)) ar) A) ([.ref (o 0), iv k] : List Value).toArray s 0 0 A) (F0 m 14 ls [iv (c_obj (ar 1) k), .ref (o 0)]) := by
    have b_2 := c_obj_r (ar 1) k
    refine n_cui (x := b2 (decide (0 < (c_obj (ar 1) k)))) (va_runV (As := [iv (c_obj (ar 1) k)]) (rest := []) ⟨hx, hb, hml, hown, hts⟩ (mt_X5_fails l E o sc ar (c_obj (ar 1) k) (by omega) _) (cwV 1 hts (lw_V q2124 q2126 qs50 q113 q2127) rfl rfl rfl (by decide +kernel) ⟨Nat.le_of_ble_eq_true rfl, Nat.le_of_ble_eq_true rfl⟩) (UW_V hP hK (hD) (va_recv hK.1 hP (ci := 0) (q0 := 0) rfl rfl)) rfl rfl hl.1 rfl (lv_room (Nat.le_of_ble_eq_true rfl)) dX5_threadOf_14 ⟨Nat.le_of_ble_eq_true rfl, Nat.le_of_ble_eq_true rfl⟩) hD hS hA (fun H locs hP hD hS => ?_)
    have hP : va_P E.1 CL (MW E o (us (us sc 7 0) 8 (c_obj (ar 1) k)) ar) H := hP
    have hD : va_D A (MW E o (us (us sc 7 0) 8 (c_obj (ar 1) k)) ar) := hD
    refine n_ifd_eq (tgt := 24) hx hb dX5_threadOf_17 (by decide) (fun c_3 => ?_) (fun c_3 => ?_)
    · have hz := c_obj_ok (by assumption)
      have hob := how.2.2 k (by omega) (by omega)
      refine lv_aload_n hx hb dX5_threadOf_24 rfl (lv_at hl 0 rfl) ?_
      refine lv_iload_n hx hb dX5_threadOf_25 rfl (lv_at hl 1 rfl) ?_
      refine lv_iconst (v := iI 1) hx hb dX5_threadOf_26 rfl ?_
      refine n_csi (x := m_thing (ar 1) k 1) (va_runV (As := [iv k, iv 1]) (rest := []) ⟨hx, hb, hml, hown, hts⟩ (mt_X5_thing l E o (us (us sc 7 0) 8 (c_obj (ar 1) k)) ar k 1 (by omega)) (cwV 2 hts (lw_V q2155 q2157 qs56 q113 q2158) rfl rfl rfl (by decide +kernel) ⟨Nat.le_of_ble_eq_true rfl, Nat.le_of_ble_eq_true rfl⟩) (PW_V hP hK (va_recv hK.1 hP (ci := 0) (q0 := 0) rfl rfl)) rfl rfl hl.1 rfl (lv_room (Nat.le_of_ble_eq_true rfl)) dX5_threadOf_27 ⟨Nat.le_of_ble_eq_true rfl, Nat.le_of_ble_eq_true rfl⟩) ?_
      have hfin : m_thing (ar 1) k 1 = if 0 < c_obj (ar 1) k then 0 else m_thing (ar 1) k 1 := by
        first | exact (if_pos (by assumption)).symm | exact (if_neg (by assumption)).symm
      exact W.iret (v := iI (m_thing (ar 1) k 1)) hx hb hr (fun tt_ ht_ hW_ => ⟨⟨iI (m_thing (ar 1) k 1), (), rfl, (congrArg iI hfin), by rw [ht_]; exact hP, hD⟩, hS.F ht_⟩) hS.2.2 dX5_threadOf_30
    · refine lv_iconst (v := iI 0) hx hb dX5_threadOf_20 rfl ?_
      refine lv_goto (tgt := 30) hx hb dX5_threadOf_21 (by decide) ?_
      have hfin : 0 = if 0 < c_obj (ar 1) k then 0 else m_thing (ar 1) k 1 := by
        first | exact (if_pos (by assumption)).symm | exact (if_neg (by assumption)).symm
      exact W.iret (v := iI 0) hx hb hr (fun tt_ ht_ hW_ => ⟨⟨iI 0, (), rfl, (congrArg iI hfin), by rw [ht_]; exact hP, hD⟩, hS.F ht_⟩) hS.2.2 dX5_threadOf_30
  refine lv_aload_n hx hb dX5_threadOf_1 rfl (lv_at hl 0 rfl) ?_
  refine lv_iload_n hx hb dX5_threadOf_2 rfl (lv_at hl 1 rfl) ?_
  refine n_csi (x := b2 (m_isobj (ar 1) k)) (va_runV (As := [iv k]) (rest := [.ref (o 0)]) ⟨hx, hb, hml, hown, hts⟩ (mt_X5_isObject l E o sc ar k hB (by omega) (by assumption)) (cwV 1 hts (lw_V q2344 q2346 qs78 q113 q2347) rfl rfl rfl (by decide +kernel) ⟨Nat.le_of_ble_eq_true rfl, Nat.le_of_ble_eq_true rfl⟩) (PW_V hP hK (va_recv hK.1 hP (ci := 0) (q0 := 0) rfl rfl)) rfl rfl hl.1 rfl (lv_room (Nat.le_of_ble_eq_true rfl)) dX5_threadOf_3 ⟨Nat.le_of_ble_eq_true rfl, Nat.le_of_ble_eq_true rfl⟩) ?_
  refine n_ifb_eq (tgt := 13) hx hb dX5_threadOf_6 (by decide) (fun c_4 => ?_) (fun c_4 => ?_)
  · refine lv_iconst (v := iI 1) hx hb dX5_threadOf_13 rfl ?_
    refine n_top (y := c_obj (ar 1) k) (by (try unfold c_obj); (repeat' split) <;> first | rfl | omega | contradiction | (exfalso; omega) | (simp_all; done)) ?_
    exact j_1
  · refine lv_iconst (v := iI 0) hx hb dX5_threadOf_9 rfl ?_
    refine lv_goto (tgt := 14) hx hb dX5_threadOf_10 (by decide) ?_
    refine n_top (y := c_obj (ar 1) k) (by (try unfold c_obj); (repeat' split) <;> first | rfl | omega | contradiction | (exfalso; omega) | (simp_all; done)) ?_
    exact j_1
set_option maxHeartbeats 4000000 in
set_option maxRecDepth 100000 in
theorem mt_X5_filledBy (l : Launch) (E : EE) (o : Nat → Nat) (sc : Nat → Int) (ar : Nat → Int → Int) (k : Int) (ps : Int) (hB : ∀ k x, 0 ≤ ar k x ∧ ar k x < 2147483648) (h : -2147483648 ≤ k ∧ k < 2147483648) (h2 : -2147483648 ≤ ps ∧ ps < 2147483648) (how : OW (ar 1)) (sz : Nat) : Met l yX5_filledBy (ws_ yX5_filledBy cX5_filledBy 3 (some .int)) { frames := 4, cells := 0, slots := 0, locals := 86 } (va_Pc [.ref (o 0), iv k, iv ps] (UW E (MW E o sc ar) sz)) (UQi E (if 0 < c_fill (ar 1) k ps then 0 else m_thing (ar 1) k (7 + ps) - 1) (MW E o (us (us sc 7 0) 8 (c_fill (ar 1) k ps)) ar) (va_A (MW E o sc ar) sz)) 0 0 (va_A (MW E o sc ar) sz) := by
  refine Met.ofW (cc := cX5_filledBy) (maxL := 3) (ret := (some .int)) (by decide) rfl ?_
  intro p e s m args below meth c s₁ B hml hv
  obtain ⟨rfl, hsz, hP, hK, hD0⟩ := hv
  have hx := B.exec
  have hb := B.bytes
  have hr := B.returns
  have hts := atoms_spec (ws := (ws_ yX5_filledBy cX5_filledBy 3 (some .int))) B.pre
  have hts : ∀ w ∈ lw_all, w.before _ s = true := fun w h => hts w (List.mem_cons_of_mem _ h)
  have hown : s.vm.findClass RX5 = some m.cls := findClass_of_methodNamed B.named
  have hlocks := B.notSynchronized
  subst hsz
  have hD := hD0.self (sz := s.heap.size)
  generalize hAe : va_A (MW E o sc ar) s.heap.size = A at hD ⊢
  have hA : ∀ q : Nat, s.heap.size ≤ q → A q := fun q h => by rw [← hAe]; exact Or.inr h
  have hS : va_S A s.heap s.heap [] := va_S.rf
  have hl := lv_entry ([.ref (o 0), iv k, iv ps]) (n := 3) (Nat.le_of_ble_eq_true rfl)
  rw [lg_entry_eq]
  generalize (lg_sl ([.ref (o 0), iv k, iv ps]) ++ List.replicate (3 - (lg_sl ([.ref (o 0), iv k, iv ps])).length) Slot.unset).toArray = ls at hl ⊢
  have hl : lv_has ls 3 [(0, .ref (o 0)), (1, iv k), (2, iv ps)] := hl
  have ho1 := how.1
  have ho2 := how.2.1
  refine lv_aload_n hx hb dX5_filledBy_0 rfl (lv_at hl 0 rfl) ?_
  have j_1 : W p l e (headSpec (ws_ yX5_filledBy cX5_filledBy 3 (some .int)) { frames := 4, cells := 0, slots := 0, locals := 86 }).room s m ([.ref (o 0), iv k, iv ps] : List Value).toArray below meth c s.heap [] 0 0 (MQ below (UQi E (if 0 < c_fill (ar 1) k ps then 0 else m_thing (ar 1) k (7 + ps) - 1) (MW E o (us (us sc 7 0) 8 (c_fill (ar 1) k ps)) ar) A) ([.ref (o 0), iv k, iv ps] : List Value).toArray s 0 0 A) (F0 m 31 ls [iv (c_fill (ar 1) k ps), .ref (o 0)]) := by
    have b_2 := c_fill_r (ar 1) k ps
    refine n_cui (x := b2 (decide (0 < (c_fill (ar 1) k ps)))) (va_runV (As := [iv (c_fill (ar 1) k ps)]) (rest := []) ⟨hx, hb, hml, hown, hts⟩ (mt_X5_fails l E o sc ar (c_fill (ar 1) k ps) (by omega) _) (cwV 1 hts (lw_V q2124 q2126 qs50 q113 q2127) rfl rfl rfl (by decide +kernel) ⟨Nat.le_of_ble_eq_true rfl, Nat.le_of_ble_eq_true rfl⟩) (UW_V hP hK (hD) (va_recv hK.1 hP (ci := 0) (q0 := 0) rfl rfl)) rfl rfl hl.1 rfl (lv_room (Nat.le_of_ble_eq_true rfl)) dX5_filledBy_31 ⟨Nat.le_of_ble_eq_true rfl, Nat.le_of_ble_eq_true rfl⟩) hD hS hA (fun H locs hP hD hS => ?_)
    have hP : va_P E.1 CL (MW E o (us (us sc 7 0) 8 (c_fill (ar 1) k ps)) ar) H := hP
    have hD : va_D A (MW E o (us (us sc 7 0) 8 (c_fill (ar 1) k ps)) ar) := hD
    refine n_ifd_eq (tgt := 41) hx hb dX5_filledBy_34 (by decide) (fun c_3 => ?_) (fun c_3 => ?_)
    · have hz := m_noneed_ok (c_fill_ok (by assumption))
      have hob := how.2.2 k (by omega) (by omega)
      refine lv_aload_n hx hb dX5_filledBy_41 rfl (lv_at hl 0 rfl) ?_
      refine lv_iload_n hx hb dX5_filledBy_42 rfl (lv_at hl 1 rfl) ?_
      refine lv_bipush (v := iI 7) hx hb dX5_filledBy_43 (by decide) ?_
      refine lv_iload_n hx hb dX5_filledBy_45 rfl (lv_at hl 2 rfl) ?_
      refine n_iadd hx hb dX5_filledBy_46 ?_
      refine n_csi (x := m_thing (ar 1) k (7 + ps)) (va_runV (As := [iv k, iv (7 + ps)]) (rest := []) ⟨hx, hb, hml, hown, hts⟩ (mt_X5_thing l E o (us (us sc 7 0) 8 (c_fill (ar 1) k ps)) ar k (7 + ps) (by omega)) (cwV 2 hts (lw_V q2155 q2157 qs56 q113 q2158) rfl rfl rfl (by decide +kernel) ⟨Nat.le_of_ble_eq_true rfl, Nat.le_of_ble_eq_true rfl⟩) (PW_V hP hK (va_recv hK.1 hP (ci := 0) (q0 := 0) rfl rfl)) rfl rfl hl.1 rfl (lv_room (Nat.le_of_ble_eq_true rfl)) dX5_filledBy_47 ⟨Nat.le_of_ble_eq_true rfl, Nat.le_of_ble_eq_true rfl⟩) ?_
      refine lv_iconst (v := iI 1) hx hb dX5_filledBy_50 rfl ?_
      refine n_isub hx hb dX5_filledBy_51 ?_
      have hfin : (m_thing (ar 1) k (7 + ps)) - 1 = if 0 < c_fill (ar 1) k ps then 0 else m_thing (ar 1) k (7 + ps) - 1 := by
        first | exact (if_pos (by assumption)).symm | exact (if_neg (by assumption)).symm
      exact W.iret (v := iI ((m_thing (ar 1) k (7 + ps)) - 1)) hx hb hr (fun tt_ ht_ hW_ => ⟨⟨iI ((m_thing (ar 1) k (7 + ps)) - 1), (), rfl, (congrArg iI hfin), by rw [ht_]; exact hP, hD⟩, hS.F ht_⟩) hS.2.2 dX5_filledBy_52
    · refine lv_iconst (v := iI 0) hx hb dX5_filledBy_37 rfl ?_
      refine lv_goto (tgt := 52) hx hb dX5_filledBy_38 (by decide) ?_
      have hfin : 0 = if 0 < c_fill (ar 1) k ps then 0 else m_thing (ar 1) k (7 + ps) - 1 := by
        first | exact (if_pos (by assumption)).symm | exact (if_neg (by assumption)).symm
      exact W.iret (v := iI 0) hx hb hr (fun tt_ ht_ hW_ => ⟨⟨iI 0, (), rfl, (congrArg iI hfin), by rw [ht_]; exact hP, hD⟩, hS.F ht_⟩) hS.2.2 dX5_filledBy_52
  refine lv_aload_n hx hb dX5_filledBy_1 rfl (lv_at hl 0 rfl) ?_
  refine lv_iload_n hx hb dX5_filledBy_2 rfl (lv_at hl 1 rfl) ?_
  refine lv_iload_n hx hb dX5_filledBy_3 rfl (lv_at hl 2 rfl) ?_
  refine n_csi (x := b2 (m_noneed (ar 1) k ps)) (va_runV (As := [iv k, iv ps]) (rest := [.ref (o 0)]) ⟨hx, hb, hml, hown, hts⟩ (mt_X5_isNoNeedOf l E o sc ar k ps hB (by omega) (by omega) (by assumption)) (cwV 2 hts (lw_V q2340 q2342 qs77 q113 q2343) rfl rfl rfl (by decide +kernel) ⟨Nat.le_of_ble_eq_true rfl, Nat.le_of_ble_eq_true rfl⟩) (PW_V hP hK (va_recv hK.1 hP (ci := 0) (q0 := 0) rfl rfl)) rfl rfl hl.1 rfl (lv_room (Nat.le_of_ble_eq_true rfl)) dX5_filledBy_4 ⟨Nat.le_of_ble_eq_true rfl, Nat.le_of_ble_eq_true rfl⟩) ?_
  refine n_ifb_eq (tgt := 14) hx hb dX5_filledBy_7 (by decide) (fun c_4 => ?_) (fun c_4 => ?_)
  · have hz := m_noneed_ok (by assumption)
    have hob := how.2.2 k (by omega) (by omega)
    refine lv_aload_n hx hb dX5_filledBy_14 rfl (lv_at hl 0 rfl) ?_
    refine lv_iload_n hx hb dX5_filledBy_15 rfl (lv_at hl 1 rfl) ?_
    refine lv_bipush (v := iI 7) hx hb dX5_filledBy_16 (by decide) ?_
    refine lv_iload_n hx hb dX5_filledBy_18 rfl (lv_at hl 2 rfl) ?_
    refine n_iadd hx hb dX5_filledBy_19 ?_
    refine n_csi (x := m_thing (ar 1) k (7 + ps)) (va_runV (As := [iv k, iv (7 + ps)]) (rest := [.ref (o 0)]) ⟨hx, hb, hml, hown, hts⟩ (mt_X5_thing l E o sc ar k (7 + ps) (by omega)) (cwV 2 hts (lw_V q2155 q2157 qs56 q113 q2158) rfl rfl rfl (by decide +kernel) ⟨Nat.le_of_ble_eq_true rfl, Nat.le_of_ble_eq_true rfl⟩) (PW_V hP hK (va_recv hK.1 hP (ci := 0) (q0 := 0) rfl rfl)) rfl rfl hl.1 rfl (lv_room (Nat.le_of_ble_eq_true rfl)) dX5_filledBy_20 ⟨Nat.le_of_ble_eq_true rfl, Nat.le_of_ble_eq_true rfl⟩) ?_
    have b_5 := (show 0 ≤ m_thing (ar 1) k (7 + ps) ∧ m_thing (ar 1) k (7 + ps) < 2147483648 from (hB 1) _)
    refine n_if_ne (tgt := 30) hx hb dX5_filledBy_23 (by decide) (by omega) (fun c_6 => ?_) (fun c_6 => ?_)
    · refine lv_iconst (v := iI 0) hx hb dX5_filledBy_30 rfl ?_
      refine n_top (y := c_fill (ar 1) k ps) (by (try unfold c_fill); (repeat' split) <;> first | rfl | omega | contradiction | (exfalso; omega) | (simp_all; done)) ?_
      exact j_1
    · refine lv_iconst (v := iI 2) hx hb dX5_filledBy_26 rfl ?_
      refine lv_goto (tgt := 31) hx hb dX5_filledBy_27 (by decide) ?_
      refine n_top (y := c_fill (ar 1) k ps) (by (try unfold c_fill); (repeat' split) <;> first | rfl | omega | contradiction | (exfalso; omega) | (simp_all; done)) ?_
      exact j_1
  · refine lv_iconst (v := iI 1) hx hb dX5_filledBy_10 rfl ?_
    refine lv_goto (tgt := 31) hx hb dX5_filledBy_11 (by decide) ?_
    refine n_top (y := c_fill (ar 1) k ps) (by (try unfold c_fill); (repeat' split) <;> first | rfl | omega | contradiction | (exfalso; omega) | (simp_all; done)) ?_
    exact j_1
set_option maxHeartbeats 4000000 in
set_option maxRecDepth 100000 in
theorem mt_X5_danglers (l : Launch) (E : EE) (o : Nat → Nat) (sc : Nat → Int) (ar : Nat → Int → Int) (hB : ∀ k x, 0 ≤ ar k x ∧ ar k x < 2147483648) (how : OW (ar 1)) (sz : Nat) : Met l yX5_danglers (ws_ yX5_danglers cX5_danglers 5 (some .int)) { frames := 2, cells := 0, slots := 0, locals := 43 } (va_Pc [.ref (o 0)] (UW E (MW E o sc ar) sz)) (UQi E (m_dang (ar 1)) (MW E o (us sc 8 0) ar) (va_A (MW E o sc ar) sz)) 0 0 (va_A (MW E o sc ar) sz) := by
  refine Met.ofW (cc := cX5_danglers) (maxL := 5) (ret := (some .int)) (by decide) rfl ?_
  intro p e s m args below meth c s₁ B hml hv
  obtain ⟨rfl, hsz, hP, hK, hD0⟩ := hv
  have hx := B.exec
  have hb := B.bytes
  have hr := B.returns
  have hts := atoms_spec (ws := (ws_ yX5_danglers cX5_danglers 5 (some .int))) B.pre
  have hts : ∀ w ∈ lw_all, w.before _ s = true := fun w h => hts w (List.mem_cons_of_mem _ h)
  have hown : s.vm.findClass RX5 = some m.cls := findClass_of_methodNamed B.named
  have hlocks := B.notSynchronized
  subst hsz
  have hD := hD0.self (sz := s.heap.size)
  generalize hAe : va_A (MW E o sc ar) s.heap.size = A at hD ⊢
  have hA : ∀ q : Nat, s.heap.size ≤ q → A q := fun q h => by rw [← hAe]; exact Or.inr h
  have hS : va_S A s.heap s.heap [] := va_S.rf
  have hl := lv_entry ([.ref (o 0)]) (n := 5) (Nat.le_of_ble_eq_true rfl)
  rw [lg_entry_eq]
  generalize (lg_sl ([.ref (o 0)]) ++ List.replicate (5 - (lg_sl ([.ref (o 0)])).length) Slot.unset).toArray = ls at hl ⊢
  have hl : lv_has ls 5 [(0, .ref (o 0))] := hl
  have ho1 := how.1
  have ho2 := how.2.1
  refine lv_aload_n hx hb dX5_danglers_0 rfl (lv_at hl 0 rfl) ?_
  refine lv_iconst (v := iI 0) hx hb dX5_danglers_1 rfl ?_
  refine va_put (D := E.1) (ci := 0) (v := iv 0) (ty := .int) (C := RX5) (T := TX5) (N := 23) hx hb hts in_X5 tyX5 tyX5_ok nmX5 hown hK.1 hP hD hS 0 rfl rfl 8 (by decide) (hts _ q2037) (fun _ h9 => h9) rfl (by decide +kernel) rfl rfl (Nat.le_of_ble_eq_true rfl) dX5_danglers_2 (fun H locs hP hD hS => ?_)
  have hP : va_P E.1 CL (MW E o (us sc 8 0) ar) H := hP
  have hD : va_D A (MW E o (us sc 8 0) ar) := hD
  refine lv_iconst (v := iI 0) hx hb dX5_danglers_5 rfl ?_
  refine lv_istore_n (lv' := [(1, iv 0), (0, .ref (o 0))]) hx hb dX5_danglers_6 rfl hl (by decide) rfl (fun ls hl => ?_)
  refine lv_iconst (v := iI 0) hx hb dX5_danglers_7 rfl ?_
  refine lv_istore_n (lv' := [(2, iv 0), (1, iv 0), (0, .ref (o 0))]) hx hb dX5_danglers_8 rfl hl (by decide) rfl (fun ls hl => ?_)
  have la : ∀ (fu : Nat) (x1 : Int) (x2 : Int), (0 ≤ x2 ∧ x2 ≤ ar 1 1) → (x1 = sumI (fun o => b2 (exB (fun k => decide (0 < m_thing (ar 1) o (7 + k)) && !(m_here (ar 1) (m_thing (ar 1) o (7 + k) - 1))) (m_thing (ar 1) o 3) && m_here (ar 1) o)) x2) → (ar 1 1 - x2 < (fu : Int)) → ∀ ls : Array Slot, lv_has ls 5 [(2, iv x2), (1, iv x1), (0, .ref (o 0))] → W p l e (headSpec (ws_ yX5_danglers cX5_danglers 5 (some .int)) { frames := 2, cells := 0, slots := 0, locals := 43 }).room s m ([.ref (o 0)] : List Value).toArray below meth c H locs 0 0 (MQ below (UQi E (m_dang (ar 1)) (MW E o (us sc 8 0) ar) A) ([.ref (o 0)] : List Value).toArray s 0 0 A) (F0 m 9 ls []) := by
    intro fu
    induction fu with
    | zero =>
      intro x1 x2 ila_0 ila_1 hm
      exfalso; omega
    | succ fu ih =>
      intro x1 x2 ila_0 ila_1 hm ls hl
      have ihla := ih
      have hob := how.2.2 x2
      refine lv_iload_n hx hb dX5_danglers_9 rfl (lv_at hl 0 rfl) ?_
      refine lv_aload_n hx hb dX5_danglers_10 rfl (lv_at hl 2 rfl) ?_
      refine va_get (D := E.1) (ci := 0) (v := .ref (o 1)) (C := RX5) (T := TX5) (N := 23) hx hb hts in_X5 hown hK.1 hP 0 rfl rfl 0 (by decide) (hts _ q2029) (fun _ h9 => h9) rfl dX5_danglers_11 ?_
      refine lv_iconst (v := iI 1) hx hb dX5_danglers_14 rfl ?_
      refine n_iald (f := ar 1) hx hb hK.1 hP 1 0 rfl rfl (by omega) (by decide) dX5_danglers_15 ?_
      have b_1 := (hB 1) 1
      refine n_icmp_ge (tgt := 107) hx hb dX5_danglers_16 (by decide) (by omega) (by omega) (fun c_2 => ?_) (fun c_2 => ?_)
      · refine lv_iload_n hx hb dX5_danglers_107 rfl (lv_at hl 1 rfl) ?_
        have hfin : x1 = m_dang (ar 1) := by
          obtain rfl : x2 = ar 1 1 := by omega
          exact ila_1
        exact W.iret (v := iI x1) hx hb hr (fun tt_ ht_ hW_ => ⟨⟨iI x1, (), rfl, (congrArg iI hfin), by rw [ht_]; exact hP, hD⟩, hS.F ht_⟩) hS.2.2 dX5_danglers_108
      · refine lv_iconst (v := iI 0) hx hb dX5_danglers_19 rfl ?_
        refine lv_istore_n (lv' := [(3, iv 0), (2, iv x2), (1, iv x1), (0, .ref (o 0))]) hx hb dX5_danglers_20 rfl hl (by decide) rfl (fun ls hl => ?_)
        refine lv_iconst (v := iI 0) hx hb dX5_danglers_21 rfl ?_
        refine lv_istore (lv' := [(4, iv 0), (3, iv 0), (2, iv x2), (1, iv x1), (0, .ref (o 0))]) hx hb dX5_danglers_22 hl (by decide) rfl (fun ls hl => ?_)
        have hob2 := hob (by omega) (by omega)
        have lb : ∀ (fu : Nat) (f3 : Bool) (x4 : Int), (0 ≤ x4 ∧ x4 ≤ m_thing (ar 1) x2 3) → (f3 = exB (fun k => decide (0 < m_thing (ar 1) x2 (7 + k)) && !(m_here (ar 1) (m_thing (ar 1) x2 (7 + k) - 1))) x4) → (m_thing (ar 1) x2 3 - x4 < (fu : Int)) → ∀ ls : Array Slot, lv_has ls 5 [(4, iv x4), (3, iv (b2 f3)), (2, iv x2), (1, iv x1), (0, .ref (o 0))] → W p l e (headSpec (ws_ yX5_danglers cX5_danglers 5 (some .int)) { frames := 2, cells := 0, slots := 0, locals := 43 }).room s m ([.ref (o 0)] : List Value).toArray below meth c H locs 0 0 (MQ below (UQi E (m_dang (ar 1)) (MW E o (us sc 8 0) ar) A) ([.ref (o 0)] : List Value).toArray s 0 0 A) (F0 m 24 ls []) := by
          intro fu
          induction fu with
          | zero =>
            intro f3 x4 ilb_0 ilb_1 hm
            exfalso; omega
          | succ fu ih =>
            intro f3 x4 ilb_0 ilb_1 hm ls hl
            have ihlb := ih
            have hfl := hob2.2.2 x4
            refine lv_iload hx hb dX5_danglers_24 (lv_at hl 0 rfl) ?_
            refine lv_aload_n hx hb dX5_danglers_26 rfl (lv_at hl 4 rfl) ?_
            refine lv_iload_n hx hb dX5_danglers_27 rfl (lv_at hl 2 rfl) ?_
            refine lv_iconst (v := iI 3) hx hb dX5_danglers_28 rfl ?_
            refine n_csi (x := m_thing (ar 1) x2 3) (va_runV (As := [iv x2, iv 3]) (rest := [iv x4]) ⟨hx, hb, hml, hown, hts⟩ (mt_X5_thing l E o (us sc 8 0) ar x2 3 (by omega)) (cwV 2 hts (lw_V q2155 q2157 qs56 q113 q2158) rfl rfl rfl (by decide +kernel) ⟨Nat.le_of_ble_eq_true rfl, Nat.le_of_ble_eq_true rfl⟩) (PW_V hP hK (va_recv hK.1 hP (ci := 0) (q0 := 0) rfl rfl)) rfl rfl hl.1 rfl (lv_room (Nat.le_of_ble_eq_true rfl)) dX5_danglers_29 ⟨Nat.le_of_ble_eq_true rfl, Nat.le_of_ble_eq_true rfl⟩) ?_
            have b_3 := (show 0 ≤ m_thing (ar 1) x2 3 ∧ m_thing (ar 1) x2 3 < 2147483648 from (hB 1) _)
            refine n_icmp_ge (tgt := 81) hx hb dX5_danglers_32 (by decide) (by omega) (by omega) (fun c_4 => ?_) (fun c_4 => ?_)
            · have e3 : x4 = m_thing (ar 1) x2 3 := by omega
              rw [e3] at ilb_1
              refine lv_iload_n hx hb dX5_danglers_81 rfl (lv_at hl 3 rfl) ?_
              refine lv_iload_n hx hb dX5_danglers_82 rfl (lv_at hl 1 rfl) ?_
              refine n_ifb_eq (tgt := 98) hx hb dX5_danglers_83 (by decide) (fun c_5 => ?_) (fun c_5 => ?_)
              · refine lv_iconst (v := iI 0) hx hb dX5_danglers_98 rfl ?_
                refine n_iadd hx hb dX5_danglers_99 ?_
                refine lv_istore_n (lv' := [(1, iv (x1 + 0)), (4, iv x4), (3, iv (b2 f3)), (2, iv x2), (0, .ref (o 0))]) hx hb dX5_danglers_100 rfl hl (by decide) rfl (fun ls hl => ?_)
                refine lv_iinc (v := iI (x2 + 1)) (lv' := [(2, iv (x2 + 1)), (1, iv (x1 + 0)), (4, iv x4), (3, iv (b2 f3)), (0, .ref (o 0))]) hx hb dX5_danglers_101 hl (k := 3) rfl (iI_add _ _) (by decide) rfl (fun ls hl => ?_)
                refine lv_goto (tgt := 9) hx hb dX5_danglers_104 (by decide) ?_
                exact ihla (x1 + 0) (x2 + 1) (by first | omega | rfl) (by rw [sumI_s (by omega)]; rw [← ilb_1]; simp only [c_2, c_4, c_5, b2_t, Bool.true_and, Bool.false_and, Bool.and_false, Bool.and_true, b2_f]; omega) (by omega) ls (lv_sub hl [0, 1, 4] rfl)
              · refine lv_aload_n hx hb dX5_danglers_86 rfl (lv_at hl 4 rfl) ?_
                refine lv_iload_n hx hb dX5_danglers_87 rfl (lv_at hl 2 rfl) ?_
                refine n_csi (x := b2 (m_here (ar 1) x2)) (va_runV (As := [iv x2]) (rest := [iv x1]) ⟨hx, hb, hml, hown, hts⟩ (mt_X5_isHere l E o (us sc 8 0) ar x2 hB (by omega)) (cwV 1 hts (lw_V q2151 q2153 qs55 q113 q2154) rfl rfl rfl (by decide +kernel) ⟨Nat.le_of_ble_eq_true rfl, Nat.le_of_ble_eq_true rfl⟩) (PW_V hP hK (va_recv hK.1 hP (ci := 0) (q0 := 0) rfl rfl)) rfl rfl hl.1 rfl (lv_room (Nat.le_of_ble_eq_true rfl)) dX5_danglers_88 ⟨Nat.le_of_ble_eq_true rfl, Nat.le_of_ble_eq_true rfl⟩) ?_
                refine n_ifb_eq (tgt := 98) hx hb dX5_danglers_91 (by decide) (fun c_6 => ?_) (fun c_6 => ?_)
                · refine lv_iconst (v := iI 0) hx hb dX5_danglers_98 rfl ?_
                  refine n_iadd hx hb dX5_danglers_99 ?_
                  refine lv_istore_n (lv' := [(1, iv (x1 + 0)), (4, iv x4), (3, iv (b2 f3)), (2, iv x2), (0, .ref (o 0))]) hx hb dX5_danglers_100 rfl hl (by decide) rfl (fun ls hl => ?_)
                  refine lv_iinc (v := iI (x2 + 1)) (lv' := [(2, iv (x2 + 1)), (1, iv (x1 + 0)), (4, iv x4), (3, iv (b2 f3)), (0, .ref (o 0))]) hx hb dX5_danglers_101 hl (k := 3) rfl (iI_add _ _) (by decide) rfl (fun ls hl => ?_)
                  refine lv_goto (tgt := 9) hx hb dX5_danglers_104 (by decide) ?_
                  exact ihla (x1 + 0) (x2 + 1) (by first | omega | rfl) (by rw [sumI_s (by omega)]; rw [← ilb_1]; simp only [c_2, c_4, c_5, c_6, b2_t, Bool.true_and, Bool.false_and, Bool.and_false, Bool.and_true, b2_f]; omega) (by omega) ls (lv_sub hl [0, 1, 4] rfl)
                · refine lv_iconst (v := iI 1) hx hb dX5_danglers_94 rfl ?_
                  refine lv_goto (tgt := 99) hx hb dX5_danglers_95 (by decide) ?_
                  refine n_iadd hx hb dX5_danglers_99 ?_
                  refine lv_istore_n (lv' := [(1, iv (x1 + 1)), (4, iv x4), (3, iv (b2 f3)), (2, iv x2), (0, .ref (o 0))]) hx hb dX5_danglers_100 rfl hl (by decide) rfl (fun ls hl => ?_)
                  refine lv_iinc (v := iI (x2 + 1)) (lv' := [(2, iv (x2 + 1)), (1, iv (x1 + 1)), (4, iv x4), (3, iv (b2 f3)), (0, .ref (o 0))]) hx hb dX5_danglers_101 hl (k := 3) rfl (iI_add _ _) (by decide) rfl (fun ls hl => ?_)
                  refine lv_goto (tgt := 9) hx hb dX5_danglers_104 (by decide) ?_
                  exact ihla (x1 + 1) (x2 + 1) (by first | omega | rfl) (by rw [sumI_s (by omega)]; rw [← ilb_1]; simp only [c_2, c_4, c_5, c_6, b2_t, Bool.true_and, Bool.false_and, Bool.and_false, Bool.and_true, b2_f]; omega) (by omega) ls (lv_sub hl [0, 1, 4] rfl)
            · have hfl2 := hfl (by omega) (by omega)
              refine lv_iload_n hx hb dX5_danglers_35 rfl (lv_at hl 1 rfl) ?_
              refine lv_aload_n hx hb dX5_danglers_36 rfl (lv_at hl 4 rfl) ?_
              refine lv_iload_n hx hb dX5_danglers_37 rfl (lv_at hl 2 rfl) ?_
              refine lv_bipush (v := iI 7) hx hb dX5_danglers_38 (by decide) ?_
              refine lv_iload hx hb dX5_danglers_40 (lv_at hl 0 rfl) ?_
              refine n_iadd hx hb dX5_danglers_42 ?_
              refine n_csi (x := m_thing (ar 1) x2 (7 + x4)) (va_runV (As := [iv x2, iv (7 + x4)]) (rest := [iv (b2 f3)]) ⟨hx, hb, hml, hown, hts⟩ (mt_X5_thing l E o (us sc 8 0) ar x2 (7 + x4) (by omega)) (cwV 2 hts (lw_V q2155 q2157 qs56 q113 q2158) rfl rfl rfl (by decide +kernel) ⟨Nat.le_of_ble_eq_true rfl, Nat.le_of_ble_eq_true rfl⟩) (PW_V hP hK (va_recv hK.1 hP (ci := 0) (q0 := 0) rfl rfl)) rfl rfl hl.1 rfl (lv_room (Nat.le_of_ble_eq_true rfl)) dX5_danglers_43 ⟨Nat.le_of_ble_eq_true rfl, Nat.le_of_ble_eq_true rfl⟩) ?_
              have b_7 := (show 0 ≤ m_thing (ar 1) x2 (7 + x4) ∧ m_thing (ar 1) x2 (7 + x4) < 2147483648 from (hB 1) _)
              refine n_if_le (tgt := 72) hx hb dX5_danglers_46 (by decide) (by omega) (fun c_8 => ?_) (fun c_8 => ?_)
              · refine lv_iconst (v := iI 0) hx hb dX5_danglers_72 rfl ?_
                refine n_ior_b (x := f3) (y := false) hx hb dX5_danglers_73 ?_
                refine lv_istore_n (lv' := [(3, iv (b2 (f3 || false))), (4, iv x4), (2, iv x2), (1, iv x1), (0, .ref (o 0))]) hx hb dX5_danglers_74 rfl hl (by decide) rfl (fun ls hl => ?_)
                refine lv_iinc (v := iI (x4 + 1)) (lv' := [(4, iv (x4 + 1)), (3, iv (b2 (f3 || false))), (2, iv x2), (1, iv x1), (0, .ref (o 0))]) hx hb dX5_danglers_75 hl (k := 1) rfl (iI_add _ _) (by decide) rfl (fun ls hl => ?_)
                refine lv_goto (tgt := 24) hx hb dX5_danglers_78 (by decide) ?_
                exact ihlb (f3 || false) (x4 + 1) (by first | omega | rfl) (by rw [exB_s (by omega), ← ilb_1]; simp [c_2, c_4, c_8, b2_t]; try (intros; omega)) (by omega) ls (lv_sub hl [0, 1, 2, 3, 4] rfl)
              · refine lv_aload_n hx hb dX5_danglers_49 rfl (lv_at hl 4 rfl) ?_
                refine lv_aload_n hx hb dX5_danglers_50 rfl (lv_at hl 4 rfl) ?_
                refine lv_iload_n hx hb dX5_danglers_51 rfl (lv_at hl 2 rfl) ?_
                refine lv_bipush (v := iI 7) hx hb dX5_danglers_52 (by decide) ?_
                refine lv_iload hx hb dX5_danglers_54 (lv_at hl 0 rfl) ?_
                refine n_iadd hx hb dX5_danglers_56 ?_
                refine n_csi (x := m_thing (ar 1) x2 (7 + x4)) (va_runV (As := [iv x2, iv (7 + x4)]) (rest := [.ref (o 0), iv (b2 f3)]) ⟨hx, hb, hml, hown, hts⟩ (mt_X5_thing l E o (us sc 8 0) ar x2 (7 + x4) (by omega)) (cwV 2 hts (lw_V q2155 q2157 qs56 q113 q2158) rfl rfl rfl (by decide +kernel) ⟨Nat.le_of_ble_eq_true rfl, Nat.le_of_ble_eq_true rfl⟩) (PW_V hP hK (va_recv hK.1 hP (ci := 0) (q0 := 0) rfl rfl)) rfl rfl hl.1 rfl (lv_room (Nat.le_of_ble_eq_true rfl)) dX5_danglers_57 ⟨Nat.le_of_ble_eq_true rfl, Nat.le_of_ble_eq_true rfl⟩) ?_
                refine lv_iconst (v := iI 1) hx hb dX5_danglers_60 rfl ?_
                refine n_isub hx hb dX5_danglers_61 ?_
                refine n_csi (x := b2 (m_here (ar 1) ((m_thing (ar 1) x2 (7 + x4)) - 1))) (va_runV (As := [iv ((m_thing (ar 1) x2 (7 + x4)) - 1)]) (rest := [iv (b2 f3)]) ⟨hx, hb, hml, hown, hts⟩ (mt_X5_isHere l E o (us sc 8 0) ar ((m_thing (ar 1) x2 (7 + x4)) - 1) hB (by omega)) (cwV 1 hts (lw_V q2151 q2153 qs55 q113 q2154) rfl rfl rfl (by decide +kernel) ⟨Nat.le_of_ble_eq_true rfl, Nat.le_of_ble_eq_true rfl⟩) (PW_V hP hK (va_recv hK.1 hP (ci := 0) (q0 := 0) rfl rfl)) rfl rfl hl.1 rfl (lv_room (Nat.le_of_ble_eq_true rfl)) dX5_danglers_62 ⟨Nat.le_of_ble_eq_true rfl, Nat.le_of_ble_eq_true rfl⟩) ?_
                refine n_ifb_ne (tgt := 72) hx hb dX5_danglers_65 (by decide) (fun c_9 => ?_) (fun c_9 => ?_)
                · refine lv_iconst (v := iI 0) hx hb dX5_danglers_72 rfl ?_
                  refine n_ior_b (x := f3) (y := false) hx hb dX5_danglers_73 ?_
                  refine lv_istore_n (lv' := [(3, iv (b2 (f3 || false))), (4, iv x4), (2, iv x2), (1, iv x1), (0, .ref (o 0))]) hx hb dX5_danglers_74 rfl hl (by decide) rfl (fun ls hl => ?_)
                  refine lv_iinc (v := iI (x4 + 1)) (lv' := [(4, iv (x4 + 1)), (3, iv (b2 (f3 || false))), (2, iv x2), (1, iv x1), (0, .ref (o 0))]) hx hb dX5_danglers_75 hl (k := 1) rfl (iI_add _ _) (by decide) rfl (fun ls hl => ?_)
                  refine lv_goto (tgt := 24) hx hb dX5_danglers_78 (by decide) ?_
                  exact ihlb (f3 || false) (x4 + 1) (by first | omega | rfl) (by rw [exB_s (by omega), ← ilb_1]; simp [c_2, c_4, c_8, c_9, b2_t]; try (intros; omega)) (by omega) ls (lv_sub hl [0, 1, 2, 3, 4] rfl)
                · refine lv_iconst (v := iI 1) hx hb dX5_danglers_68 rfl ?_
                  refine lv_goto (tgt := 73) hx hb dX5_danglers_69 (by decide) ?_
                  refine n_ior_b (x := f3) (y := true) hx hb dX5_danglers_73 ?_
                  refine lv_istore_n (lv' := [(3, iv (b2 (f3 || true))), (4, iv x4), (2, iv x2), (1, iv x1), (0, .ref (o 0))]) hx hb dX5_danglers_74 rfl hl (by decide) rfl (fun ls hl => ?_)
                  refine lv_iinc (v := iI (x4 + 1)) (lv' := [(4, iv (x4 + 1)), (3, iv (b2 (f3 || true))), (2, iv x2), (1, iv x1), (0, .ref (o 0))]) hx hb dX5_danglers_75 hl (k := 1) rfl (iI_add _ _) (by decide) rfl (fun ls hl => ?_)
                  refine lv_goto (tgt := 24) hx hb dX5_danglers_78 (by decide) ?_
                  exact ihlb (f3 || true) (x4 + 1) (by first | omega | rfl) (by rw [exB_s (by omega), ← ilb_1]; simp [c_2, c_4, c_8, c_9, b2_t]; try (intros; omega)) (by omega) ls (lv_sub hl [0, 1, 2, 3, 4] rfl)
        exact lb 4 false 0 (by first | omega | rfl | trivial) (by rfl) (by omega) ls hl
  exact la 61 0 0 (by first | omega | rfl | trivial) (by rfl) (by omega) ls hl
set_option maxHeartbeats 4000000 in
set_option maxRecDepth 100000 in
theorem mt_X5_refusalReason (l : Launch) (E : EE) (o : Nat → Nat) (sc : Nat → Int) (ar : Nat → Int → Int) (hw : -2147483648 ≤ sc 9 ∧ sc 9 < 2147483648) (sz : Nat) : Met l yX5_refusalReason (ws_ yX5_refusalReason cX5_refusalReason 1 (some .int)) { frames := 1, cells := 0, slots := 0, locals := 21 } (va_Pc [.ref (o 0)] (UW E (MW E o sc ar) sz)) (UQi E (if 0 < c_zero (sc 9) then 0 else sc 9) (MW E o (us (us sc 7 0) 8 (c_zero (sc 9))) ar) (va_A (MW E o sc ar) sz)) 0 0 (va_A (MW E o sc ar) sz) := by
  refine Met.ofW (cc := cX5_refusalReason) (maxL := 1) (ret := (some .int)) (by decide) rfl ?_
  intro p e s m args below meth c s₁ B hml hv
  obtain ⟨rfl, hsz, hP, hK, hD0⟩ := hv
  have hx := B.exec
  have hb := B.bytes
  have hr := B.returns
  have hts := atoms_spec (ws := (ws_ yX5_refusalReason cX5_refusalReason 1 (some .int))) B.pre
  have hts : ∀ w ∈ lw_all, w.before _ s = true := fun w h => hts w (List.mem_cons_of_mem _ h)
  have hown : s.vm.findClass RX5 = some m.cls := findClass_of_methodNamed B.named
  have hlocks := B.notSynchronized
  subst hsz
  have hD := hD0.self (sz := s.heap.size)
  generalize hAe : va_A (MW E o sc ar) s.heap.size = A at hD ⊢
  have hA : ∀ q : Nat, s.heap.size ≤ q → A q := fun q h => by rw [← hAe]; exact Or.inr h
  have hS : va_S A s.heap s.heap [] := va_S.rf
  have hl := lv_entry ([.ref (o 0)]) (n := 1) (Nat.le_of_ble_eq_true rfl)
  rw [lg_entry_eq]
  generalize (lg_sl ([.ref (o 0)]) ++ List.replicate (1 - (lg_sl ([.ref (o 0)])).length) Slot.unset).toArray = ls at hl ⊢
  have hl : lv_has ls 1 [(0, .ref (o 0))] := hl
  refine lv_aload_n hx hb dX5_refusalReason_0 rfl (lv_at hl 0 rfl) ?_
  have j_1 : W p l e (headSpec (ws_ yX5_refusalReason cX5_refusalReason 1 (some .int)) { frames := 1, cells := 0, slots := 0, locals := 21 }).room s m ([.ref (o 0)] : List Value).toArray below meth c s.heap [] 0 0 (MQ below (UQi E (if 0 < c_zero (sc 9) then 0 else sc 9) (MW E o (us (us sc 7 0) 8 (c_zero (sc 9))) ar) A) ([.ref (o 0)] : List Value).toArray s 0 0 A) (F0 m 13 ls [iv (c_zero (sc 9)), .ref (o 0)]) := by
    have b_2 := c_zero_r (sc 9)
    refine n_cui (x := b2 (decide (0 < (c_zero (sc 9))))) (va_runV (As := [iv (c_zero (sc 9))]) (rest := []) ⟨hx, hb, hml, hown, hts⟩ (mt_X5_fails l E o sc ar (c_zero (sc 9)) (by omega) _) (cwV 1 hts (lw_V q2124 q2126 qs50 q113 q2127) rfl rfl rfl (by decide +kernel) ⟨Nat.le_of_ble_eq_true rfl, Nat.le_of_ble_eq_true rfl⟩) (UW_V hP hK (hD) (va_recv hK.1 hP (ci := 0) (q0 := 0) rfl rfl)) rfl rfl hl.1 rfl (lv_room (Nat.le_of_ble_eq_true rfl)) dX5_refusalReason_13 ⟨Nat.le_of_ble_eq_true rfl, Nat.le_of_ble_eq_true rfl⟩) hD hS hA (fun H locs hP hD hS => ?_)
    have hP : va_P E.1 CL (MW E o (us (us sc 7 0) 8 (c_zero (sc 9))) ar) H := hP
    have hD : va_D A (MW E o (us (us sc 7 0) 8 (c_zero (sc 9))) ar) := hD
    refine n_ifd_eq (tgt := 23) hx hb dX5_refusalReason_16 (by decide) (fun c_3 => ?_) (fun c_3 => ?_)
    · refine lv_aload_n hx hb dX5_refusalReason_23 rfl (lv_at hl 0 rfl) ?_
      refine va_get (D := E.1) (ci := 0) (v := iv (sc 9)) (C := RX5) (T := TX5) (N := 23) hx hb hts in_X5 hown hK.1 hP 0 rfl rfl 9 (by decide) (hts _ q2038) (fun _ h9 => h9) rfl dX5_refusalReason_24 ?_
      have hfin : sc 9 = if 0 < c_zero (sc 9) then 0 else sc 9 := by
        first | exact (if_pos (by assumption)).symm | exact (if_neg (by assumption)).symm
      exact W.iret (v := iI (sc 9)) hx hb hr (fun tt_ ht_ hW_ => ⟨⟨iI (sc 9), (), rfl, (congrArg iI hfin), by rw [ht_]; exact hP, hD⟩, hS.F ht_⟩) hS.2.2 dX5_refusalReason_27
    · refine lv_iconst (v := iI 0) hx hb dX5_refusalReason_19 rfl ?_
      refine lv_goto (tgt := 27) hx hb dX5_refusalReason_20 (by decide) ?_
      have hfin : 0 = if 0 < c_zero (sc 9) then 0 else sc 9 := by
        first | exact (if_pos (by assumption)).symm | exact (if_neg (by assumption)).symm
      exact W.iret (v := iI 0) hx hb hr (fun tt_ ht_ hW_ => ⟨⟨iI 0, (), rfl, (congrArg iI hfin), by rw [ht_]; exact hP, hD⟩, hS.F ht_⟩) hS.2.2 dX5_refusalReason_27
  refine lv_aload_n hx hb dX5_refusalReason_1 rfl (lv_at hl 0 rfl) ?_
  refine va_get (D := E.1) (ci := 0) (v := iv (sc 9)) (C := RX5) (T := TX5) (N := 23) hx hb hts in_X5 hown hK.1 hP 0 rfl rfl 9 (by decide) (hts _ q2038) (fun _ h9 => h9) rfl dX5_refusalReason_2 ?_
  refine n_if_ne (tgt := 12) hx hb dX5_refusalReason_5 (by decide) (by omega) (fun c_4 => ?_) (fun c_4 => ?_)
  · refine lv_iconst (v := iI 0) hx hb dX5_refusalReason_12 rfl ?_
    refine n_top (y := c_zero (sc 9)) (by (try unfold c_zero); (repeat' split) <;> first | rfl | omega | contradiction | (exfalso; omega) | (simp_all; done)) ?_
    exact j_1
  · refine lv_iconst (v := iI 1) hx hb dX5_refusalReason_8 rfl ?_
    refine lv_goto (tgt := 13) hx hb dX5_refusalReason_9 (by decide) ?_
    refine n_top (y := c_zero (sc 9)) (by (try unfold c_zero); (repeat' split) <;> first | rfl | omega | contradiction | (exfalso; omega) | (simp_all; done)) ?_
    exact j_1
set_option maxHeartbeats 4000000 in
set_option maxRecDepth 100000 in
theorem mt_X5_refusalDetail (l : Launch) (E : EE) (o : Nat → Nat) (sc : Nat → Int) (ar : Nat → Int → Int) (hw : -2147483648 ≤ sc 9 ∧ sc 9 < 2147483648) (sz : Nat) : Met l yX5_refusalDetail (ws_ yX5_refusalDetail cX5_refusalDetail 1 (some .int)) { frames := 1, cells := 0, slots := 0, locals := 21 } (va_Pc [.ref (o 0)] (UW E (MW E o sc ar) sz)) (UQi E (if 0 < c_zero (sc 9) then 0 else sc 10) (MW E o (us (us sc 7 0) 8 (c_zero (sc 9))) ar) (va_A (MW E o sc ar) sz)) 0 0 (va_A (MW E o sc ar) sz) := by
  refine Met.ofW (cc := cX5_refusalDetail) (maxL := 1) (ret := (some .int)) (by decide) rfl ?_
  intro p e s m args below meth c s₁ B hml hv
  obtain ⟨rfl, hsz, hP, hK, hD0⟩ := hv
  have hx := B.exec
  have hb := B.bytes
  have hr := B.returns
  have hts := atoms_spec (ws := (ws_ yX5_refusalDetail cX5_refusalDetail 1 (some .int))) B.pre
  have hts : ∀ w ∈ lw_all, w.before _ s = true := fun w h => hts w (List.mem_cons_of_mem _ h)
  have hown : s.vm.findClass RX5 = some m.cls := findClass_of_methodNamed B.named
  have hlocks := B.notSynchronized
  subst hsz
  have hD := hD0.self (sz := s.heap.size)
  generalize hAe : va_A (MW E o sc ar) s.heap.size = A at hD ⊢
  have hA : ∀ q : Nat, s.heap.size ≤ q → A q := fun q h => by rw [← hAe]; exact Or.inr h
  have hS : va_S A s.heap s.heap [] := va_S.rf
  have hl := lv_entry ([.ref (o 0)]) (n := 1) (Nat.le_of_ble_eq_true rfl)
  rw [lg_entry_eq]
  generalize (lg_sl ([.ref (o 0)]) ++ List.replicate (1 - (lg_sl ([.ref (o 0)])).length) Slot.unset).toArray = ls at hl ⊢
  have hl : lv_has ls 1 [(0, .ref (o 0))] := hl
  refine lv_aload_n hx hb dX5_refusalDetail_0 rfl (lv_at hl 0 rfl) ?_
  have j_1 : W p l e (headSpec (ws_ yX5_refusalDetail cX5_refusalDetail 1 (some .int)) { frames := 1, cells := 0, slots := 0, locals := 21 }).room s m ([.ref (o 0)] : List Value).toArray below meth c s.heap [] 0 0 (MQ below (UQi E (if 0 < c_zero (sc 9) then 0 else sc 10) (MW E o (us (us sc 7 0) 8 (c_zero (sc 9))) ar) A) ([.ref (o 0)] : List Value).toArray s 0 0 A) (F0 m 13 ls [iv (c_zero (sc 9)), .ref (o 0)]) := by
    have b_2 := c_zero_r (sc 9)
    refine n_cui (x := b2 (decide (0 < (c_zero (sc 9))))) (va_runV (As := [iv (c_zero (sc 9))]) (rest := []) ⟨hx, hb, hml, hown, hts⟩ (mt_X5_fails l E o sc ar (c_zero (sc 9)) (by omega) _) (cwV 1 hts (lw_V q2124 q2126 qs50 q113 q2127) rfl rfl rfl (by decide +kernel) ⟨Nat.le_of_ble_eq_true rfl, Nat.le_of_ble_eq_true rfl⟩) (UW_V hP hK (hD) (va_recv hK.1 hP (ci := 0) (q0 := 0) rfl rfl)) rfl rfl hl.1 rfl (lv_room (Nat.le_of_ble_eq_true rfl)) dX5_refusalDetail_13 ⟨Nat.le_of_ble_eq_true rfl, Nat.le_of_ble_eq_true rfl⟩) hD hS hA (fun H locs hP hD hS => ?_)
    have hP : va_P E.1 CL (MW E o (us (us sc 7 0) 8 (c_zero (sc 9))) ar) H := hP
    have hD : va_D A (MW E o (us (us sc 7 0) 8 (c_zero (sc 9))) ar) := hD
    refine n_ifd_eq (tgt := 23) hx hb dX5_refusalDetail_16 (by decide) (fun c_3 => ?_) (fun c_3 => ?_)
    · refine lv_aload_n hx hb dX5_refusalDetail_23 rfl (lv_at hl 0 rfl) ?_
      refine va_get (D := E.1) (ci := 0) (v := iv (sc 10)) (C := RX5) (T := TX5) (N := 23) hx hb hts in_X5 hown hK.1 hP 0 rfl rfl 10 (by decide) (hts _ q2039) (fun _ h9 => h9) rfl dX5_refusalDetail_24 ?_
      have hfin : sc 10 = if 0 < c_zero (sc 9) then 0 else sc 10 := by
        first | exact (if_pos (by assumption)).symm | exact (if_neg (by assumption)).symm
      exact W.iret (v := iI (sc 10)) hx hb hr (fun tt_ ht_ hW_ => ⟨⟨iI (sc 10), (), rfl, (congrArg iI hfin), by rw [ht_]; exact hP, hD⟩, hS.F ht_⟩) hS.2.2 dX5_refusalDetail_27
    · refine lv_iconst (v := iI 0) hx hb dX5_refusalDetail_19 rfl ?_
      refine lv_goto (tgt := 27) hx hb dX5_refusalDetail_20 (by decide) ?_
      have hfin : 0 = if 0 < c_zero (sc 9) then 0 else sc 10 := by
        first | exact (if_pos (by assumption)).symm | exact (if_neg (by assumption)).symm
      exact W.iret (v := iI 0) hx hb hr (fun tt_ ht_ hW_ => ⟨⟨iI 0, (), rfl, (congrArg iI hfin), by rw [ht_]; exact hP, hD⟩, hS.F ht_⟩) hS.2.2 dX5_refusalDetail_27
  refine lv_aload_n hx hb dX5_refusalDetail_1 rfl (lv_at hl 0 rfl) ?_
  refine va_get (D := E.1) (ci := 0) (v := iv (sc 9)) (C := RX5) (T := TX5) (N := 23) hx hb hts in_X5 hown hK.1 hP 0 rfl rfl 9 (by decide) (hts _ q2038) (fun _ h9 => h9) rfl dX5_refusalDetail_2 ?_
  refine n_if_ne (tgt := 12) hx hb dX5_refusalDetail_5 (by decide) (by omega) (fun c_4 => ?_) (fun c_4 => ?_)
  · refine lv_iconst (v := iI 0) hx hb dX5_refusalDetail_12 rfl ?_
    refine n_top (y := c_zero (sc 9)) (by (try unfold c_zero); (repeat' split) <;> first | rfl | omega | contradiction | (exfalso; omega) | (simp_all; done)) ?_
    exact j_1
  · refine lv_iconst (v := iI 1) hx hb dX5_refusalDetail_8 rfl ?_
    refine lv_goto (tgt := 13) hx hb dX5_refusalDetail_9 (by decide) ?_
    refine n_top (y := c_zero (sc 9)) (by (try unfold c_zero); (repeat' split) <;> first | rfl | omega | contradiction | (exfalso; omega) | (simp_all; done)) ?_
    exact j_1
set_option maxHeartbeats 4000000 in
set_option maxRecDepth 100000 in
theorem mt_X5_refusalCause (l : Launch) (E : EE) (o : Nat → Nat) (sc : Nat → Int) (ar : Nat → Int → Int) (hw : -2147483648 ≤ sc 11 ∧ sc 11 < 2147483648) (sz : Nat) : Met l yX5_refusalCause (ws_ yX5_refusalCause cX5_refusalCause 1 (some .int)) { frames := 1, cells := 0, slots := 0, locals := 21 } (va_Pc [.ref (o 0)] (UW E (MW E o sc ar) sz)) (UQi E (if 0 < c_zero (sc 11) then 0 else sc 11) (MW E o (us (us sc 7 0) 8 (c_zero (sc 11))) ar) (va_A (MW E o sc ar) sz)) 0 0 (va_A (MW E o sc ar) sz) := by
  refine Met.ofW (cc := cX5_refusalCause) (maxL := 1) (ret := (some .int)) (by decide) rfl ?_
  intro p e s m args below meth c s₁ B hml hv
  obtain ⟨rfl, hsz, hP, hK, hD0⟩ := hv
  have hx := B.exec
  have hb := B.bytes
  have hr := B.returns
  have hts := atoms_spec (ws := (ws_ yX5_refusalCause cX5_refusalCause 1 (some .int))) B.pre
  have hts : ∀ w ∈ lw_all, w.before _ s = true := fun w h => hts w (List.mem_cons_of_mem _ h)
  have hown : s.vm.findClass RX5 = some m.cls := findClass_of_methodNamed B.named
  have hlocks := B.notSynchronized
  subst hsz
  have hD := hD0.self (sz := s.heap.size)
  generalize hAe : va_A (MW E o sc ar) s.heap.size = A at hD ⊢
  have hA : ∀ q : Nat, s.heap.size ≤ q → A q := fun q h => by rw [← hAe]; exact Or.inr h
  have hS : va_S A s.heap s.heap [] := va_S.rf
  have hl := lv_entry ([.ref (o 0)]) (n := 1) (Nat.le_of_ble_eq_true rfl)
  rw [lg_entry_eq]
  generalize (lg_sl ([.ref (o 0)]) ++ List.replicate (1 - (lg_sl ([.ref (o 0)])).length) Slot.unset).toArray = ls at hl ⊢
  have hl : lv_has ls 1 [(0, .ref (o 0))] := hl
  refine lv_aload_n hx hb dX5_refusalCause_0 rfl (lv_at hl 0 rfl) ?_
  have j_1 : W p l e (headSpec (ws_ yX5_refusalCause cX5_refusalCause 1 (some .int)) { frames := 1, cells := 0, slots := 0, locals := 21 }).room s m ([.ref (o 0)] : List Value).toArray below meth c s.heap [] 0 0 (MQ below (UQi E (if 0 < c_zero (sc 11) then 0 else sc 11) (MW E o (us (us sc 7 0) 8 (c_zero (sc 11))) ar) A) ([.ref (o 0)] : List Value).toArray s 0 0 A) (F0 m 13 ls [iv (c_zero (sc 11)), .ref (o 0)]) := by
    have b_2 := c_zero_r (sc 11)
    refine n_cui (x := b2 (decide (0 < (c_zero (sc 11))))) (va_runV (As := [iv (c_zero (sc 11))]) (rest := []) ⟨hx, hb, hml, hown, hts⟩ (mt_X5_fails l E o sc ar (c_zero (sc 11)) (by omega) _) (cwV 1 hts (lw_V q2124 q2126 qs50 q113 q2127) rfl rfl rfl (by decide +kernel) ⟨Nat.le_of_ble_eq_true rfl, Nat.le_of_ble_eq_true rfl⟩) (UW_V hP hK (hD) (va_recv hK.1 hP (ci := 0) (q0 := 0) rfl rfl)) rfl rfl hl.1 rfl (lv_room (Nat.le_of_ble_eq_true rfl)) dX5_refusalCause_13 ⟨Nat.le_of_ble_eq_true rfl, Nat.le_of_ble_eq_true rfl⟩) hD hS hA (fun H locs hP hD hS => ?_)
    have hP : va_P E.1 CL (MW E o (us (us sc 7 0) 8 (c_zero (sc 11))) ar) H := hP
    have hD : va_D A (MW E o (us (us sc 7 0) 8 (c_zero (sc 11))) ar) := hD
    refine n_ifd_eq (tgt := 23) hx hb dX5_refusalCause_16 (by decide) (fun c_3 => ?_) (fun c_3 => ?_)
    · refine lv_aload_n hx hb dX5_refusalCause_23 rfl (lv_at hl 0 rfl) ?_
      refine va_get (D := E.1) (ci := 0) (v := iv (sc 11)) (C := RX5) (T := TX5) (N := 23) hx hb hts in_X5 hown hK.1 hP 0 rfl rfl 11 (by decide) (hts _ q2040) (fun _ h9 => h9) rfl dX5_refusalCause_24 ?_
      have hfin : sc 11 = if 0 < c_zero (sc 11) then 0 else sc 11 := by
        first | exact (if_pos (by assumption)).symm | exact (if_neg (by assumption)).symm
      exact W.iret (v := iI (sc 11)) hx hb hr (fun tt_ ht_ hW_ => ⟨⟨iI (sc 11), (), rfl, (congrArg iI hfin), by rw [ht_]; exact hP, hD⟩, hS.F ht_⟩) hS.2.2 dX5_refusalCause_27
    · refine lv_iconst (v := iI 0) hx hb dX5_refusalCause_19 rfl ?_
      refine lv_goto (tgt := 27) hx hb dX5_refusalCause_20 (by decide) ?_
      have hfin : 0 = if 0 < c_zero (sc 11) then 0 else sc 11 := by
        first | exact (if_pos (by assumption)).symm | exact (if_neg (by assumption)).symm
      exact W.iret (v := iI 0) hx hb hr (fun tt_ ht_ hW_ => ⟨⟨iI 0, (), rfl, (congrArg iI hfin), by rw [ht_]; exact hP, hD⟩, hS.F ht_⟩) hS.2.2 dX5_refusalCause_27
  refine lv_aload_n hx hb dX5_refusalCause_1 rfl (lv_at hl 0 rfl) ?_
  refine va_get (D := E.1) (ci := 0) (v := iv (sc 11)) (C := RX5) (T := TX5) (N := 23) hx hb hts in_X5 hown hK.1 hP 0 rfl rfl 11 (by decide) (hts _ q2040) (fun _ h9 => h9) rfl dX5_refusalCause_2 ?_
  refine n_if_ne (tgt := 12) hx hb dX5_refusalCause_5 (by decide) (by omega) (fun c_4 => ?_) (fun c_4 => ?_)
  · refine lv_iconst (v := iI 0) hx hb dX5_refusalCause_12 rfl ?_
    refine n_top (y := c_zero (sc 11)) (by (try unfold c_zero); (repeat' split) <;> first | rfl | omega | contradiction | (exfalso; omega) | (simp_all; done)) ?_
    exact j_1
  · refine lv_iconst (v := iI 1) hx hb dX5_refusalCause_8 rfl ?_
    refine lv_goto (tgt := 13) hx hb dX5_refusalCause_9 (by decide) ?_
    refine n_top (y := c_zero (sc 11)) (by (try unfold c_zero); (repeat' split) <;> first | rfl | omega | contradiction | (exfalso; omega) | (simp_all; done)) ?_
    exact j_1
