set_option maxHeartbeats 4000000 in
set_option maxRecDepth 100000 in
theorem mt_X5_reuseShare (l : Launch) (E : EE) (o : Nat → Nat) (sc : Nat → Int) (ar : Nat → Int → Int) (hB : ∀ k x, 0 ≤ ar k x ∧ ar k x < 2147483648) (sz : Nat) : Met l yX5_reuseShare (ws_ yX5_reuseShare cX5_reuseShare 1 (some .float)) { frames := 1, cells := 0, slots := 0, locals := 21 } (va_Pc [.ref (o 0)] (UW E (MW E o sc ar) sz)) (UQf E (if 0 < c_nul ((ar 1) 2) then 0 else m_share (ar 1)) (MW E o (us (us sc 7 0) 8 (c_nul ((ar 1) 2))) ar) (va_A (MW E o sc ar) sz)) 0 0 (va_A (MW E o sc ar) sz) := by
  refine Met.ofW (cc := cX5_reuseShare) (maxL := 1) (ret := (some .float)) (by decide) rfl ?_
  intro p e s m args below meth c s₁ B hml hv
  obtain ⟨rfl, hsz, hP, hK, hD0⟩ := hv
  have hx := B.exec
  have hb := B.bytes
  have hr := B.returns
  have hts := atoms_spec (ws := (ws_ yX5_reuseShare cX5_reuseShare 1 (some .float))) B.pre
  have hts : ∀ w ∈ lw_all, w.before _ s = true := fun w h => hts w (List.mem_cons_of_mem _ h)
  have hown : s.vm.findClass RX5 = some m.cls := findClass_of_methodNamed B.named
  have hlocks := B.notSynchronized
  subst hsz
  have hD := hD0.self (sz := s.heap.size)
  generalize hAe : va_A (MW E o sc ar) s.heap.size = A at hD ⊢
  have hA : ∀ q : Nat, s.heap.size ≤ q → A q := fun q h => by rw [← hAe]; exact Or.inr h
  have hS : va_S A s.heap s.heap [] := va_S.rf
  have hl := lv_entry ([.ref (o 0)]) (n := 1) (Nat.le_of_ble_eq_true rfl)
  rw [lg_entry_eq]
  generalize (lg_sl ([.ref (o 0)]) ++ List.replicate (1 - (lg_sl ([.ref (o 0)])).length) Slot.unset).toArray = ls at hl ⊢
  have hl : lv_has ls 1 [(0, .ref (o 0))] := hl
  have hq2 := hB 1 2
  have hq3 := hB 1 3
  refine lv_aload_n hx hb dX5_reuseShare_0 rfl (lv_at hl 0 rfl) ?_
  have j_1 : W p l e (headSpec (ws_ yX5_reuseShare cX5_reuseShare 1 (some .float)) { frames := 1, cells := 0, slots := 0, locals := 21 }).room s m ([.ref (o 0)] : List Value).toArray below meth c s.heap [] 0 0 (MQ below (UQf E (if 0 < c_nul ((ar 1) 2) then 0 else m_share (ar 1)) (MW E o (us (us sc 7 0) 8 (c_nul ((ar 1) 2))) ar) A) ([.ref (o 0)] : List Value).toArray s 0 0 A) (F0 m 15 ls [iv (c_nul ((ar 1) 2)), .ref (o 0)]) := by
    have b_2 := c_nul_r (ar 1 2)
    refine n_cui (x := b2 (decide (0 < (c_nul ((ar 1) 2))))) (va_runV (As := [iv (c_nul ((ar 1) 2))]) (rest := []) ⟨hx, hb, hml, hown, hts⟩ (mt_X5_fails l E o sc ar (c_nul ((ar 1) 2)) (by omega) _) (cwV 1 hts (lw_V q2124 q2126 qs50 q113 q2127) rfl rfl rfl (by decide +kernel) ⟨Nat.le_of_ble_eq_true rfl, Nat.le_of_ble_eq_true rfl⟩) (UW_V hP hK (hD) (va_recv hK.1 hP (ci := 0) (q0 := 0) rfl rfl)) rfl rfl hl.1 rfl (lv_room (Nat.le_of_ble_eq_true rfl)) dX5_reuseShare_15 ⟨Nat.le_of_ble_eq_true rfl, Nat.le_of_ble_eq_true rfl⟩) hD hS hA (fun H locs hP hD hS => ?_)
    have hP : va_P E.1 CL (MW E o (us (us sc 7 0) 8 (c_nul ((ar 1) 2))) ar) H := hP
    have hD : va_D A (MW E o (us (us sc 7 0) 8 (c_nul ((ar 1) 2))) ar) := hD
    refine n_ifd_eq (tgt := 25) hx hb dX5_reuseShare_18 (by decide) (fun c_3 => ?_) (fun c_3 => ?_)
    · have hz := c_nul_ok (by assumption)
      refine lv_aload_n hx hb dX5_reuseShare_25 rfl (lv_at hl 0 rfl) ?_
      refine va_get (D := E.1) (ci := 0) (v := .ref (o 1)) (C := RX5) (T := TX5) (N := 23) hx hb hts in_X5 hown hK.1 hP 0 rfl rfl 0 (by decide) (hts _ q2029) (fun _ h9 => h9) rfl dX5_reuseShare_26 ?_
      refine lv_iconst (v := iI 3) hx hb dX5_reuseShare_29 rfl ?_
      refine n_iald (f := ar 1) hx hb hK.1 hP 1 0 rfl rfl (by omega) (by decide) dX5_reuseShare_30 ?_
      refine lv_i2f hx hb dX5_reuseShare_31 ?_
      refine lv_aload_n hx hb dX5_reuseShare_32 rfl (lv_at hl 0 rfl) ?_
      refine va_get (D := E.1) (ci := 0) (v := .ref (o 1)) (C := RX5) (T := TX5) (N := 23) hx hb hts in_X5 hown hK.1 hP 0 rfl rfl 0 (by decide) (hts _ q2029) (fun _ h9 => h9) rfl dX5_reuseShare_33 ?_
      refine lv_iconst (v := iI 2) hx hb dX5_reuseShare_36 rfl ?_
      refine n_iald (f := ar 1) hx hb hK.1 hP 1 0 rfl rfl (by omega) (by decide) dX5_reuseShare_37 ?_
      refine lv_i2f hx hb dX5_reuseShare_38 ?_
      have b_4 := (hB 1) 2
      refine lv_fdiv hx hb dX5_reuseShare_39 (vf_f (b := ar 1 2) (by omega) (by omega)) ?_
      have hfin : (FP.fdiv (FP.i2f (iI (ar 1 3))) (FP.i2f (iI (ar 1 2))) : UInt32) = if 0 < c_nul ((ar 1) 2) then 0 else m_share (ar 1) := by
        first | exact (if_pos (by assumption)).symm | exact (if_neg (by assumption)).symm
      exact W.fret (v := FP.fdiv (FP.i2f (iI (ar 1 3))) (FP.i2f (iI (ar 1 2)))) hx hb hr (fun tt_ ht_ hW_ => ⟨⟨FP.fdiv (FP.i2f (iI (ar 1 3))) (FP.i2f (iI (ar 1 2))), (), rfl, hfin, by rw [ht_]; exact hP, hD⟩, hS.F ht_⟩) hS.2.2 dX5_reuseShare_40
    · refine lv_fconst0 hx hb dX5_reuseShare_21 ?_
      refine lv_goto (tgt := 40) hx hb dX5_reuseShare_22 (by decide) ?_
      have hfin : (0 : UInt32) = if 0 < c_nul ((ar 1) 2) then 0 else m_share (ar 1) := by
        first | exact (if_pos (by assumption)).symm | exact (if_neg (by assumption)).symm
      exact W.fret (v := 0) hx hb hr (fun tt_ ht_ hW_ => ⟨⟨0, (), rfl, hfin, by rw [ht_]; exact hP, hD⟩, hS.F ht_⟩) hS.2.2 dX5_reuseShare_40
  refine lv_aload_n hx hb dX5_reuseShare_1 rfl (lv_at hl 0 rfl) ?_
  refine va_get (D := E.1) (ci := 0) (v := .ref (o 1)) (C := RX5) (T := TX5) (N := 23) hx hb hts in_X5 hown hK.1 hP 0 rfl rfl 0 (by decide) (hts _ q2029) (fun _ h9 => h9) rfl dX5_reuseShare_2 ?_
  refine lv_iconst (v := iI 2) hx hb dX5_reuseShare_5 rfl ?_
  refine n_iald (f := ar 1) hx hb hK.1 hP 1 0 rfl rfl (by omega) (by decide) dX5_reuseShare_6 ?_
  have b_5 := (hB 1) 2
  refine n_if_ne (tgt := 14) hx hb dX5_reuseShare_7 (by decide) (by omega) (fun c_6 => ?_) (fun c_6 => ?_)
  · refine lv_iconst (v := iI 0) hx hb dX5_reuseShare_14 rfl ?_
    refine n_top (y := c_nul ((ar 1) 2)) (by unfold c_nul; first | (rw [if_pos (by omega)]; done) | (rw [if_neg (by omega)]; done)) ?_
    exact j_1
  · refine lv_iconst (v := iI 1) hx hb dX5_reuseShare_10 rfl ?_
    refine lv_goto (tgt := 15) hx hb dX5_reuseShare_11 (by decide) ?_
    refine n_top (y := c_nul ((ar 1) 2)) (by unfold c_nul; first | (rw [if_pos (by omega)]; done) | (rw [if_neg (by omega)]; done)) ?_
    exact j_1
set_option maxHeartbeats 4000000 in
set_option maxRecDepth 100000 in
theorem mt_X5_meanMinutes (l : Launch) (E : EE) (o : Nat → Nat) (sc : Nat → Int) (ar : Nat → Int → Int) (hB : ∀ k x, 0 ≤ ar k x ∧ ar k x < 2147483648) (sz : Nat) : Met l yX5_meanMinutes (ws_ yX5_meanMinutes cX5_meanMinutes 3 (some .double)) { frames := 3, cells := 0, slots := 0, locals := 65 } (va_Pc [.ref (o 0)] (UW E (MW E o sc ar) sz)) (UQd E (if 0 < c_nul (m_recipes (ar 1)) then 0 else m_mean (ar 1)) (MW E o (us (us sc 7 0) 8 (c_nul (m_recipes (ar 1)))) ar) (va_A (MW E o sc ar) sz)) 0 0 (va_A (MW E o sc ar) sz) := by
  refine Met.ofW (cc := cX5_meanMinutes) (maxL := 3) (ret := (some .double)) (by decide) rfl ?_
  intro p e s m args below meth c s₁ B hml hv
  obtain ⟨rfl, hsz, hP, hK, hD0⟩ := hv
  have hx := B.exec
  have hb := B.bytes
  have hr := B.returns
  have hts := atoms_spec (ws := (ws_ yX5_meanMinutes cX5_meanMinutes 3 (some .double))) B.pre
  have hts : ∀ w ∈ lw_all, w.before _ s = true := fun w h => hts w (List.mem_cons_of_mem _ h)
  have hown : s.vm.findClass RX5 = some m.cls := findClass_of_methodNamed B.named
  have hlocks := B.notSynchronized
  subst hsz
  have hD := hD0.self (sz := s.heap.size)
  generalize hAe : va_A (MW E o sc ar) s.heap.size = A at hD ⊢
  have hA : ∀ q : Nat, s.heap.size ≤ q → A q := fun q h => by rw [← hAe]; exact Or.inr h
  have hS : va_S A s.heap s.heap [] := va_S.rf
  have hl := lv_entry ([.ref (o 0)]) (n := 3) (Nat.le_of_ble_eq_true rfl)
  rw [lg_entry_eq]
  generalize (lg_sl ([.ref (o 0)]) ++ List.replicate (3 - (lg_sl ([.ref (o 0)])).length) Slot.unset).toArray = ls at hl ⊢
  have hl : lv_has ls 3 [(0, .ref (o 0))] := hl
  have hmr := m_recipes_r (ar 1)
  refine lv_aload_n hx hb dX5_meanMinutes_0 rfl (lv_at hl 0 rfl) ?_
  have j_1 : W p l e (headSpec (ws_ yX5_meanMinutes cX5_meanMinutes 3 (some .double)) { frames := 3, cells := 0, slots := 0, locals := 65 }).room s m ([.ref (o 0)] : List Value).toArray below meth c s.heap [] 0 0 (MQ below (UQd E (if 0 < c_nul (m_recipes (ar 1)) then 0 else m_mean (ar 1)) (MW E o (us (us sc 7 0) 8 (c_nul (m_recipes (ar 1)))) ar) A) ([.ref (o 0)] : List Value).toArray s 0 0 A) (F0 m 13 ls [iv (c_nul (m_recipes (ar 1))), .ref (o 0)]) := by
    have b_2 := c_nul_r (m_recipes (ar 1))
    refine n_cui (x := b2 (decide (0 < (c_nul (m_recipes (ar 1)))))) (va_runV (As := [iv (c_nul (m_recipes (ar 1)))]) (rest := []) ⟨hx, hb, hml, hown, hts⟩ (mt_X5_fails l E o sc ar (c_nul (m_recipes (ar 1))) (by omega) _) (cwV 1 hts (lw_V q2124 q2126 qs50 q113 q2127) rfl rfl rfl (by decide +kernel) ⟨Nat.le_of_ble_eq_true rfl, Nat.le_of_ble_eq_true rfl⟩) (UW_V hP hK (hD) (va_recv hK.1 hP (ci := 0) (q0 := 0) rfl rfl)) rfl rfl hl.1 rfl (lv_room (Nat.le_of_ble_eq_true rfl)) dX5_meanMinutes_13 ⟨Nat.le_of_ble_eq_true rfl, Nat.le_of_ble_eq_true rfl⟩) hD hS hA (fun H locs hP hD hS => ?_)
    have hP : va_P E.1 CL (MW E o (us (us sc 7 0) 8 (c_nul (m_recipes (ar 1)))) ar) H := hP
    have hD : va_D A (MW E o (us (us sc 7 0) 8 (c_nul (m_recipes (ar 1)))) ar) := hD
    refine n_ifd_eq (tgt := 21) hx hb dX5_meanMinutes_16 (by decide) (fun c_3 => ?_) (fun c_3 => ?_)
    · have hz := c_nul_ok (by assumption)
      refine lv_iconst (v := iI 0) hx hb dX5_meanMinutes_21 rfl ?_
      refine lv_istore_n (lv' := [(1, iv 0), (0, .ref (o 0))]) hx hb dX5_meanMinutes_22 rfl hl (by decide) rfl (fun ls hl => ?_)
      refine lv_iconst (v := iI 0) hx hb dX5_meanMinutes_23 rfl ?_
      refine lv_istore_n (lv' := [(2, iv 0), (1, iv 0), (0, .ref (o 0))]) hx hb dX5_meanMinutes_24 rfl hl (by decide) rfl (fun ls hl => ?_)
      have l25 : ∀ (fu : Nat) (x1 : Int) (x2 : Int), (0 ≤ x2 ∧ x2 ≤ 8) → (x1 = sumI (fun k => m_of (ar 1) k 1) x2) → (8 - x2 < (fu : Int)) → ∀ ls : Array Slot, lv_has ls 3 [(2, iv x2), (1, iv x1), (0, .ref (o 0))] → W p l e (headSpec (ws_ yX5_meanMinutes cX5_meanMinutes 3 (some .double)) { frames := 3, cells := 0, slots := 0, locals := 65 }).room s m ([.ref (o 0)] : List Value).toArray below meth c H locs 0 0 (MQ below (UQd E (if 0 < c_nul (m_recipes (ar 1)) then 0 else m_mean (ar 1)) (MW E o (us (us sc 7 0) 8 (c_nul (m_recipes (ar 1)))) ar) A) ([.ref (o 0)] : List Value).toArray s 0 0 A) (F0 m 25 ls []) := by
        intro fu
        induction fu with
        | zero =>
          intro x1 x2 il25_0 il25_1 hm
          exfalso; omega
        | succ fu ih =>
          intro x1 x2 il25_0 il25_1 hm ls hl
          have ihl25 := ih
          refine lv_iload_n hx hb dX5_meanMinutes_25 rfl (lv_at hl 0 rfl) ?_
          refine lv_bipush (v := iI 8) hx hb dX5_meanMinutes_26 (by decide) ?_
          refine n_icmp_ge (tgt := 46) hx hb dX5_meanMinutes_28 (by decide) (by omega) (by omega) (fun c_4 => ?_) (fun c_4 => ?_)
          · refine lv_iload_n hx hb dX5_meanMinutes_46 rfl (lv_at hl 1 rfl) ?_
            refine lv_i2d hx hb dX5_meanMinutes_47 ?_
            refine lv_aload_n hx hb dX5_meanMinutes_48 rfl (lv_at hl 2 rfl) ?_
            refine n_csi (x := m_recipes (ar 1)) (va_runV (As := []) (rest := [.double (FP.i2d (iI x1))]) ⟨hx, hb, hml, hown, hts⟩ (mt_X5_recipes l E o (us (us sc 7 0) 8 (c_nul (m_recipes (ar 1)))) ar  hB) (cwV 0 hts (lw_V q2139 q2141 qs53 q113 q2142) rfl rfl rfl (by decide +kernel) ⟨Nat.le_of_ble_eq_true rfl, Nat.le_of_ble_eq_true rfl⟩) (PW_V hP hK (va_recv hK.1 hP (ci := 0) (q0 := 0) rfl rfl)) rfl rfl hl.1 rfl (lv_room (Nat.le_of_ble_eq_true rfl)) dX5_meanMinutes_49 ⟨Nat.le_of_ble_eq_true rfl, Nat.le_of_ble_eq_true rfl⟩) ?_
            refine lv_i2d hx hb dX5_meanMinutes_52 ?_
            have b_5 := m_recipes_r (ar 1)
            refine lv_ddiv hx hb dX5_meanMinutes_53 (vf_d (b := m_recipes (ar 1)) (by omega) (by omega)) ?_
            have hfin : (FP.ddiv (FP.i2d (iI x1)) (FP.i2d (iI (m_recipes (ar 1)))) : UInt64) = if 0 < c_nul (m_recipes (ar 1)) then 0 else m_mean (ar 1) := by
              obtain rfl : x2 = 8 := by omega
              rw [il25_1]
              exact (if_neg (by assumption)).symm
            exact W.dret (v := FP.ddiv (FP.i2d (iI x1)) (FP.i2d (iI (m_recipes (ar 1))))) hx hb hr (fun tt_ ht_ hW_ => ⟨⟨FP.ddiv (FP.i2d (iI x1)) (FP.i2d (iI (m_recipes (ar 1)))), (), rfl, hfin, by rw [ht_]; exact hP, hD⟩, hS.F ht_⟩) hS.2.2 dX5_meanMinutes_54
          · refine lv_iload_n hx hb dX5_meanMinutes_31 rfl (lv_at hl 1 rfl) ?_
            refine lv_aload_n hx hb dX5_meanMinutes_32 rfl (lv_at hl 2 rfl) ?_
            refine lv_iload_n hx hb dX5_meanMinutes_33 rfl (lv_at hl 0 rfl) ?_
            refine lv_iconst (v := iI 1) hx hb dX5_meanMinutes_34 rfl ?_
            refine n_csi (x := m_of (ar 1) x2 1) (va_runV (As := [iv x2, iv 1]) (rest := [iv x1]) ⟨hx, hb, hml, hown, hts⟩ (mt_X5_of l E o (us (us sc 7 0) 8 (c_nul (m_recipes (ar 1)))) ar x2 1 (by omega)) (cwV 2 hts (lw_V q2120 q2122 qs49 q113 q2123) rfl rfl rfl (by decide +kernel) ⟨Nat.le_of_ble_eq_true rfl, Nat.le_of_ble_eq_true rfl⟩) (PW_V hP hK (va_recv hK.1 hP (ci := 0) (q0 := 0) rfl rfl)) rfl rfl hl.1 rfl (lv_room (Nat.le_of_ble_eq_true rfl)) dX5_meanMinutes_35 ⟨Nat.le_of_ble_eq_true rfl, Nat.le_of_ble_eq_true rfl⟩) ?_
            refine n_iadd hx hb dX5_meanMinutes_38 ?_
            refine lv_istore_n (lv' := [(1, iv (x1 + (m_of (ar 1) x2 1))), (2, iv x2), (0, .ref (o 0))]) hx hb dX5_meanMinutes_39 rfl hl (by decide) rfl (fun ls hl => ?_)
            refine lv_iinc (v := iI (x2 + 1)) (lv' := [(2, iv (x2 + 1)), (1, iv (x1 + (m_of (ar 1) x2 1))), (0, .ref (o 0))]) hx hb dX5_meanMinutes_40 hl (k := 1) rfl (iI_add _ _) (by decide) rfl (fun ls hl => ?_)
            refine lv_goto (tgt := 25) hx hb dX5_meanMinutes_43 (by decide) ?_
            exact ihl25 (x1 + (m_of (ar 1) x2 1)) (x2 + 1) (by first | omega | rfl) (by rw [sumI_s (by omega), ← il25_1]) (by omega) ls (lv_sub hl [0, 1, 2] rfl)
      exact l25 9 0 0 (by first | omega | rfl | trivial) (by rfl) (by omega) ls hl
    · refine lv_dconst0 hx hb dX5_meanMinutes_19 ?_
      have hfin : (0 : UInt64) = if 0 < c_nul (m_recipes (ar 1)) then 0 else m_mean (ar 1) := by
        first | exact (if_pos (by assumption)).symm | exact (if_neg (by assumption)).symm
      exact W.dret (v := 0) hx hb hr (fun tt_ ht_ hW_ => ⟨⟨0, (), rfl, hfin, by rw [ht_]; exact hP, hD⟩, hS.F ht_⟩) hS.2.2 dX5_meanMinutes_20
  refine lv_aload_n hx hb dX5_meanMinutes_1 rfl (lv_at hl 0 rfl) ?_
  refine n_csi (x := m_recipes (ar 1)) (va_runV (As := []) (rest := [.ref (o 0)]) ⟨hx, hb, hml, hown, hts⟩ (mt_X5_recipes l E o sc ar  hB) (cwV 0 hts (lw_V q2139 q2141 qs53 q113 q2142) rfl rfl rfl (by decide +kernel) ⟨Nat.le_of_ble_eq_true rfl, Nat.le_of_ble_eq_true rfl⟩) (PW_V hP hK (va_recv hK.1 hP (ci := 0) (q0 := 0) rfl rfl)) rfl rfl hl.1 rfl (lv_room (Nat.le_of_ble_eq_true rfl)) dX5_meanMinutes_2 ⟨Nat.le_of_ble_eq_true rfl, Nat.le_of_ble_eq_true rfl⟩) ?_
  have b_6 := m_recipes_r (ar 1)
  refine n_if_ne (tgt := 12) hx hb dX5_meanMinutes_5 (by decide) (by omega) (fun c_7 => ?_) (fun c_7 => ?_)
  · refine lv_iconst (v := iI 0) hx hb dX5_meanMinutes_12 rfl ?_
    refine n_top (y := c_nul (m_recipes (ar 1))) (by unfold c_nul; first | (rw [if_pos (by omega)]; done) | (rw [if_neg (by omega)]; done)) ?_
    exact j_1
  · refine lv_iconst (v := iI 1) hx hb dX5_meanMinutes_8 rfl ?_
    refine lv_goto (tgt := 13) hx hb dX5_meanMinutes_9 (by decide) ?_
    refine n_top (y := c_nul (m_recipes (ar 1))) (by unfold c_nul; first | (rw [if_pos (by omega)]; done) | (rw [if_neg (by omega)]; done)) ?_
    exact j_1
