set_option maxHeartbeats 4000000 in
set_option maxRecDepth 100000 in
theorem mt_X5_removeNeed (l : Launch) (E : EE) (o : Nat → Nat) (sc : Nat → Int) (ar : Nat → Int → Int) (t : Int) (nd : Int) (hB : ∀ k x, 0 ≤ ar k x ∧ ar k x < 2147483648) (ht : 0 ≤ t ∧ t < 65536) (hs : 0 ≤ nd ∧ nd < 65536) (htw : TW (ar 1)) (hch : 0 ≤ sc 5 ∧ sc 5 ≤ 8) (hwi : 0 ≤ sc 6 ∧ sc 6 ≤ 1) (sz : Nat) : Met l yX5_removeNeed (ws_ yX5_removeNeed cX5_removeNeed 6 (some .int)) { frames := 3, cells := 0, slots := 0, locals := 67 } (va_Pc [.ref (o 0), iv t, iv nd] (UW E (MW E o sc ar) sz)) (UQi E (rs_val 0 (A_rem (ar 1) t nd)) (MW E o (us (us (us (us (us (us sc 5 (rs_cw (sc 6) (sc 5) (A_rem (ar 1) t nd))) 7 (rs_ref (A_rem (ar 1) t nd))) 8 (rs_code 2 (A_rem (ar 1) t nd))) 9 (rs_why (sc 9) (A_rem (ar 1) t nd))) 10 (rs_det (sc 10) (A_rem (ar 1) t nd))) 11 (rs_cau (sc 11) (A_rem (ar 1) t nd))) (ua (ua ar 1 (rs_g (ar 1) (A_rem (ar 1) t nd))) 2 (rs_kw (sc 6) (ar 2) (ar 1) (sc 5) (A_rem (ar 1) t nd)))) (va_A (MW E o sc ar) sz)) 0 0 (va_A (MW E o sc ar) sz) := by
  refine Met.ofW (cc := cX5_removeNeed) (maxL := 6) (ret := (some .int)) (by decide) rfl ?_
  intro p e s m args below meth c s₁ B hml hv
  obtain ⟨rfl, hsz, hP, hK, hD0⟩ := hv
  have hx := B.exec
  have hb := B.bytes
  have hr := B.returns
  have hts := atoms_spec (ws := (ws_ yX5_removeNeed cX5_removeNeed 6 (some .int))) B.pre
  have hts : ∀ w ∈ lw_all, w.before _ s = true := fun w h => hts w (List.mem_cons_of_mem _ h)
  have hown : s.vm.findClass RX5 = some m.cls := findClass_of_methodNamed B.named
  have hlocks := B.notSynchronized
  subst hsz
  have hD := hD0.self (sz := s.heap.size)
  generalize hAe : va_A (MW E o sc ar) s.heap.size = A at hD ⊢
  have hA : ∀ q : Nat, s.heap.size ≤ q → A q := fun q h => by rw [← hAe]; exact Or.inr h
  have hS : va_S A s.heap s.heap [] := va_S.rf
  have hl := lv_entry ([.ref (o 0), iv t, iv nd]) (n := 6) (Nat.le_of_ble_eq_true rfl)
  rw [lg_entry_eq]
  generalize (lg_sl ([.ref (o 0), iv t, iv nd]) ++ List.replicate (6 - (lg_sl ([.ref (o 0), iv t, iv nd])).length) Slot.unset).toArray = ls at hl ⊢
  have hl : lv_has ls 6 [(0, .ref (o 0)), (1, iv t), (2, iv nd)] := hl
  refine lv_aload_n hx hb dX5_removeNeed_0 rfl (lv_at hl 0 rfl) ?_
  have j_1 : W p l e (headSpec (ws_ yX5_removeNeed cX5_removeNeed 6 (some .int)) { frames := 3, cells := 0, slots := 0, locals := 67 }).room s m ([.ref (o 0), iv t, iv nd] : List Value).toArray below meth c s.heap [] 0 0 (MQ below (UQi E (rs_val 0 (A_rem (ar 1) t nd)) (MW E o (us (us (us (us (us (us sc 5 (rs_cw (sc 6) (sc 5) (A_rem (ar 1) t nd))) 7 (rs_ref (A_rem (ar 1) t nd))) 8 (rs_code 2 (A_rem (ar 1) t nd))) 9 (rs_why (sc 9) (A_rem (ar 1) t nd))) 10 (rs_det (sc 10) (A_rem (ar 1) t nd))) 11 (rs_cau (sc 11) (A_rem (ar 1) t nd))) (ua (ua ar 1 (rs_g (ar 1) (A_rem (ar 1) t nd))) 2 (rs_kw (sc 6) (ar 2) (ar 1) (sc 5) (A_rem (ar 1) t nd)))) A) ([.ref (o 0), iv t, iv nd] : List Value).toArray s 0 0 A) (F0 m 50 ls [iv (c_rem (ar 1) t nd), .ref (o 0)]) := by
    have b_2 := c_rem_r (ar 1) t nd
    refine n_cui (x := b2 (decide (0 < (c_rem (ar 1) t nd)))) (va_runV (As := [iv (c_rem (ar 1) t nd)]) (rest := []) ⟨hx, hb, hml, hown, hts⟩ (mt_X5_fails l E o sc ar (c_rem (ar 1) t nd) (by omega) _) (cwV 1 hts (lw_V q2124 q2126 qs50 q113 q2127) rfl rfl rfl (by decide +kernel) ⟨Nat.le_of_ble_eq_true rfl, Nat.le_of_ble_eq_true rfl⟩) (UW_V hP hK (hD) (va_recv hK.1 hP (ci := 0) (q0 := 0) rfl rfl)) rfl rfl hl.1 rfl (lv_room (Nat.le_of_ble_eq_true rfl)) dX5_removeNeed_50 ⟨Nat.le_of_ble_eq_true rfl, Nat.le_of_ble_eq_true rfl⟩) hD hS hA (fun H locs hP hD hS => ?_)
    have hP : va_P E.1 CL (MW E o (us (us sc 7 0) 8 (c_rem (ar 1) t nd)) ar) H := hP
    have hD : va_D A (MW E o (us (us sc 7 0) 8 (c_rem (ar 1) t nd)) ar) := hD
    refine n_ifd_eq (tgt := 58) hx hb dX5_removeNeed_53 (by decide) (fun c_3 => ?_) (fun c_3 => ?_)
    · have hnz : ¬ 0 < c_rem (ar 1) t nd := by assumption
      have hz := c_rem_ok hnz
      have hnn := htw (t - 97) (by omega) (by omega)
      have hpl := m_place_ok htw (t := (t - 97)) (n := nd - 97) (by omega) hz.2.2.2
      refine lv_iload_n hx hb dX5_removeNeed_58 rfl (lv_at hl 1 rfl) ?_
      refine lv_bipush (v := iI 97) hx hb dX5_removeNeed_59 (by decide) ?_
      refine n_isub hx hb dX5_removeNeed_61 ?_
      refine lv_istore_n (lv' := [(3, iv (t - 97)), (0, .ref (o 0)), (1, iv t), (2, iv nd)]) hx hb dX5_removeNeed_62 rfl hl (by decide) rfl (fun ls hl => ?_)
      refine lv_aload_n hx hb dX5_removeNeed_63 rfl (lv_at hl 1 rfl) ?_
      refine lv_iload_n hx hb dX5_removeNeed_64 rfl (lv_at hl 0 rfl) ?_
      refine lv_iload_n hx hb dX5_removeNeed_65 rfl (lv_at hl 3 rfl) ?_
      refine lv_bipush (v := iI 97) hx hb dX5_removeNeed_66 (by decide) ?_
      refine n_isub hx hb dX5_removeNeed_68 ?_
      refine n_csi (x := m_place (ar 1) (t - 97) (nd - 97)) (va_runV (As := [iv (t - 97), iv (nd - 97)]) (rest := []) ⟨hx, hb, hml, hown, hts⟩ (mt_X5_placeOf l E o (us (us sc 7 0) 8 (c_rem (ar 1) t nd)) ar (t - 97) (nd - 97) hB (by omega) (by omega) (by assumption)) (cwV 2 hts (lw_V q2163 q2165 qs57 q113 q2166) rfl rfl rfl (by decide +kernel) ⟨Nat.le_of_ble_eq_true rfl, Nat.le_of_ble_eq_true rfl⟩) (PW_V hP hK (va_recv hK.1 hP (ci := 0) (q0 := 0) rfl rfl)) rfl rfl hl.1 rfl (lv_room (Nat.le_of_ble_eq_true rfl)) dX5_removeNeed_69 ⟨Nat.le_of_ble_eq_true rfl, Nat.le_of_ble_eq_true rfl⟩) ?_
      refine lv_istore (lv' := [(4, iv (m_place (ar 1) (t - 97) (nd - 97))), (3, iv (t - 97)), (0, .ref (o 0)), (1, iv t), (2, iv nd)]) hx hb dX5_removeNeed_72 hl (by decide) rfl (fun ls hl => ?_)
      refine lv_aload_n hx hb dX5_removeNeed_74 rfl (lv_at hl 2 rfl) ?_
      refine lv_aload_n hx hb dX5_removeNeed_75 rfl (lv_at hl 2 rfl) ?_
      refine va_get (D := E.1) (ci := 0) (v := .ref (o 1)) (C := RX5) (T := TX5) (N := 23) hx hb hts in_X5 hown hK.1 hP 0 rfl rfl 0 (by decide) (hts _ q2029) (fun _ h9 => h9) rfl dX5_removeNeed_76 ?_
      refine n_cuv (va_runV (As := [.ref (o 1)]) (rest := []) ⟨hx, hb, hml, hown, hts⟩ (mt_X5_keeps1 l E o (us (us sc 7 0) 8 (c_rem (ar 1) t nd)) ar  (by first | omega | exact hch) (by first | omega | exact hwi) _) (cwV 1 hts (lw_V q2128 q2130 qs51 q113 q2131) rfl rfl rfl (by decide +kernel) ⟨Nat.le_of_ble_eq_true rfl, Nat.le_of_ble_eq_true rfl⟩) (UW_V hP hK (hD) (va_recv hK.1 hP (ci := 0) (q0 := 0) rfl rfl)) rfl rfl hl.1 rfl (lv_room (Nat.le_of_ble_eq_true rfl)) dX5_removeNeed_79 ⟨Nat.le_of_ble_eq_true rfl, Nat.le_of_ble_eq_true rfl⟩) hD hS hA (fun H locs hP hD hS => ?_)
      have hP : va_P E.1 CL (MW E o (us (us (us sc 5 (k_cw (sc 6) (sc 5))) 7 0) 8 0) (ua ar 2 (k_kw (sc 6) (ar 2) (ar 1) (sc 5)))) H := hP
      have hD : va_D A (MW E o (us (us (us sc 5 (k_cw (sc 6) (sc 5))) 7 0) 8 0) (ua ar 2 (k_kw (sc 6) (ar 2) (ar 1) (sc 5)))) := hD
      obtain ⟨a_4, ea_4⟩ : ∃ zz : Int → Int, zz = k_kw (sc 6) (ar 2) (ar 1) (sc 5) := ⟨_, rfl⟩
      rw [← ea_4] at hP hD
      have hBa_4 := k_kw_b (w := (sc 6)) (c := (sc 5)) (hB 2) (hB 1)
      rw [← ea_4] at hBa_4
      refine lv_aload_n hx hb dX5_removeNeed_82 rfl (lv_at hl 2 rfl) ?_
      refine lv_iload_n hx hb dX5_removeNeed_83 rfl (lv_at hl 1 rfl) ?_
      refine lv_iconst (v := iI 2) hx hb dX5_removeNeed_84 rfl ?_
      refine lv_aload_n hx hb dX5_removeNeed_85 rfl (lv_at hl 2 rfl) ?_
      refine lv_iload_n hx hb dX5_removeNeed_86 rfl (lv_at hl 1 rfl) ?_
      refine lv_iconst (v := iI 2) hx hb dX5_removeNeed_87 rfl ?_
      refine n_csi (x := m_of (ar 1) (t - 97) 2) (va_runV (As := [iv (t - 97), iv 2]) (rest := [iv 2, iv (t - 97), .ref (o 0)]) ⟨hx, hb, hml, hown, hts⟩ (mt_X5_of l E o (us (us (us sc 5 (k_cw (sc 6) (sc 5))) 7 0) 8 0) (ua ar 2 a_4) (t - 97) 2 (by omega)) (cwV 2 hts (lw_V q2120 q2122 qs49 q113 q2123) rfl rfl rfl (by decide +kernel) ⟨Nat.le_of_ble_eq_true rfl, Nat.le_of_ble_eq_true rfl⟩) (PW_V hP hK (va_recv hK.1 hP (ci := 0) (q0 := 0) rfl rfl)) rfl rfl hl.1 rfl (lv_room (Nat.le_of_ble_eq_true rfl)) dX5_removeNeed_88 ⟨Nat.le_of_ble_eq_true rfl, Nat.le_of_ble_eq_true rfl⟩) ?_
      refine lv_iconst (v := iI 1) hx hb dX5_removeNeed_91 rfl ?_
      refine n_isub hx hb dX5_removeNeed_92 ?_
      have b_5 := (show 0 ≤ m_of (ar 1) (t - 97) 2 ∧ m_of (ar 1) (t - 97) 2 < 2147483648 from (hB 1) _)
      refine n_cuv (va_runV (As := [iv (t - 97), iv 2, iv ((m_of (ar 1) (t - 97) 2) - 1)]) (rest := []) ⟨hx, hb, hml, hown, hts⟩ (mt_X5_lays l E o (us (us (us sc 5 (k_cw (sc 6) (sc 5))) 7 0) 8 0) (ua ar 2 a_4) (t - 97) 2 ((m_of (ar 1) (t - 97) 2) - 1) (by omega) _) (cwV 3 hts (lw_V q2135 q2137 qs52 q113 q2138) rfl rfl rfl (by decide +kernel) ⟨Nat.le_of_ble_eq_true rfl, Nat.le_of_ble_eq_true rfl⟩) (UW_V hP hK (hD) (va_recv hK.1 hP (ci := 0) (q0 := 0) rfl rfl)) rfl rfl hl.1 rfl (lv_room (Nat.le_of_ble_eq_true rfl)) dX5_removeNeed_93 ⟨Nat.le_of_ble_eq_true rfl, Nat.le_of_ble_eq_true rfl⟩) hD hS hA (fun H locs hP hD hS => ?_)
      have hP : va_P E.1 CL (MW E o (us (us (us sc 5 (k_cw (sc 6) (sc 5))) 7 0) 8 0) (ua (ua ar 1 (ui (ar 1) (5 + 7 * (t - 97) + 2) ((m_of (ar 1) (t - 97) 2) - 1))) 2 a_4)) H := hP
      have hD : va_D A (MW E o (us (us (us sc 5 (k_cw (sc 6) (sc 5))) 7 0) 8 0) (ua (ua ar 1 (ui (ar 1) (5 + 7 * (t - 97) + 2) ((m_of (ar 1) (t - 97) 2) - 1))) 2 a_4)) := hD
      obtain ⟨a_6, ea_6⟩ : ∃ zz : Int → Int, zz = ui (ar 1) (5 + 7 * (t - 97) + 2) ((m_of (ar 1) (t - 97) 2) - 1) := ⟨_, rfl⟩
      rw [← ea_6] at hP hD
      have hBa_6 := ui_b (i := (5 + 7 * (t - 97) + 2)) (v := ((m_of (ar 1) (t - 97) 2) - 1)) (hB 1) (by omega)
      rw [← ea_6] at hBa_6
      refine lv_iload hx hb dX5_removeNeed_96 (lv_at hl 0 rfl) ?_
      refine lv_istore (lv' := [(5, iv (m_place (ar 1) (t - 97) (nd - 97))), (4, iv (m_place (ar 1) (t - 97) (nd - 97))), (3, iv (t - 97)), (0, .ref (o 0)), (1, iv t), (2, iv nd)]) hx hb dX5_removeNeed_98 hl (by decide) rfl (fun ls hl => ?_)
      have l100 : ∀ (fu : Nat) (x5 : Int) (gv : Int → Int), ((m_place (ar 1) (t - 97) (nd - 97)) ≤ x5 ∧ x5 ≤ m_of (ar 1) (t - 97) 2 - 1) → (∀ x, gv x = if x = 5 + 7 * (t - 97) + 2 then m_of (ar 1) (t - 97) 2 - 1 else if 5 + 7 * (t - 97) + 3 + (m_place (ar 1) (t - 97) (nd - 97)) ≤ x ∧ x < 5 + 7 * (t - 97) + 3 + x5 then ar 1 (x + 1) else ar 1 x) → (∀ x, 0 ≤ gv x ∧ gv x < 2147483648) → (m_of (ar 1) (t - 97) 2 - 1 - x5 < (fu : Int)) → ∀ (H : Heap) (locs : List Loc), va_P E.1 CL (MW E o (us (us (us sc 5 (k_cw (sc 6) (sc 5))) 7 0) 8 0) (ua (ua ar 1 gv) 2 a_4)) H → va_D A (MW E o (us (us (us sc 5 (k_cw (sc 6) (sc 5))) 7 0) 8 0) (ua (ua ar 1 gv) 2 a_4)) → va_S A s.heap H locs → ∀ ls : Array Slot, lv_has ls 6 [(5, iv x5), (4, iv (m_place (ar 1) (t - 97) (nd - 97))), (3, iv (t - 97)), (0, .ref (o 0)), (1, iv t), (2, iv nd)] → W p l e (headSpec (ws_ yX5_removeNeed cX5_removeNeed 6 (some .int)) { frames := 3, cells := 0, slots := 0, locals := 67 }).room s m ([.ref (o 0), iv t, iv nd] : List Value).toArray below meth c H locs 0 0 (MQ below (UQi E (rs_val 0 (A_rem (ar 1) t nd)) (MW E o (us (us (us (us (us (us sc 5 (rs_cw (sc 6) (sc 5) (A_rem (ar 1) t nd))) 7 (rs_ref (A_rem (ar 1) t nd))) 8 (rs_code 2 (A_rem (ar 1) t nd))) 9 (rs_why (sc 9) (A_rem (ar 1) t nd))) 10 (rs_det (sc 10) (A_rem (ar 1) t nd))) 11 (rs_cau (sc 11) (A_rem (ar 1) t nd))) (ua (ua ar 1 (rs_g (ar 1) (A_rem (ar 1) t nd))) 2 (rs_kw (sc 6) (ar 2) (ar 1) (sc 5) (A_rem (ar 1) t nd)))) A) ([.ref (o 0), iv t, iv nd] : List Value).toArray s 0 0 A) (F0 m 100 ls []) := by
        intro fu
        induction fu with
        | zero =>
          intro x5 gv il100_0 il100_1 il100_2 hm
          exfalso; omega
        | succ fu ih =>
          intro x5 gv il100_0 il100_1 il100_2 hm H locs hP hD hS ls hl
          have ihl100 := ih
          refine lv_iload hx hb dX5_removeNeed_100 (lv_at hl 0 rfl) ?_
          refine lv_aload_n hx hb dX5_removeNeed_102 rfl (lv_at hl 3 rfl) ?_
          refine lv_iload_n hx hb dX5_removeNeed_103 rfl (lv_at hl 2 rfl) ?_
          refine lv_iconst (v := iI 2) hx hb dX5_removeNeed_104 rfl ?_
          refine n_csi (x := m_of gv (t - 97) 2) (va_runV (As := [iv (t - 97), iv 2]) (rest := [iv x5]) ⟨hx, hb, hml, hown, hts⟩ (mt_X5_of l E o (us (us (us sc 5 (k_cw (sc 6) (sc 5))) 7 0) 8 0) (ua (ua ar 1 gv) 2 a_4) (t - 97) 2 (by omega)) (cwV 2 hts (lw_V q2120 q2122 qs49 q113 q2123) rfl rfl rfl (by decide +kernel) ⟨Nat.le_of_ble_eq_true rfl, Nat.le_of_ble_eq_true rfl⟩) (PW_V hP hK (va_recv hK.1 hP (ci := 0) (q0 := 0) rfl rfl)) rfl rfl hl.1 rfl (lv_room (Nat.le_of_ble_eq_true rfl)) dX5_removeNeed_105 ⟨Nat.le_of_ble_eq_true rfl, Nat.le_of_ble_eq_true rfl⟩) ?_
          refine n_top (y := m_of (ar 1) (t - 97) 2 - 1) (by show gv (5 + 7 * (t - 97) + 2) = _; rw [il100_1]; exact if_pos rfl) ?_
          refine n_icmp_ge (tgt := 137) hx hb dX5_removeNeed_108 (by decide) (by omega) (by omega) (fun c_7 => ?_) (fun c_7 => ?_)
          · refine lv_aload_n hx hb dX5_removeNeed_137 rfl (lv_at hl 3 rfl) ?_
            refine lv_iload_n hx hb dX5_removeNeed_138 rfl (lv_at hl 2 rfl) ?_
            refine lv_iconst (v := iI 3) hx hb dX5_removeNeed_139 rfl ?_
            refine lv_aload_n hx hb dX5_removeNeed_140 rfl (lv_at hl 3 rfl) ?_
            refine lv_iload_n hx hb dX5_removeNeed_141 rfl (lv_at hl 2 rfl) ?_
            refine lv_iconst (v := iI 2) hx hb dX5_removeNeed_142 rfl ?_
            refine n_csi (x := m_of gv (t - 97) 2) (va_runV (As := [iv (t - 97), iv 2]) (rest := [iv 3, iv (t - 97), .ref (o 0)]) ⟨hx, hb, hml, hown, hts⟩ (mt_X5_of l E o (us (us (us sc 5 (k_cw (sc 6) (sc 5))) 7 0) 8 0) (ua (ua ar 1 gv) 2 a_4) (t - 97) 2 (by omega)) (cwV 2 hts (lw_V q2120 q2122 qs49 q113 q2123) rfl rfl rfl (by decide +kernel) ⟨Nat.le_of_ble_eq_true rfl, Nat.le_of_ble_eq_true rfl⟩) (PW_V hP hK (va_recv hK.1 hP (ci := 0) (q0 := 0) rfl rfl)) rfl rfl hl.1 rfl (lv_room (Nat.le_of_ble_eq_true rfl)) dX5_removeNeed_143 ⟨Nat.le_of_ble_eq_true rfl, Nat.le_of_ble_eq_true rfl⟩) ?_
            refine n_top (y := m_of (ar 1) (t - 97) 2 - 1) (by show gv (5 + 7 * (t - 97) + 2) = _; rw [il100_1]; exact if_pos rfl) ?_
            refine n_iadd hx hb dX5_removeNeed_146 ?_
            refine lv_iconst (v := iI 0) hx hb dX5_removeNeed_147 rfl ?_
            refine n_cuv (va_runV (As := [iv (t - 97), iv (3 + (m_of (ar 1) (t - 97) 2 - 1)), iv 0]) (rest := []) ⟨hx, hb, hml, hown, hts⟩ (mt_X5_lays l E o (us (us (us sc 5 (k_cw (sc 6) (sc 5))) 7 0) 8 0) (ua (ua ar 1 gv) 2 a_4) (t - 97) (3 + (m_of (ar 1) (t - 97) 2 - 1)) 0 (by omega) _) (cwV 3 hts (lw_V q2135 q2137 qs52 q113 q2138) rfl rfl rfl (by decide +kernel) ⟨Nat.le_of_ble_eq_true rfl, Nat.le_of_ble_eq_true rfl⟩) (UW_V hP hK (hD) (va_recv hK.1 hP (ci := 0) (q0 := 0) rfl rfl)) rfl rfl hl.1 rfl (lv_room (Nat.le_of_ble_eq_true rfl)) dX5_removeNeed_148 ⟨Nat.le_of_ble_eq_true rfl, Nat.le_of_ble_eq_true rfl⟩) hD hS hA (fun H locs hP hD hS => ?_)
            have hP : va_P E.1 CL (MW E o (us (us (us sc 5 (k_cw (sc 6) (sc 5))) 7 0) 8 0) (ua (ua ar 1 (ui gv (5 + 7 * (t - 97) + (3 + (m_of (ar 1) (t - 97) 2 - 1))) 0)) 2 a_4)) H := hP
            have hD : va_D A (MW E o (us (us (us sc 5 (k_cw (sc 6) (sc 5))) 7 0) 8 0) (ua (ua ar 1 (ui gv (5 + 7 * (t - 97) + (3 + (m_of (ar 1) (t - 97) 2 - 1))) 0)) 2 a_4)) := hD
            obtain ⟨a_8, ea_8⟩ : ∃ zz : Int → Int, zz = ui gv (5 + 7 * (t - 97) + (3 + (m_of (ar 1) (t - 97) 2 - 1))) 0 := ⟨_, rfl⟩
            rw [← ea_8] at hP hD
            have hBa_8 := ui_b (i := (5 + 7 * (t - 97) + (3 + (m_of (ar 1) (t - 97) 2 - 1)))) (v := 0) il100_2 (by omega)
            rw [← ea_8] at hBa_8
            have hfn : a_8 = s_rem (ar 1) (t - 97) (m_place (ar 1) (t - 97) (nd - 97)) := by
              funext x
              rw [ea_8]
              unfold ui s_rem
              have := il100_1 x
              (repeat' split) <;> first | rfl | omega | (rw [this]; (repeat' split) <;> first | rfl | omega)
            refine lv_iload hx hb dX5_removeNeed_151 (lv_at hl 1 rfl) ?_
            have hA : A_rem (ar 1) t nd = .inr (.inr (m_place (ar 1) (t - 97) (nd - 97), a_8)) := by
              rw [hfn]
              unfold A_rem
              rw [if_neg hnz]
            have hfin : m_place (ar 1) (t - 97) (nd - 97) = rs_val 0 (A_rem (ar 1) t nd) := by
              first | (rw [hA]; done) | (rw [hA]; rfl)
            have w_9 : k_cw (sc 6) (sc 5) = rs_cw (sc 6) (sc 5) (A_rem (ar 1) t nd) := by
              first | (rw [hA]; done) | (rw [hA]; rfl) | (rw [hA]; exact if_pos hden) | (rw [hA]; exact if_neg hden) | (rw [hA]; exact rfl) | (rw [hA]; exact rfl)
            rw [show (us (us (us sc 5 (k_cw (sc 6) (sc 5))) 7 0) 8 0) = (us (us (us sc 5 (rs_cw (sc 6) (sc 5) (A_rem (ar 1) t nd))) 7 0) 8 0) from congrArg (fun z0 : Int => (us (us (us sc 5 z0) 7 0) 8 0)) w_9] at hP hD
            have w_10 : 0 = rs_ref (A_rem (ar 1) t nd) := by
              first | (rw [hA]; done) | (rw [hA]; rfl) | (rw [hA]; exact if_pos hden) | (rw [hA]; exact if_neg hden) | (rw [hA]; exact rfl) | (rw [hA]; exact rfl)
            rw [show (us (us (us sc 5 (rs_cw (sc 6) (sc 5) (A_rem (ar 1) t nd))) 7 0) 8 0) = (us (us (us sc 5 (rs_cw (sc 6) (sc 5) (A_rem (ar 1) t nd))) 7 (rs_ref (A_rem (ar 1) t nd))) 8 0) from congrArg (fun z0 : Int => (us (us (us sc 5 (rs_cw (sc 6) (sc 5) (A_rem (ar 1) t nd))) 7 z0) 8 0)) w_10] at hP hD
            have w_11 : 0 = rs_code 2 (A_rem (ar 1) t nd) := by
              first | (rw [hA]; done) | (rw [hA]; rfl) | (rw [hA]; exact if_pos hden) | (rw [hA]; exact if_neg hden) | (rw [hA]; exact rfl) | (rw [hA]; exact rfl)
            rw [show (us (us (us sc 5 (rs_cw (sc 6) (sc 5) (A_rem (ar 1) t nd))) 7 (rs_ref (A_rem (ar 1) t nd))) 8 0) = (us (us (us sc 5 (rs_cw (sc 6) (sc 5) (A_rem (ar 1) t nd))) 7 (rs_ref (A_rem (ar 1) t nd))) 8 (rs_code 2 (A_rem (ar 1) t nd))) from congrArg (fun z0 : Int => (us (us (us sc 5 (rs_cw (sc 6) (sc 5) (A_rem (ar 1) t nd))) 7 (rs_ref (A_rem (ar 1) t nd))) 8 z0)) w_11] at hP hD
            have hP : va_P E.1 CL (MW E o (us (us (us (us sc 5 (rs_cw (sc 6) (sc 5) (A_rem (ar 1) t nd))) 7 (rs_ref (A_rem (ar 1) t nd))) 8 (rs_code 2 (A_rem (ar 1) t nd))) 9 (sc 9)) (ua (ua ar 1 a_8) 2 a_4)) H := hP
            have hD : va_D A (MW E o (us (us (us (us sc 5 (rs_cw (sc 6) (sc 5) (A_rem (ar 1) t nd))) 7 (rs_ref (A_rem (ar 1) t nd))) 8 (rs_code 2 (A_rem (ar 1) t nd))) 9 (sc 9)) (ua (ua ar 1 a_8) 2 a_4)) := hD
            have w_12 : sc 9 = rs_why (sc 9) (A_rem (ar 1) t nd) := by
              first | (rw [hA]; done) | (rw [hA]; rfl) | (rw [hA]; exact if_pos hden) | (rw [hA]; exact if_neg hden) | (rw [hA]; exact rfl) | (rw [hA]; exact rfl)
            rw [show (us (us (us (us sc 5 (rs_cw (sc 6) (sc 5) (A_rem (ar 1) t nd))) 7 (rs_ref (A_rem (ar 1) t nd))) 8 (rs_code 2 (A_rem (ar 1) t nd))) 9 (sc 9)) = (us (us (us (us sc 5 (rs_cw (sc 6) (sc 5) (A_rem (ar 1) t nd))) 7 (rs_ref (A_rem (ar 1) t nd))) 8 (rs_code 2 (A_rem (ar 1) t nd))) 9 (rs_why (sc 9) (A_rem (ar 1) t nd))) from congrArg (fun z0 : Int => (us (us (us (us sc 5 (rs_cw (sc 6) (sc 5) (A_rem (ar 1) t nd))) 7 (rs_ref (A_rem (ar 1) t nd))) 8 (rs_code 2 (A_rem (ar 1) t nd))) 9 z0)) w_12] at hP hD
            have hP : va_P E.1 CL (MW E o (us (us (us (us (us sc 5 (rs_cw (sc 6) (sc 5) (A_rem (ar 1) t nd))) 7 (rs_ref (A_rem (ar 1) t nd))) 8 (rs_code 2 (A_rem (ar 1) t nd))) 9 (rs_why (sc 9) (A_rem (ar 1) t nd))) 10 (sc 10)) (ua (ua ar 1 a_8) 2 a_4)) H := hP
            have hD : va_D A (MW E o (us (us (us (us (us sc 5 (rs_cw (sc 6) (sc 5) (A_rem (ar 1) t nd))) 7 (rs_ref (A_rem (ar 1) t nd))) 8 (rs_code 2 (A_rem (ar 1) t nd))) 9 (rs_why (sc 9) (A_rem (ar 1) t nd))) 10 (sc 10)) (ua (ua ar 1 a_8) 2 a_4)) := hD
            have w_13 : sc 10 = rs_det (sc 10) (A_rem (ar 1) t nd) := by
              first | (rw [hA]; done) | (rw [hA]; rfl) | (rw [hA]; exact if_pos hden) | (rw [hA]; exact if_neg hden) | (rw [hA]; exact rfl) | (rw [hA]; exact rfl)
            rw [show (us (us (us (us (us sc 5 (rs_cw (sc 6) (sc 5) (A_rem (ar 1) t nd))) 7 (rs_ref (A_rem (ar 1) t nd))) 8 (rs_code 2 (A_rem (ar 1) t nd))) 9 (rs_why (sc 9) (A_rem (ar 1) t nd))) 10 (sc 10)) = (us (us (us (us (us sc 5 (rs_cw (sc 6) (sc 5) (A_rem (ar 1) t nd))) 7 (rs_ref (A_rem (ar 1) t nd))) 8 (rs_code 2 (A_rem (ar 1) t nd))) 9 (rs_why (sc 9) (A_rem (ar 1) t nd))) 10 (rs_det (sc 10) (A_rem (ar 1) t nd))) from congrArg (fun z0 : Int => (us (us (us (us (us sc 5 (rs_cw (sc 6) (sc 5) (A_rem (ar 1) t nd))) 7 (rs_ref (A_rem (ar 1) t nd))) 8 (rs_code 2 (A_rem (ar 1) t nd))) 9 (rs_why (sc 9) (A_rem (ar 1) t nd))) 10 z0)) w_13] at hP hD
            have hP : va_P E.1 CL (MW E o (us (us (us (us (us (us sc 5 (rs_cw (sc 6) (sc 5) (A_rem (ar 1) t nd))) 7 (rs_ref (A_rem (ar 1) t nd))) 8 (rs_code 2 (A_rem (ar 1) t nd))) 9 (rs_why (sc 9) (A_rem (ar 1) t nd))) 10 (rs_det (sc 10) (A_rem (ar 1) t nd))) 11 (sc 11)) (ua (ua ar 1 a_8) 2 a_4)) H := hP
            have hD : va_D A (MW E o (us (us (us (us (us (us sc 5 (rs_cw (sc 6) (sc 5) (A_rem (ar 1) t nd))) 7 (rs_ref (A_rem (ar 1) t nd))) 8 (rs_code 2 (A_rem (ar 1) t nd))) 9 (rs_why (sc 9) (A_rem (ar 1) t nd))) 10 (rs_det (sc 10) (A_rem (ar 1) t nd))) 11 (sc 11)) (ua (ua ar 1 a_8) 2 a_4)) := hD
            have w_14 : sc 11 = rs_cau (sc 11) (A_rem (ar 1) t nd) := by
              first | (rw [hA]; done) | (rw [hA]; rfl) | (rw [hA]; exact if_pos hden) | (rw [hA]; exact if_neg hden) | (rw [hA]; exact rfl) | (rw [hA]; exact rfl)
            rw [show (us (us (us (us (us (us sc 5 (rs_cw (sc 6) (sc 5) (A_rem (ar 1) t nd))) 7 (rs_ref (A_rem (ar 1) t nd))) 8 (rs_code 2 (A_rem (ar 1) t nd))) 9 (rs_why (sc 9) (A_rem (ar 1) t nd))) 10 (rs_det (sc 10) (A_rem (ar 1) t nd))) 11 (sc 11)) = (us (us (us (us (us (us sc 5 (rs_cw (sc 6) (sc 5) (A_rem (ar 1) t nd))) 7 (rs_ref (A_rem (ar 1) t nd))) 8 (rs_code 2 (A_rem (ar 1) t nd))) 9 (rs_why (sc 9) (A_rem (ar 1) t nd))) 10 (rs_det (sc 10) (A_rem (ar 1) t nd))) 11 (rs_cau (sc 11) (A_rem (ar 1) t nd))) from congrArg (fun z0 : Int => (us (us (us (us (us (us sc 5 (rs_cw (sc 6) (sc 5) (A_rem (ar 1) t nd))) 7 (rs_ref (A_rem (ar 1) t nd))) 8 (rs_code 2 (A_rem (ar 1) t nd))) 9 (rs_why (sc 9) (A_rem (ar 1) t nd))) 10 (rs_det (sc 10) (A_rem (ar 1) t nd))) 11 z0)) w_14] at hP hD
            have w_15 : a_8 = rs_g (ar 1) (A_rem (ar 1) t nd) := by
              first | (rw [hA]; done) | (rw [hA]; rfl) | (rw [hA]; exact if_pos hden) | (rw [hA]; exact if_neg hden) | (rw [hA]; exact rfl) | (rw [hA]; exact rfl)
            rw [show (ua (ua ar 1 a_8) 2 a_4) = (ua (ua ar 1 (rs_g (ar 1) (A_rem (ar 1) t nd))) 2 a_4) from congrArg (fun z0 : Int → Int => (ua (ua ar 1 z0) 2 a_4)) w_15] at hP hD
            have w_16 : a_4 = rs_kw (sc 6) (ar 2) (ar 1) (sc 5) (A_rem (ar 1) t nd) := by
              rw [hA]
              first | rfl | exact ea_4
            rw [show (ua (ua ar 1 (rs_g (ar 1) (A_rem (ar 1) t nd))) 2 a_4) = (ua (ua ar 1 (rs_g (ar 1) (A_rem (ar 1) t nd))) 2 (rs_kw (sc 6) (ar 2) (ar 1) (sc 5) (A_rem (ar 1) t nd))) from congrArg (fun z0 : Int → Int => (ua (ua ar 1 (rs_g (ar 1) (A_rem (ar 1) t nd))) 2 z0)) w_16] at hP hD
            exact W.iret (v := iI (m_place (ar 1) (t - 97) (nd - 97))) hx hb hr (fun tt_ ht_ hW_ => ⟨⟨iI (m_place (ar 1) (t - 97) (nd - 97)), (), rfl, (congrArg iI hfin), by rw [ht_]; exact hP, hD⟩, hS.F ht_⟩) hS.2.2 dX5_removeNeed_153
          · refine lv_aload_n hx hb dX5_removeNeed_111 rfl (lv_at hl 3 rfl) ?_
            refine lv_iload_n hx hb dX5_removeNeed_112 rfl (lv_at hl 2 rfl) ?_
            refine lv_iconst (v := iI 3) hx hb dX5_removeNeed_113 rfl ?_
            refine lv_iload hx hb dX5_removeNeed_114 (lv_at hl 0 rfl) ?_
            refine n_iadd hx hb dX5_removeNeed_116 ?_
            refine lv_aload_n hx hb dX5_removeNeed_117 rfl (lv_at hl 3 rfl) ?_
            refine lv_iload_n hx hb dX5_removeNeed_118 rfl (lv_at hl 2 rfl) ?_
            refine lv_iconst (v := iI 3) hx hb dX5_removeNeed_119 rfl ?_
            refine lv_iload hx hb dX5_removeNeed_120 (lv_at hl 0 rfl) ?_
            refine n_iadd hx hb dX5_removeNeed_122 ?_
            refine lv_iconst (v := iI 1) hx hb dX5_removeNeed_123 rfl ?_
            refine n_iadd hx hb dX5_removeNeed_124 ?_
            refine n_csi (x := m_of gv (t - 97) ((3 + x5) + 1)) (va_runV (As := [iv (t - 97), iv ((3 + x5) + 1)]) (rest := [iv (3 + x5), iv (t - 97), .ref (o 0)]) ⟨hx, hb, hml, hown, hts⟩ (mt_X5_of l E o (us (us (us sc 5 (k_cw (sc 6) (sc 5))) 7 0) 8 0) (ua (ua ar 1 gv) 2 a_4) (t - 97) ((3 + x5) + 1) (by omega)) (cwV 2 hts (lw_V q2120 q2122 qs49 q113 q2123) rfl rfl rfl (by decide +kernel) ⟨Nat.le_of_ble_eq_true rfl, Nat.le_of_ble_eq_true rfl⟩) (PW_V hP hK (va_recv hK.1 hP (ci := 0) (q0 := 0) rfl rfl)) rfl rfl hl.1 rfl (lv_room (Nat.le_of_ble_eq_true rfl)) dX5_removeNeed_125 ⟨Nat.le_of_ble_eq_true rfl, Nat.le_of_ble_eq_true rfl⟩) ?_
            refine n_top (y := ar 1 (5 + 7 * (t - 97) + (3 + x5 + 1))) (by show gv (5 + 7 * (t - 97) + (3 + x5 + 1)) = _; rw [il100_1, if_neg (by omega), if_neg (by omega)]) ?_
            have b_17 := hB 1 (5 + 7 * (t - 97) + (3 + x5 + 1))
            refine n_cuv (va_runV (As := [iv (t - 97), iv (3 + x5), iv (ar 1 (5 + 7 * (t - 97) + (3 + x5 + 1)))]) (rest := []) ⟨hx, hb, hml, hown, hts⟩ (mt_X5_lays l E o (us (us (us sc 5 (k_cw (sc 6) (sc 5))) 7 0) 8 0) (ua (ua ar 1 gv) 2 a_4) (t - 97) (3 + x5) (ar 1 (5 + 7 * (t - 97) + (3 + x5 + 1))) (by omega) _) (cwV 3 hts (lw_V q2135 q2137 qs52 q113 q2138) rfl rfl rfl (by decide +kernel) ⟨Nat.le_of_ble_eq_true rfl, Nat.le_of_ble_eq_true rfl⟩) (UW_V hP hK (hD) (va_recv hK.1 hP (ci := 0) (q0 := 0) rfl rfl)) rfl rfl hl.1 rfl (lv_room (Nat.le_of_ble_eq_true rfl)) dX5_removeNeed_128 ⟨Nat.le_of_ble_eq_true rfl, Nat.le_of_ble_eq_true rfl⟩) hD hS hA (fun H locs hP hD hS => ?_)
            have hP : va_P E.1 CL (MW E o (us (us (us sc 5 (k_cw (sc 6) (sc 5))) 7 0) 8 0) (ua (ua ar 1 (ui gv (5 + 7 * (t - 97) + (3 + x5)) (ar 1 (5 + 7 * (t - 97) + (3 + x5 + 1))))) 2 a_4)) H := hP
            have hD : va_D A (MW E o (us (us (us sc 5 (k_cw (sc 6) (sc 5))) 7 0) 8 0) (ua (ua ar 1 (ui gv (5 + 7 * (t - 97) + (3 + x5)) (ar 1 (5 + 7 * (t - 97) + (3 + x5 + 1))))) 2 a_4)) := hD
            obtain ⟨a_18, ea_18⟩ : ∃ zz : Int → Int, zz = ui gv (5 + 7 * (t - 97) + (3 + x5)) (ar 1 (5 + 7 * (t - 97) + (3 + x5 + 1))) := ⟨_, rfl⟩
            rw [← ea_18] at hP hD
            have hBa_18 := ui_b (i := (5 + 7 * (t - 97) + (3 + x5))) (v := (ar 1 (5 + 7 * (t - 97) + (3 + x5 + 1)))) il100_2 (by omega)
            rw [← ea_18] at hBa_18
            refine lv_iinc (v := iI (x5 + 1)) (lv' := [(5, iv (x5 + 1)), (4, iv (m_place (ar 1) (t - 97) (nd - 97))), (3, iv (t - 97)), (0, .ref (o 0)), (1, iv t), (2, iv nd)]) hx hb dX5_removeNeed_131 hl (k := 0) rfl (iI_add _ _) (by decide) rfl (fun ls hl => ?_)
            refine lv_goto (tgt := 100) hx hb dX5_removeNeed_134 (by decide) ?_
            exact ihl100 (x5 + 1) a_18 (by first | omega | rfl) (by intro x; rw [ea_18]; unfold ui; have := il100_1 x; (repeat' split) <;> first | omega | (next q _ _ => rw [q]; congr 1; omega) | (next q _ => rw [q]; congr 1; omega) | (rw [this]; (repeat' split) <;> first | rfl | omega)) (by exact hBa_18) (by omega) H locs hP hD hS ls (lv_sub hl [0, 1, 2, 3, 4, 5] rfl)
      exact l100 3 (m_place (ar 1) (t - 97) (nd - 97)) a_6 (by first | omega | rfl | trivial) (by intro x; rw [ea_6]; unfold ui; (repeat' split) <;> first | rfl | omega) (by exact hBa_6) (by omega) H locs hP hD hS ls hl
    · refine lv_iconst (v := iI 0) hx hb dX5_removeNeed_56 rfl ?_
      have hA : A_rem (ar 1) t nd = .inl (c_rem (ar 1) t nd) := by
        unfold A_rem
        rw [if_pos (by assumption)]
      have hfin : 0 = rs_val 0 (A_rem (ar 1) t nd) := by
        first | (rw [hA]; done) | (rw [hA]; rfl)
      have hP : va_P E.1 CL (MW E o (us (us (us sc 5 (sc 5)) 7 0) 8 (c_rem (ar 1) t nd)) ar) H := hP
      have hD : va_D A (MW E o (us (us (us sc 5 (sc 5)) 7 0) 8 (c_rem (ar 1) t nd)) ar) := hD
      have w_19 : sc 5 = rs_cw (sc 6) (sc 5) (A_rem (ar 1) t nd) := by
        first | (rw [hA]; done) | (rw [hA]; rfl) | (rw [hA]; exact if_pos hden) | (rw [hA]; exact if_neg hden) | (rw [hA]; exact rfl) | (rw [hA]; exact rfl)
      rw [show (us (us (us sc 5 (sc 5)) 7 0) 8 (c_rem (ar 1) t nd)) = (us (us (us sc 5 (rs_cw (sc 6) (sc 5) (A_rem (ar 1) t nd))) 7 0) 8 (c_rem (ar 1) t nd)) from congrArg (fun z0 : Int => (us (us (us sc 5 z0) 7 0) 8 (c_rem (ar 1) t nd))) w_19] at hP hD
      have w_20 : 0 = rs_ref (A_rem (ar 1) t nd) := by
        first | (rw [hA]; done) | (rw [hA]; rfl) | (rw [hA]; exact if_pos hden) | (rw [hA]; exact if_neg hden) | (rw [hA]; exact rfl) | (rw [hA]; exact rfl)
      rw [show (us (us (us sc 5 (rs_cw (sc 6) (sc 5) (A_rem (ar 1) t nd))) 7 0) 8 (c_rem (ar 1) t nd)) = (us (us (us sc 5 (rs_cw (sc 6) (sc 5) (A_rem (ar 1) t nd))) 7 (rs_ref (A_rem (ar 1) t nd))) 8 (c_rem (ar 1) t nd)) from congrArg (fun z0 : Int => (us (us (us sc 5 (rs_cw (sc 6) (sc 5) (A_rem (ar 1) t nd))) 7 z0) 8 (c_rem (ar 1) t nd))) w_20] at hP hD
      have w_21 : (c_rem (ar 1) t nd) = rs_code 2 (A_rem (ar 1) t nd) := by
        first | (rw [hA]; done) | (rw [hA]; rfl) | (rw [hA]; exact if_pos hden) | (rw [hA]; exact if_neg hden) | (rw [hA]; exact rfl) | (rw [hA]; exact rfl)
      rw [show (us (us (us sc 5 (rs_cw (sc 6) (sc 5) (A_rem (ar 1) t nd))) 7 (rs_ref (A_rem (ar 1) t nd))) 8 (c_rem (ar 1) t nd)) = (us (us (us sc 5 (rs_cw (sc 6) (sc 5) (A_rem (ar 1) t nd))) 7 (rs_ref (A_rem (ar 1) t nd))) 8 (rs_code 2 (A_rem (ar 1) t nd))) from congrArg (fun z0 : Int => (us (us (us sc 5 (rs_cw (sc 6) (sc 5) (A_rem (ar 1) t nd))) 7 (rs_ref (A_rem (ar 1) t nd))) 8 z0)) w_21] at hP hD
      have hP : va_P E.1 CL (MW E o (us (us (us (us sc 5 (rs_cw (sc 6) (sc 5) (A_rem (ar 1) t nd))) 7 (rs_ref (A_rem (ar 1) t nd))) 8 (rs_code 2 (A_rem (ar 1) t nd))) 9 (sc 9)) ar) H := hP
      have hD : va_D A (MW E o (us (us (us (us sc 5 (rs_cw (sc 6) (sc 5) (A_rem (ar 1) t nd))) 7 (rs_ref (A_rem (ar 1) t nd))) 8 (rs_code 2 (A_rem (ar 1) t nd))) 9 (sc 9)) ar) := hD
      have w_22 : sc 9 = rs_why (sc 9) (A_rem (ar 1) t nd) := by
        first | (rw [hA]; done) | (rw [hA]; rfl) | (rw [hA]; exact if_pos hden) | (rw [hA]; exact if_neg hden) | (rw [hA]; exact rfl) | (rw [hA]; exact rfl)
      rw [show (us (us (us (us sc 5 (rs_cw (sc 6) (sc 5) (A_rem (ar 1) t nd))) 7 (rs_ref (A_rem (ar 1) t nd))) 8 (rs_code 2 (A_rem (ar 1) t nd))) 9 (sc 9)) = (us (us (us (us sc 5 (rs_cw (sc 6) (sc 5) (A_rem (ar 1) t nd))) 7 (rs_ref (A_rem (ar 1) t nd))) 8 (rs_code 2 (A_rem (ar 1) t nd))) 9 (rs_why (sc 9) (A_rem (ar 1) t nd))) from congrArg (fun z0 : Int => (us (us (us (us sc 5 (rs_cw (sc 6) (sc 5) (A_rem (ar 1) t nd))) 7 (rs_ref (A_rem (ar 1) t nd))) 8 (rs_code 2 (A_rem (ar 1) t nd))) 9 z0)) w_22] at hP hD
      have hP : va_P E.1 CL (MW E o (us (us (us (us (us sc 5 (rs_cw (sc 6) (sc 5) (A_rem (ar 1) t nd))) 7 (rs_ref (A_rem (ar 1) t nd))) 8 (rs_code 2 (A_rem (ar 1) t nd))) 9 (rs_why (sc 9) (A_rem (ar 1) t nd))) 10 (sc 10)) ar) H := hP
      have hD : va_D A (MW E o (us (us (us (us (us sc 5 (rs_cw (sc 6) (sc 5) (A_rem (ar 1) t nd))) 7 (rs_ref (A_rem (ar 1) t nd))) 8 (rs_code 2 (A_rem (ar 1) t nd))) 9 (rs_why (sc 9) (A_rem (ar 1) t nd))) 10 (sc 10)) ar) := hD
      have w_23 : sc 10 = rs_det (sc 10) (A_rem (ar 1) t nd) := by
        first | (rw [hA]; done) | (rw [hA]; rfl) | (rw [hA]; exact if_pos hden) | (rw [hA]; exact if_neg hden) | (rw [hA]; exact rfl) | (rw [hA]; exact rfl)
      rw [show (us (us (us (us (us sc 5 (rs_cw (sc 6) (sc 5) (A_rem (ar 1) t nd))) 7 (rs_ref (A_rem (ar 1) t nd))) 8 (rs_code 2 (A_rem (ar 1) t nd))) 9 (rs_why (sc 9) (A_rem (ar 1) t nd))) 10 (sc 10)) = (us (us (us (us (us sc 5 (rs_cw (sc 6) (sc 5) (A_rem (ar 1) t nd))) 7 (rs_ref (A_rem (ar 1) t nd))) 8 (rs_code 2 (A_rem (ar 1) t nd))) 9 (rs_why (sc 9) (A_rem (ar 1) t nd))) 10 (rs_det (sc 10) (A_rem (ar 1) t nd))) from congrArg (fun z0 : Int => (us (us (us (us (us sc 5 (rs_cw (sc 6) (sc 5) (A_rem (ar 1) t nd))) 7 (rs_ref (A_rem (ar 1) t nd))) 8 (rs_code 2 (A_rem (ar 1) t nd))) 9 (rs_why (sc 9) (A_rem (ar 1) t nd))) 10 z0)) w_23] at hP hD
      have hP : va_P E.1 CL (MW E o (us (us (us (us (us (us sc 5 (rs_cw (sc 6) (sc 5) (A_rem (ar 1) t nd))) 7 (rs_ref (A_rem (ar 1) t nd))) 8 (rs_code 2 (A_rem (ar 1) t nd))) 9 (rs_why (sc 9) (A_rem (ar 1) t nd))) 10 (rs_det (sc 10) (A_rem (ar 1) t nd))) 11 (sc 11)) ar) H := hP
      have hD : va_D A (MW E o (us (us (us (us (us (us sc 5 (rs_cw (sc 6) (sc 5) (A_rem (ar 1) t nd))) 7 (rs_ref (A_rem (ar 1) t nd))) 8 (rs_code 2 (A_rem (ar 1) t nd))) 9 (rs_why (sc 9) (A_rem (ar 1) t nd))) 10 (rs_det (sc 10) (A_rem (ar 1) t nd))) 11 (sc 11)) ar) := hD
      have w_24 : sc 11 = rs_cau (sc 11) (A_rem (ar 1) t nd) := by
        first | (rw [hA]; done) | (rw [hA]; rfl) | (rw [hA]; exact if_pos hden) | (rw [hA]; exact if_neg hden) | (rw [hA]; exact rfl) | (rw [hA]; exact rfl)
      rw [show (us (us (us (us (us (us sc 5 (rs_cw (sc 6) (sc 5) (A_rem (ar 1) t nd))) 7 (rs_ref (A_rem (ar 1) t nd))) 8 (rs_code 2 (A_rem (ar 1) t nd))) 9 (rs_why (sc 9) (A_rem (ar 1) t nd))) 10 (rs_det (sc 10) (A_rem (ar 1) t nd))) 11 (sc 11)) = (us (us (us (us (us (us sc 5 (rs_cw (sc 6) (sc 5) (A_rem (ar 1) t nd))) 7 (rs_ref (A_rem (ar 1) t nd))) 8 (rs_code 2 (A_rem (ar 1) t nd))) 9 (rs_why (sc 9) (A_rem (ar 1) t nd))) 10 (rs_det (sc 10) (A_rem (ar 1) t nd))) 11 (rs_cau (sc 11) (A_rem (ar 1) t nd))) from congrArg (fun z0 : Int => (us (us (us (us (us (us sc 5 (rs_cw (sc 6) (sc 5) (A_rem (ar 1) t nd))) 7 (rs_ref (A_rem (ar 1) t nd))) 8 (rs_code 2 (A_rem (ar 1) t nd))) 9 (rs_why (sc 9) (A_rem (ar 1) t nd))) 10 (rs_det (sc 10) (A_rem (ar 1) t nd))) 11 z0)) w_24] at hP hD
      have hP : va_P E.1 CL (MW E o (us (us (us (us (us (us sc 5 (rs_cw (sc 6) (sc 5) (A_rem (ar 1) t nd))) 7 (rs_ref (A_rem (ar 1) t nd))) 8 (rs_code 2 (A_rem (ar 1) t nd))) 9 (rs_why (sc 9) (A_rem (ar 1) t nd))) 10 (rs_det (sc 10) (A_rem (ar 1) t nd))) 11 (rs_cau (sc 11) (A_rem (ar 1) t nd))) (ua ar 1 (ar 1))) H := hP
      have hD : va_D A (MW E o (us (us (us (us (us (us sc 5 (rs_cw (sc 6) (sc 5) (A_rem (ar 1) t nd))) 7 (rs_ref (A_rem (ar 1) t nd))) 8 (rs_code 2 (A_rem (ar 1) t nd))) 9 (rs_why (sc 9) (A_rem (ar 1) t nd))) 10 (rs_det (sc 10) (A_rem (ar 1) t nd))) 11 (rs_cau (sc 11) (A_rem (ar 1) t nd))) (ua ar 1 (ar 1))) := hD
      have w_25 : ar 1 = rs_g (ar 1) (A_rem (ar 1) t nd) := by
        first | (rw [hA]; done) | (rw [hA]; rfl) | (rw [hA]; exact if_pos hden) | (rw [hA]; exact if_neg hden) | (rw [hA]; exact rfl) | (rw [hA]; exact rfl)
      rw [show (ua ar 1 (ar 1)) = (ua ar 1 (rs_g (ar 1) (A_rem (ar 1) t nd))) from congrArg (fun z0 : Int → Int => (ua ar 1 z0)) w_25] at hP hD
      have hP : va_P E.1 CL (MW E o (us (us (us (us (us (us sc 5 (rs_cw (sc 6) (sc 5) (A_rem (ar 1) t nd))) 7 (rs_ref (A_rem (ar 1) t nd))) 8 (rs_code 2 (A_rem (ar 1) t nd))) 9 (rs_why (sc 9) (A_rem (ar 1) t nd))) 10 (rs_det (sc 10) (A_rem (ar 1) t nd))) 11 (rs_cau (sc 11) (A_rem (ar 1) t nd))) (ua (ua ar 1 (rs_g (ar 1) (A_rem (ar 1) t nd))) 2 (ar 2))) H := hP
      have hD : va_D A (MW E o (us (us (us (us (us (us sc 5 (rs_cw (sc 6) (sc 5) (A_rem (ar 1) t nd))) 7 (rs_ref (A_rem (ar 1) t nd))) 8 (rs_code 2 (A_rem (ar 1) t nd))) 9 (rs_why (sc 9) (A_rem (ar 1) t nd))) 10 (rs_det (sc 10) (A_rem (ar 1) t nd))) 11 (rs_cau (sc 11) (A_rem (ar 1) t nd))) (ua (ua ar 1 (rs_g (ar 1) (A_rem (ar 1) t nd))) 2 (ar 2))) := hD
      have w_26 : ar 2 = rs_kw (sc 6) (ar 2) (ar 1) (sc 5) (A_rem (ar 1) t nd) := by
        rw [hA]
        first | rfl | exact ear 2
      rw [show (ua (ua ar 1 (rs_g (ar 1) (A_rem (ar 1) t nd))) 2 (ar 2)) = (ua (ua ar 1 (rs_g (ar 1) (A_rem (ar 1) t nd))) 2 (rs_kw (sc 6) (ar 2) (ar 1) (sc 5) (A_rem (ar 1) t nd))) from congrArg (fun z0 : Int → Int => (ua (ua ar 1 (rs_g (ar 1) (A_rem (ar 1) t nd))) 2 z0)) w_26] at hP hD
      exact W.iret (v := iI 0) hx hb hr (fun tt_ ht_ hW_ => ⟨⟨iI 0, (), rfl, (congrArg iI hfin), by rw [ht_]; exact hP, hD⟩, hS.F ht_⟩) hS.2.2 dX5_removeNeed_57
  refine lv_iload_n hx hb dX5_removeNeed_1 rfl (lv_at hl 1 rfl) ?_
  refine n_csi (x := b2 (decide (97 ≤ t ∧ t ≤ 104))) (va_runS (As := [iv t]) (rest := [.ref (o 0)]) ⟨hx, hb, hml, hown, hts⟩ (mt_X5_isTool l E o sc ar t (by omega)) (va_cwS 1 hts (lw_S q2107 q2108 q113 q2109) rfl rfl rfl (by decide +kernel) ⟨Nat.le_of_ble_eq_true rfl, Nat.le_of_ble_eq_true rfl⟩) (PW_S hP hK) rfl rfl hl.1 rfl (lv_room (Nat.le_of_ble_eq_true rfl)) dX5_removeNeed_2 ⟨Nat.le_of_ble_eq_true rfl, Nat.le_of_ble_eq_true rfl⟩) ?_
  refine n_ifd_eq (tgt := 15) hx hb dX5_removeNeed_5 (by decide) (fun c_27 => ?_) (fun c_27 => ?_)
  · refine lv_iconst (v := iI 1) hx hb dX5_removeNeed_15 rfl ?_
    refine lv_goto (tgt := 50) hx hb dX5_removeNeed_16 (by decide) ?_
    refine n_top (y := c_rem (ar 1) t nd) (by (try unfold c_rem); (repeat' split) <;> first | rfl | omega | contradiction | (exfalso; omega) | (simp_all; done)) ?_
    exact j_1
  · refine lv_iload_n hx hb dX5_removeNeed_8 rfl (lv_at hl 2 rfl) ?_
    refine n_csi (x := b2 (decide (97 ≤ nd ∧ nd ≤ 104))) (va_runS (As := [iv nd]) (rest := [.ref (o 0)]) ⟨hx, hb, hml, hown, hts⟩ (mt_X5_isTool l E o sc ar nd (by omega)) (va_cwS 1 hts (lw_S q2107 q2108 q113 q2109) rfl rfl rfl (by decide +kernel) ⟨Nat.le_of_ble_eq_true rfl, Nat.le_of_ble_eq_true rfl⟩) (PW_S hP hK) rfl rfl hl.1 rfl (lv_room (Nat.le_of_ble_eq_true rfl)) dX5_removeNeed_9 ⟨Nat.le_of_ble_eq_true rfl, Nat.le_of_ble_eq_true rfl⟩) ?_
    refine n_ifd_ne (tgt := 19) hx hb dX5_removeNeed_12 (by decide) (fun c_28 => ?_) (fun c_28 => ?_)
    · refine lv_aload_n hx hb dX5_removeNeed_19 rfl (lv_at hl 0 rfl) ?_
      refine lv_iload_n hx hb dX5_removeNeed_20 rfl (lv_at hl 1 rfl) ?_
      refine lv_bipush (v := iI 97) hx hb dX5_removeNeed_21 (by decide) ?_
      refine n_isub hx hb dX5_removeNeed_23 ?_
      refine n_csi (x := b2 (m_has (ar 1) (t - 97))) (va_runV (As := [iv (t - 97)]) (rest := [.ref (o 0)]) ⟨hx, hb, hml, hown, hts⟩ (mt_X5_has l E o sc ar (t - 97) hB (by omega)) (cwV 1 hts (lw_V q2116 q2118 qs48 q113 q2119) rfl rfl rfl (by decide +kernel) ⟨Nat.le_of_ble_eq_true rfl, Nat.le_of_ble_eq_true rfl⟩) (PW_V hP hK (va_recv hK.1 hP (ci := 0) (q0 := 0) rfl rfl)) rfl rfl hl.1 rfl (lv_room (Nat.le_of_ble_eq_true rfl)) dX5_removeNeed_24 ⟨Nat.le_of_ble_eq_true rfl, Nat.le_of_ble_eq_true rfl⟩) ?_
      refine n_ifb_eq (tgt := 45) hx hb dX5_removeNeed_27 (by decide) (fun c_29 => ?_) (fun c_29 => ?_)
      · refine lv_iconst (v := iI 2) hx hb dX5_removeNeed_45 rfl ?_
        refine lv_goto (tgt := 50) hx hb dX5_removeNeed_46 (by decide) ?_
        refine n_top (y := c_rem (ar 1) t nd) (by (try unfold c_rem); (repeat' split) <;> first | rfl | omega | contradiction | (exfalso; omega) | (simp_all; done)) ?_
        exact j_1
      · refine lv_aload_n hx hb dX5_removeNeed_30 rfl (lv_at hl 0 rfl) ?_
        refine lv_iload_n hx hb dX5_removeNeed_31 rfl (lv_at hl 1 rfl) ?_
        refine lv_bipush (v := iI 97) hx hb dX5_removeNeed_32 (by decide) ?_
        refine n_isub hx hb dX5_removeNeed_34 ?_
        refine lv_iload_n hx hb dX5_removeNeed_35 rfl (lv_at hl 2 rfl) ?_
        refine lv_bipush (v := iI 97) hx hb dX5_removeNeed_36 (by decide) ?_
        refine n_isub hx hb dX5_removeNeed_38 ?_
        refine n_csi (x := m_place (ar 1) (t - 97) (nd - 97)) (va_runV (As := [iv (t - 97), iv (nd - 97)]) (rest := [.ref (o 0)]) ⟨hx, hb, hml, hown, hts⟩ (mt_X5_placeOf l E o sc ar (t - 97) (nd - 97) hB (by omega) (by omega) (by assumption)) (cwV 2 hts (lw_V q2163 q2165 qs57 q113 q2166) rfl rfl rfl (by decide +kernel) ⟨Nat.le_of_ble_eq_true rfl, Nat.le_of_ble_eq_true rfl⟩) (PW_V hP hK (va_recv hK.1 hP (ci := 0) (q0 := 0) rfl rfl)) rfl rfl hl.1 rfl (lv_room (Nat.le_of_ble_eq_true rfl)) dX5_removeNeed_39 ⟨Nat.le_of_ble_eq_true rfl, Nat.le_of_ble_eq_true rfl⟩) ?_
        have b_30 := m_place_r (g := (ar 1)) (by assumption) (t := (t - 97)) (n := (nd - 97)) (by omega)
        refine n_if_ge (tgt := 49) hx hb dX5_removeNeed_42 (by decide) (by omega) (fun c_31 => ?_) (fun c_31 => ?_)
        · refine lv_iconst (v := iI 0) hx hb dX5_removeNeed_49 rfl ?_
          refine n_top (y := c_rem (ar 1) t nd) (by (try unfold c_rem); (repeat' split) <;> first | rfl | omega | contradiction | (exfalso; omega) | (simp_all; done)) ?_
          exact j_1
        · refine lv_iconst (v := iI 2) hx hb dX5_removeNeed_45 rfl ?_
          refine lv_goto (tgt := 50) hx hb dX5_removeNeed_46 (by decide) ?_
          refine n_top (y := c_rem (ar 1) t nd) (by (try unfold c_rem); (repeat' split) <;> first | rfl | omega | contradiction | (exfalso; omega) | (simp_all; done)) ?_
          exact j_1
    · refine lv_iconst (v := iI 1) hx hb dX5_removeNeed_15 rfl ?_
      refine lv_goto (tgt := 50) hx hb dX5_removeNeed_16 (by decide) ?_
      refine n_top (y := c_rem (ar 1) t nd) (by (try unfold c_rem); (repeat' split) <;> first | rfl | omega | contradiction | (exfalso; omega) | (simp_all; done)) ?_
      exact j_1
set_option maxHeartbeats 4000000 in
set_option maxRecDepth 100000 in
theorem mt_X5_replace (l : Launch) (E : EE) (o : Nat → Nat) (sc : Nat → Int) (ar : Nat → Int → Int) (t : Int) (nd : Int) (hB : ∀ k x, 0 ≤ ar k x ∧ ar k x < 2147483648) (ht : 0 ≤ t ∧ t < 65536) (hs : 0 ≤ nd ∧ nd < 65536) (htw : TW (ar 1)) (hsw : SwOK (ar 1)) (hch : 0 ≤ sc 5 ∧ sc 5 ≤ 8) (hwi : 0 ≤ sc 6 ∧ sc 6 ≤ 1) (sz : Nat) : Met l yX5_replace (ws_ yX5_replace cX5_replace 9 (some .int)) { frames := 5, cells := 0, slots := 0, locals := 116 } (va_Pc [.ref (o 0), iv t, iv nd] (UW E (MW E o sc ar) sz)) (UQi E (rs_val 0 (A_repl (ar 1) t nd)) (MW E o (us (us (us (us (us (us sc 5 (rs_cw (sc 6) (sc 5) (A_repl (ar 1) t nd))) 7 (rs_ref (A_repl (ar 1) t nd))) 8 (rs_code 2 (A_repl (ar 1) t nd))) 9 (rs_why (sc 9) (A_repl (ar 1) t nd))) 10 (rs_det (sc 10) (A_repl (ar 1) t nd))) 11 (rs_cau (sc 11) (A_repl (ar 1) t nd))) (ua (ua ar 1 (rs_g (ar 1) (A_repl (ar 1) t nd))) 2 (rs_kw (sc 6) (ar 2) (ar 1) (sc 5) (A_repl (ar 1) t nd)))) (va_A (MW E o sc ar) sz)) 0 0 (va_A (MW E o sc ar) sz) := by
  refine Met.ofW (cc := cX5_replace) (maxL := 9) (ret := (some .int)) (by decide) rfl ?_
  intro p e s m args below meth c s₁ B hml hv
  obtain ⟨rfl, hsz, hP, hK, hD0⟩ := hv
  have hx := B.exec
  have hb := B.bytes
  have hr := B.returns
  have hts := atoms_spec (ws := (ws_ yX5_replace cX5_replace 9 (some .int))) B.pre
  have hts : ∀ w ∈ lw_all, w.before _ s = true := fun w h => hts w (List.mem_cons_of_mem _ h)
  have hown : s.vm.findClass RX5 = some m.cls := findClass_of_methodNamed B.named
  have hlocks := B.notSynchronized
  subst hsz
  have hD := hD0.self (sz := s.heap.size)
  generalize hAe : va_A (MW E o sc ar) s.heap.size = A at hD ⊢
  have hA : ∀ q : Nat, s.heap.size ≤ q → A q := fun q h => by rw [← hAe]; exact Or.inr h
  have hS : va_S A s.heap s.heap [] := va_S.rf
  have hl := lv_entry ([.ref (o 0), iv t, iv nd]) (n := 9) (Nat.le_of_ble_eq_true rfl)
  rw [lg_entry_eq]
  generalize (lg_sl ([.ref (o 0), iv t, iv nd]) ++ List.replicate (9 - (lg_sl ([.ref (o 0), iv t, iv nd])).length) Slot.unset).toArray = ls at hl ⊢
  have hl : lv_has ls 9 [(0, .ref (o 0)), (1, iv t), (2, iv nd)] := hl
  refine lv_aload_n hx hb dX5_replace_0 rfl (lv_at hl 0 rfl) ?_
  have j_1 : W p l e (headSpec (ws_ yX5_replace cX5_replace 9 (some .int)) { frames := 5, cells := 0, slots := 0, locals := 116 }).room s m ([.ref (o 0), iv t, iv nd] : List Value).toArray below meth c s.heap [] 0 0 (MQ below (UQi E (rs_val 0 (A_repl (ar 1) t nd)) (MW E o (us (us (us (us (us (us sc 5 (rs_cw (sc 6) (sc 5) (A_repl (ar 1) t nd))) 7 (rs_ref (A_repl (ar 1) t nd))) 8 (rs_code 2 (A_repl (ar 1) t nd))) 9 (rs_why (sc 9) (A_repl (ar 1) t nd))) 10 (rs_det (sc 10) (A_repl (ar 1) t nd))) 11 (rs_cau (sc 11) (A_repl (ar 1) t nd))) (ua (ua ar 1 (rs_g (ar 1) (A_repl (ar 1) t nd))) 2 (rs_kw (sc 6) (ar 2) (ar 1) (sc 5) (A_repl (ar 1) t nd)))) A) ([.ref (o 0), iv t, iv nd] : List Value).toArray s 0 0 A) (F0 m 25 ls [iv (c_repl t nd), .ref (o 0)]) := by
    have b_2 := c_repl_r t nd
    refine n_cui (x := b2 (decide (0 < (c_repl t nd)))) (va_runV (As := [iv (c_repl t nd)]) (rest := []) ⟨hx, hb, hml, hown, hts⟩ (mt_X5_fails l E o sc ar (c_repl t nd) (by omega) _) (cwV 1 hts (lw_V q2124 q2126 qs50 q113 q2127) rfl rfl rfl (by decide +kernel) ⟨Nat.le_of_ble_eq_true rfl, Nat.le_of_ble_eq_true rfl⟩) (UW_V hP hK (hD) (va_recv hK.1 hP (ci := 0) (q0 := 0) rfl rfl)) rfl rfl hl.1 rfl (lv_room (Nat.le_of_ble_eq_true rfl)) dX5_replace_25 ⟨Nat.le_of_ble_eq_true rfl, Nat.le_of_ble_eq_true rfl⟩) hD hS hA (fun H locs hP hD hS => ?_)
    have hP : va_P E.1 CL (MW E o (us (us sc 7 0) 8 (c_repl t nd)) ar) H := hP
    have hD : va_D A (MW E o (us (us sc 7 0) 8 (c_repl t nd)) ar) := hD
    refine n_ifd_eq (tgt := 33) hx hb dX5_replace_28 (by decide) (fun c_3 => ?_) (fun c_3 => ?_)
    · have hnz : ¬ 0 < c_repl t nd := by assumption
      have hz := c_repl_ok hnz
      refine lv_iload_n hx hb dX5_replace_33 rfl (lv_at hl 1 rfl) ?_
      refine lv_bipush (v := iI 97) hx hb dX5_replace_34 (by decide) ?_
      refine n_isub hx hb dX5_replace_36 ?_
      refine lv_istore_n (lv' := [(3, iv (t - 97)), (0, .ref (o 0)), (1, iv t), (2, iv nd)]) hx hb dX5_replace_37 rfl hl (by decide) rfl (fun ls hl => ?_)
      refine lv_iconst (v := iI 1) hx hb dX5_replace_38 rfl ?_
      refine lv_istore (lv' := [(4, iv 1), (3, iv (t - 97)), (0, .ref (o 0)), (1, iv t), (2, iv nd)]) hx hb dX5_replace_39 hl (by decide) rfl (fun ls hl => ?_)
      refine lv_iload_n hx hb dX5_replace_41 rfl (lv_at hl 4 rfl) ?_
      refine lv_bipush (v := iI 97) hx hb dX5_replace_42 (by decide) ?_
      refine n_isub hx hb dX5_replace_44 ?_
      refine lv_istore (lv' := [(5, iv (nd - 97)), (4, iv 1), (3, iv (t - 97)), (0, .ref (o 0)), (1, iv t), (2, iv nd)]) hx hb dX5_replace_45 hl (by decide) rfl (fun ls hl => ?_)
      have l47 : ∀ (fu : Nat) (x4 : Int) (x5 : Int) (z : Nat), (-1 ≤ x5 ∧ x5 < 8 ∧ 1 ≤ x4) → (m_chain (ar 1) (nd - 97) (t - 97) = (if chR (ar 1) z x5 (t - 97) = 0 then 0 else chR (ar 1) z x5 (t - 97) + (x4 - 1))) → (x5 < 0 ∨ m_of (ar 1) (m_stN (ar 1) z x5) 6 = 0) → ((if x5 < 0 then (0 : Int) else (z : Int) + 1) < (fu : Int)) → ∀ ls : Array Slot, lv_has ls 9 [(5, iv x5), (4, iv x4), (3, iv (t - 97)), (0, .ref (o 0)), (1, iv t), (2, iv nd)] → W p l e (headSpec (ws_ yX5_replace cX5_replace 9 (some .int)) { frames := 5, cells := 0, slots := 0, locals := 116 }).room s m ([.ref (o 0), iv t, iv nd] : List Value).toArray below meth c H locs 0 0 (MQ below (UQi E (rs_val 0 (A_repl (ar 1) t nd)) (MW E o (us (us (us (us (us (us sc 5 (rs_cw (sc 6) (sc 5) (A_repl (ar 1) t nd))) 7 (rs_ref (A_repl (ar 1) t nd))) 8 (rs_code 2 (A_repl (ar 1) t nd))) 9 (rs_why (sc 9) (A_repl (ar 1) t nd))) 10 (rs_det (sc 10) (A_repl (ar 1) t nd))) 11 (rs_cau (sc 11) (A_repl (ar 1) t nd))) (ua (ua ar 1 (rs_g (ar 1) (A_repl (ar 1) t nd))) 2 (rs_kw (sc 6) (ar 2) (ar 1) (sc 5) (A_repl (ar 1) t nd)))) A) ([.ref (o 0), iv t, iv nd] : List Value).toArray s 0 0 A) (F0 m 47 ls []) := by
        intro fu
        induction fu with
        | zero =>
          intro x4 x5 z il47_0 il47_1 il47_2 hm
          exfalso; split at hm <;> omega
        | succ fu ih =>
          intro x4 x5 z il47_0 il47_1 il47_2 hm ls hl
          have ihl47 := ih
          refine lv_iload hx hb dX5_replace_47 (lv_at hl 0 rfl) ?_
          refine n_if_lt (tgt := 87) hx hb dX5_replace_49 (by decide) (by omega) (fun c_4 => ?_) (fun c_4 => ?_)
          · have hch0 : m_chain (ar 1) (nd - 97) (t - 97) = 0 := by rw [il47_1, show chR (ar 1) z x5 (t - 97) = 0 from if_pos (by assumption)]; rfl
            refine lv_aload_n hx hb dX5_replace_87 rfl (lv_at hl 3 rfl) ?_
            refine lv_iload_n hx hb dX5_replace_88 rfl (lv_at hl 2 rfl) ?_
            refine lv_bipush (v := iI 6) hx hb dX5_replace_89 (by decide) ?_
            refine n_csi (x := m_of (ar 1) (t - 97) 6) (va_runV (As := [iv (t - 97), iv 6]) (rest := []) ⟨hx, hb, hml, hown, hts⟩ (mt_X5_of l E o (us (us sc 7 0) 8 (c_repl t nd)) ar (t - 97) 6 (by omega)) (cwV 2 hts (lw_V q2120 q2122 qs49 q113 q2123) rfl rfl rfl (by decide +kernel) ⟨Nat.le_of_ble_eq_true rfl, Nat.le_of_ble_eq_true rfl⟩) (PW_V hP hK (va_recv hK.1 hP (ci := 0) (q0 := 0) rfl rfl)) rfl rfl hl.1 rfl (lv_room (Nat.le_of_ble_eq_true rfl)) dX5_replace_91 ⟨Nat.le_of_ble_eq_true rfl, Nat.le_of_ble_eq_true rfl⟩) ?_
            refine lv_istore (lv' := [(5, iv (m_of (ar 1) (t - 97) 6)), (4, iv x4), (3, iv (t - 97)), (0, .ref (o 0)), (1, iv t), (2, iv nd)]) hx hb dX5_replace_94 hl (by decide) rfl (fun ls hl => ?_)
            refine lv_aload_n hx hb dX5_replace_96 rfl (lv_at hl 3 rfl) ?_
            refine lv_iload_n hx hb dX5_replace_97 rfl (lv_at hl 2 rfl) ?_
            refine lv_bipush (v := iI 6) hx hb dX5_replace_98 (by decide) ?_
            refine lv_iload_n hx hb dX5_replace_100 rfl (lv_at hl 5 rfl) ?_
            refine lv_bipush (v := iI 97) hx hb dX5_replace_101 (by decide) ?_
            refine n_isub hx hb dX5_replace_103 ?_
            refine lv_iconst (v := iI 1) hx hb dX5_replace_104 rfl ?_
            refine n_iadd hx hb dX5_replace_105 ?_
            refine n_cuv (va_runV (As := [iv (t - 97), iv 6, iv ((nd - 97) + 1)]) (rest := []) ⟨hx, hb, hml, hown, hts⟩ (mt_X5_lays l E o (us (us sc 7 0) 8 (c_repl t nd)) ar (t - 97) 6 ((nd - 97) + 1) (by omega) _) (cwV 3 hts (lw_V q2135 q2137 qs52 q113 q2138) rfl rfl rfl (by decide +kernel) ⟨Nat.le_of_ble_eq_true rfl, Nat.le_of_ble_eq_true rfl⟩) (UW_V hP hK (hD) (va_recv hK.1 hP (ci := 0) (q0 := 0) rfl rfl)) rfl rfl hl.1 rfl (lv_room (Nat.le_of_ble_eq_true rfl)) dX5_replace_106 ⟨Nat.le_of_ble_eq_true rfl, Nat.le_of_ble_eq_true rfl⟩) hD hS hA (fun H locs hP hD hS => ?_)
            have hP : va_P E.1 CL (MW E o (us (us sc 7 0) 8 (c_repl t nd)) (ua ar 1 (ui (ar 1) (5 + 7 * (t - 97) + 6) ((nd - 97) + 1)))) H := hP
            have hD : va_D A (MW E o (us (us sc 7 0) 8 (c_repl t nd)) (ua ar 1 (ui (ar 1) (5 + 7 * (t - 97) + 6) ((nd - 97) + 1)))) := hD
            obtain ⟨a_5, ea_5⟩ : ∃ zz : Int → Int, zz = ui (ar 1) (5 + 7 * (t - 97) + 6) ((nd - 97) + 1) := ⟨_, rfl⟩
            rw [← ea_5] at hP hD
            have hBa_5 := ui_b (i := (5 + 7 * (t - 97) + 6)) (v := ((nd - 97) + 1)) (hB 1) (by omega)
            rw [← ea_5] at hBa_5
            have hg1 : a_5 = m_set (ar 1) (t - 97) 6 (nd - 97 + 1) := ea_5
            have htw2 : TW a_5 := by rw [hg1]; exact set_tw htw
            have hsw2 : SwOK a_5 := by rw [hg1]; exact swap_ok hsw (by omega) (by omega) hch0
            refine lv_aload_n hx hb dX5_replace_109 rfl (lv_at hl 3 rfl) ?_
            refine n_csi (x := m_circ a_5) (va_runV (As := []) (rest := []) ⟨hx, hb, hml, hown, hts⟩ (mt_X5_circle l E o (us (us sc 7 0) 8 (c_repl t nd)) (ua ar 1 a_5)  (ua_b 1 hB hBa_5) (by exact htw2) (by exact hsw2)) (cwV 0 hts (lw_V q2175 q2177 qs60 q113 q2178) rfl rfl rfl (by decide +kernel) ⟨Nat.le_of_ble_eq_true rfl, Nat.le_of_ble_eq_true rfl⟩) (PW_V hP hK (va_recv hK.1 hP (ci := 0) (q0 := 0) rfl rfl)) rfl rfl hl.1 rfl (lv_room (Nat.le_of_ble_eq_true rfl)) dX5_replace_110 ⟨Nat.le_of_ble_eq_true rfl, Nat.le_of_ble_eq_true rfl⟩) ?_
            refine n_top (y := m_circ (m_set (ar 1) (t - 97) 6 (nd - 97 + 1))) (by rw [hg1]) ?_
            refine lv_istore (lv' := [(6, iv (m_circ (m_set (ar 1) (t - 97) 6 (nd - 97 + 1)))), (5, iv (m_of (ar 1) (t - 97) 6)), (4, iv x4), (3, iv (t - 97)), (0, .ref (o 0)), (1, iv t), (2, iv nd)]) hx hb dX5_replace_113 hl (by decide) rfl (fun ls hl => ?_)
            refine lv_aload_n hx hb dX5_replace_115 rfl (lv_at hl 4 rfl) ?_
            refine lv_iload_n hx hb dX5_replace_116 rfl (lv_at hl 3 rfl) ?_
            refine lv_bipush (v := iI 6) hx hb dX5_replace_117 (by decide) ?_
            refine lv_iload hx hb dX5_replace_119 (lv_at hl 1 rfl) ?_
            have b_6 := (show 0 ≤ m_of (ar 1) (t - 97) 6 ∧ m_of (ar 1) (t - 97) 6 < 2147483648 from (hB 1) _)
            refine n_cuv (va_runV (As := [iv (t - 97), iv 6, iv (m_of (ar 1) (t - 97) 6)]) (rest := []) ⟨hx, hb, hml, hown, hts⟩ (mt_X5_lays l E o (us (us sc 7 0) 8 (c_repl t nd)) (ua ar 1 a_5) (t - 97) 6 (m_of (ar 1) (t - 97) 6) (by omega) _) (cwV 3 hts (lw_V q2135 q2137 qs52 q113 q2138) rfl rfl rfl (by decide +kernel) ⟨Nat.le_of_ble_eq_true rfl, Nat.le_of_ble_eq_true rfl⟩) (UW_V hP hK (hD) (va_recv hK.1 hP (ci := 0) (q0 := 0) rfl rfl)) rfl rfl hl.1 rfl (lv_room (Nat.le_of_ble_eq_true rfl)) dX5_replace_121 ⟨Nat.le_of_ble_eq_true rfl, Nat.le_of_ble_eq_true rfl⟩) hD hS hA (fun H locs hP hD hS => ?_)
            have hP : va_P E.1 CL (MW E o (us (us sc 7 0) 8 (c_repl t nd)) (ua ar 1 (ui a_5 (5 + 7 * (t - 97) + 6) (m_of (ar 1) (t - 97) 6)))) H := hP
            have hD : va_D A (MW E o (us (us sc 7 0) 8 (c_repl t nd)) (ua ar 1 (ui a_5 (5 + 7 * (t - 97) + 6) (m_of (ar 1) (t - 97) 6)))) := hD
            obtain ⟨a_7, ea_7⟩ : ∃ zz : Int → Int, zz = ui a_5 (5 + 7 * (t - 97) + 6) (m_of (ar 1) (t - 97) 6) := ⟨_, rfl⟩
            rw [← ea_7] at hP hD
            have hBa_7 := ui_b (i := (5 + 7 * (t - 97) + 6)) (v := (m_of (ar 1) (t - 97) 6)) hBa_5 (by omega)
            rw [← ea_7] at hBa_7
            have hrs : a_7 = ar 1 := set_back (g1 := a_5) rfl ea_5 ea_7
            rw [hrs] at hP hD
            refine lv_iload hx hb dX5_replace_124 (lv_at hl 0 rfl) ?_
            have b_8 := m_circ_r (m_set (ar 1) (t - 97) 6 (nd - 97 + 1))
            refine n_if_le (tgt := 138) hx hb dX5_replace_126 (by decide) (by omega) (fun c_9 => ?_) (fun c_9 => ?_)
            · refine lv_aload_n hx hb dX5_replace_138 rfl (lv_at hl 4 rfl) ?_
              refine lv_aload_n hx hb dX5_replace_139 rfl (lv_at hl 4 rfl) ?_
              refine va_get (D := E.1) (ci := 0) (v := .ref (o 1)) (C := RX5) (T := TX5) (N := 23) hx hb hts in_X5 hown hK.1 hP 0 rfl rfl 0 (by decide) (hts _ q2029) (fun _ h9 => h9) rfl dX5_replace_140 ?_
              refine n_cuv (va_runV (As := [.ref (o 1)]) (rest := []) ⟨hx, hb, hml, hown, hts⟩ (mt_X5_keeps1 l E o (us (us sc 7 0) 8 (c_repl t nd)) (ua ar 1 (ar 1))  (by first | omega | exact hch) (by first | omega | exact hwi) _) (cwV 1 hts (lw_V q2128 q2130 qs51 q113 q2131) rfl rfl rfl (by decide +kernel) ⟨Nat.le_of_ble_eq_true rfl, Nat.le_of_ble_eq_true rfl⟩) (UW_V hP hK (hD) (va_recv hK.1 hP (ci := 0) (q0 := 0) rfl rfl)) rfl rfl hl.1 rfl (lv_room (Nat.le_of_ble_eq_true rfl)) dX5_replace_143 ⟨Nat.le_of_ble_eq_true rfl, Nat.le_of_ble_eq_true rfl⟩) hD hS hA (fun H locs hP hD hS => ?_)
              have hP : va_P E.1 CL (MW E o (us (us (us sc 5 (k_cw (sc 6) (sc 5))) 7 0) 8 0) (ua (ua ar 1 (ar 1)) 2 (k_kw (sc 6) (ar 2) (ar 1) (sc 5)))) H := hP
              have hD : va_D A (MW E o (us (us (us sc 5 (k_cw (sc 6) (sc 5))) 7 0) 8 0) (ua (ua ar 1 (ar 1)) 2 (k_kw (sc 6) (ar 2) (ar 1) (sc 5)))) := hD
              obtain ⟨a_10, ea_10⟩ : ∃ zz : Int → Int, zz = k_kw (sc 6) (ar 2) (ar 1) (sc 5) := ⟨_, rfl⟩
              rw [← ea_10] at hP hD
              have hBa_10 := k_kw_b (w := (sc 6)) (c := (sc 5)) (hB 2) (hB 1)
              rw [← ea_10] at hBa_10
              refine lv_aload_n hx hb dX5_replace_146 rfl (lv_at hl 4 rfl) ?_
              refine lv_iload_n hx hb dX5_replace_147 rfl (lv_at hl 3 rfl) ?_
              refine lv_bipush (v := iI 6) hx hb dX5_replace_148 (by decide) ?_
              refine lv_iload_n hx hb dX5_replace_150 rfl (lv_at hl 6 rfl) ?_
              refine lv_bipush (v := iI 97) hx hb dX5_replace_151 (by decide) ?_
              refine n_isub hx hb dX5_replace_153 ?_
              refine lv_iconst (v := iI 1) hx hb dX5_replace_154 rfl ?_
              refine n_iadd hx hb dX5_replace_155 ?_
              refine n_cuv (va_runV (As := [iv (t - 97), iv 6, iv ((nd - 97) + 1)]) (rest := []) ⟨hx, hb, hml, hown, hts⟩ (mt_X5_lays l E o (us (us (us sc 5 (k_cw (sc 6) (sc 5))) 7 0) 8 0) (ua (ua ar 1 (ar 1)) 2 a_10) (t - 97) 6 ((nd - 97) + 1) (by omega) _) (cwV 3 hts (lw_V q2135 q2137 qs52 q113 q2138) rfl rfl rfl (by decide +kernel) ⟨Nat.le_of_ble_eq_true rfl, Nat.le_of_ble_eq_true rfl⟩) (UW_V hP hK (hD) (va_recv hK.1 hP (ci := 0) (q0 := 0) rfl rfl)) rfl rfl hl.1 rfl (lv_room (Nat.le_of_ble_eq_true rfl)) dX5_replace_156 ⟨Nat.le_of_ble_eq_true rfl, Nat.le_of_ble_eq_true rfl⟩) hD hS hA (fun H locs hP hD hS => ?_)
              have hP : va_P E.1 CL (MW E o (us (us (us sc 5 (k_cw (sc 6) (sc 5))) 7 0) 8 0) (ua (ua ar 1 (ui (ar 1) (5 + 7 * (t - 97) + 6) ((nd - 97) + 1))) 2 a_10)) H := hP
              have hD : va_D A (MW E o (us (us (us sc 5 (k_cw (sc 6) (sc 5))) 7 0) 8 0) (ua (ua ar 1 (ui (ar 1) (5 + 7 * (t - 97) + 6) ((nd - 97) + 1))) 2 a_10)) := hD
              obtain ⟨a_11, ea_11⟩ : ∃ zz : Int → Int, zz = ui (ar 1) (5 + 7 * (t - 97) + 6) ((nd - 97) + 1) := ⟨_, rfl⟩
              rw [← ea_11] at hP hD
              have hBa_11 := ui_b (i := (5 + 7 * (t - 97) + 6)) (v := ((nd - 97) + 1)) (hB 1) (by omega)
              rw [← ea_11] at hBa_11
              have hg3 : a_11 = m_set (ar 1) (t - 97) 6 (nd - 97 + 1) := ea_11
              refine lv_iconst (v := iI 0) hx hb dX5_replace_159 rfl ?_
              refine lv_istore (lv' := [(7, iv 0), (6, iv (m_circ (m_set (ar 1) (t - 97) 6 (nd - 97 + 1)))), (5, iv (m_of (ar 1) (t - 97) 6)), (4, iv x4), (3, iv (t - 97)), (0, .ref (o 0)), (1, iv t), (2, iv nd)]) hx hb dX5_replace_160 hl (by decide) rfl (fun ls hl => ?_)
              refine lv_iconst (v := iI 0) hx hb dX5_replace_162 rfl ?_
              refine lv_istore (lv' := [(8, iv 0), (7, iv 0), (6, iv (m_circ (m_set (ar 1) (t - 97) 6 (nd - 97 + 1)))), (5, iv (m_of (ar 1) (t - 97) 6)), (4, iv x4), (3, iv (t - 97)), (0, .ref (o 0)), (1, iv t), (2, iv nd)]) hx hb dX5_replace_163 hl (by decide) rfl (fun ls hl => ?_)
              have l165 : ∀ (fu : Nat) (x7 : Int) (x8 : Int), (0 ≤ x8 ∧ x8 ≤ 8) → (x7 = sumI (fun k => b2 (decide (0 < m_of a_11 k 6))) x8) → (8 - x8 < (fu : Int)) → ∀ ls : Array Slot, lv_has ls 9 [(8, iv x8), (7, iv x7), (6, iv (m_circ (m_set (ar 1) (t - 97) 6 (nd - 97 + 1)))), (5, iv (m_of (ar 1) (t - 97) 6)), (4, iv x4), (3, iv (t - 97)), (0, .ref (o 0)), (1, iv t), (2, iv nd)] → W p l e (headSpec (ws_ yX5_replace cX5_replace 9 (some .int)) { frames := 5, cells := 0, slots := 0, locals := 116 }).room s m ([.ref (o 0), iv t, iv nd] : List Value).toArray below meth c H locs 0 0 (MQ below (UQi E (rs_val 0 (A_repl (ar 1) t nd)) (MW E o (us (us (us (us (us (us sc 5 (rs_cw (sc 6) (sc 5) (A_repl (ar 1) t nd))) 7 (rs_ref (A_repl (ar 1) t nd))) 8 (rs_code 2 (A_repl (ar 1) t nd))) 9 (rs_why (sc 9) (A_repl (ar 1) t nd))) 10 (rs_det (sc 10) (A_repl (ar 1) t nd))) 11 (rs_cau (sc 11) (A_repl (ar 1) t nd))) (ua (ua ar 1 (rs_g (ar 1) (A_repl (ar 1) t nd))) 2 (rs_kw (sc 6) (ar 2) (ar 1) (sc 5) (A_repl (ar 1) t nd)))) A) ([.ref (o 0), iv t, iv nd] : List Value).toArray s 0 0 A) (F0 m 165 ls []) := by
                intro fu
                induction fu with
                | zero =>
                  intro x7 x8 il165_0 il165_1 hm
                  exfalso; omega
                | succ fu ih =>
                  intro x7 x8 il165_0 il165_1 hm ls hl
                  have ihl165 := ih
                  refine lv_iload hx hb dX5_replace_165 (lv_at hl 0 rfl) ?_
                  refine lv_bipush (v := iI 8) hx hb dX5_replace_167 (by decide) ?_
                  refine n_icmp_ge (tgt := 199) hx hb dX5_replace_169 (by decide) (by omega) (by omega) (fun c_12 => ?_) (fun c_12 => ?_)
                  · have hsm : x7 = m_swaps a_11 := by
                      obtain rfl : x8 = 8 := by omega
                      exact il165_1
                    refine lv_iload hx hb dX5_replace_199 (lv_at hl 1 rfl) ?_
                    have hA : A_repl (ar 1) t nd = .inr (.inr (x7, a_11)) := by
                      unfold A_repl
                      rw [if_neg hnz, if_neg (by omega), if_neg (by omega), ← hg3, hsm]
                    have hfin : x7 = rs_val 0 (A_repl (ar 1) t nd) := by
                      first | (rw [hA]; done) | (rw [hA]; rfl)
                    have w_13 : k_cw (sc 6) (sc 5) = rs_cw (sc 6) (sc 5) (A_repl (ar 1) t nd) := by
                      first | (rw [hA]; done) | (rw [hA]; rfl) | (rw [hA]; exact if_pos hden) | (rw [hA]; exact if_neg hden) | (rw [hA]; exact rfl) | (rw [hA]; exact rfl)
                    rw [show (us (us (us sc 5 (k_cw (sc 6) (sc 5))) 7 0) 8 0) = (us (us (us sc 5 (rs_cw (sc 6) (sc 5) (A_repl (ar 1) t nd))) 7 0) 8 0) from congrArg (fun z0 : Int => (us (us (us sc 5 z0) 7 0) 8 0)) w_13] at hP hD
                    have w_14 : 0 = rs_ref (A_repl (ar 1) t nd) := by
                      first | (rw [hA]; done) | (rw [hA]; rfl) | (rw [hA]; exact if_pos hden) | (rw [hA]; exact if_neg hden) | (rw [hA]; exact rfl) | (rw [hA]; exact rfl)
                    rw [show (us (us (us sc 5 (rs_cw (sc 6) (sc 5) (A_repl (ar 1) t nd))) 7 0) 8 0) = (us (us (us sc 5 (rs_cw (sc 6) (sc 5) (A_repl (ar 1) t nd))) 7 (rs_ref (A_repl (ar 1) t nd))) 8 0) from congrArg (fun z0 : Int => (us (us (us sc 5 (rs_cw (sc 6) (sc 5) (A_repl (ar 1) t nd))) 7 z0) 8 0)) w_14] at hP hD
                    have w_15 : 0 = rs_code 2 (A_repl (ar 1) t nd) := by
                      first | (rw [hA]; done) | (rw [hA]; rfl) | (rw [hA]; exact if_pos hden) | (rw [hA]; exact if_neg hden) | (rw [hA]; exact rfl) | (rw [hA]; exact rfl)
                    rw [show (us (us (us sc 5 (rs_cw (sc 6) (sc 5) (A_repl (ar 1) t nd))) 7 (rs_ref (A_repl (ar 1) t nd))) 8 0) = (us (us (us sc 5 (rs_cw (sc 6) (sc 5) (A_repl (ar 1) t nd))) 7 (rs_ref (A_repl (ar 1) t nd))) 8 (rs_code 2 (A_repl (ar 1) t nd))) from congrArg (fun z0 : Int => (us (us (us sc 5 (rs_cw (sc 6) (sc 5) (A_repl (ar 1) t nd))) 7 (rs_ref (A_repl (ar 1) t nd))) 8 z0)) w_15] at hP hD
                    have hP : va_P E.1 CL (MW E o (us (us (us (us sc 5 (rs_cw (sc 6) (sc 5) (A_repl (ar 1) t nd))) 7 (rs_ref (A_repl (ar 1) t nd))) 8 (rs_code 2 (A_repl (ar 1) t nd))) 9 (sc 9)) (ua (ua ar 1 a_11) 2 a_10)) H := hP
                    have hD : va_D A (MW E o (us (us (us (us sc 5 (rs_cw (sc 6) (sc 5) (A_repl (ar 1) t nd))) 7 (rs_ref (A_repl (ar 1) t nd))) 8 (rs_code 2 (A_repl (ar 1) t nd))) 9 (sc 9)) (ua (ua ar 1 a_11) 2 a_10)) := hD
                    have w_16 : sc 9 = rs_why (sc 9) (A_repl (ar 1) t nd) := by
                      first | (rw [hA]; done) | (rw [hA]; rfl) | (rw [hA]; exact if_pos hden) | (rw [hA]; exact if_neg hden) | (rw [hA]; exact rfl) | (rw [hA]; exact rfl)
                    rw [show (us (us (us (us sc 5 (rs_cw (sc 6) (sc 5) (A_repl (ar 1) t nd))) 7 (rs_ref (A_repl (ar 1) t nd))) 8 (rs_code 2 (A_repl (ar 1) t nd))) 9 (sc 9)) = (us (us (us (us sc 5 (rs_cw (sc 6) (sc 5) (A_repl (ar 1) t nd))) 7 (rs_ref (A_repl (ar 1) t nd))) 8 (rs_code 2 (A_repl (ar 1) t nd))) 9 (rs_why (sc 9) (A_repl (ar 1) t nd))) from congrArg (fun z0 : Int => (us (us (us (us sc 5 (rs_cw (sc 6) (sc 5) (A_repl (ar 1) t nd))) 7 (rs_ref (A_repl (ar 1) t nd))) 8 (rs_code 2 (A_repl (ar 1) t nd))) 9 z0)) w_16] at hP hD
                    have hP : va_P E.1 CL (MW E o (us (us (us (us (us sc 5 (rs_cw (sc 6) (sc 5) (A_repl (ar 1) t nd))) 7 (rs_ref (A_repl (ar 1) t nd))) 8 (rs_code 2 (A_repl (ar 1) t nd))) 9 (rs_why (sc 9) (A_repl (ar 1) t nd))) 10 (sc 10)) (ua (ua ar 1 a_11) 2 a_10)) H := hP
                    have hD : va_D A (MW E o (us (us (us (us (us sc 5 (rs_cw (sc 6) (sc 5) (A_repl (ar 1) t nd))) 7 (rs_ref (A_repl (ar 1) t nd))) 8 (rs_code 2 (A_repl (ar 1) t nd))) 9 (rs_why (sc 9) (A_repl (ar 1) t nd))) 10 (sc 10)) (ua (ua ar 1 a_11) 2 a_10)) := hD
                    have w_17 : sc 10 = rs_det (sc 10) (A_repl (ar 1) t nd) := by
                      first | (rw [hA]; done) | (rw [hA]; rfl) | (rw [hA]; exact if_pos hden) | (rw [hA]; exact if_neg hden) | (rw [hA]; exact rfl) | (rw [hA]; exact rfl)
                    rw [show (us (us (us (us (us sc 5 (rs_cw (sc 6) (sc 5) (A_repl (ar 1) t nd))) 7 (rs_ref (A_repl (ar 1) t nd))) 8 (rs_code 2 (A_repl (ar 1) t nd))) 9 (rs_why (sc 9) (A_repl (ar 1) t nd))) 10 (sc 10)) = (us (us (us (us (us sc 5 (rs_cw (sc 6) (sc 5) (A_repl (ar 1) t nd))) 7 (rs_ref (A_repl (ar 1) t nd))) 8 (rs_code 2 (A_repl (ar 1) t nd))) 9 (rs_why (sc 9) (A_repl (ar 1) t nd))) 10 (rs_det (sc 10) (A_repl (ar 1) t nd))) from congrArg (fun z0 : Int => (us (us (us (us (us sc 5 (rs_cw (sc 6) (sc 5) (A_repl (ar 1) t nd))) 7 (rs_ref (A_repl (ar 1) t nd))) 8 (rs_code 2 (A_repl (ar 1) t nd))) 9 (rs_why (sc 9) (A_repl (ar 1) t nd))) 10 z0)) w_17] at hP hD
                    have hP : va_P E.1 CL (MW E o (us (us (us (us (us (us sc 5 (rs_cw (sc 6) (sc 5) (A_repl (ar 1) t nd))) 7 (rs_ref (A_repl (ar 1) t nd))) 8 (rs_code 2 (A_repl (ar 1) t nd))) 9 (rs_why (sc 9) (A_repl (ar 1) t nd))) 10 (rs_det (sc 10) (A_repl (ar 1) t nd))) 11 (sc 11)) (ua (ua ar 1 a_11) 2 a_10)) H := hP
                    have hD : va_D A (MW E o (us (us (us (us (us (us sc 5 (rs_cw (sc 6) (sc 5) (A_repl (ar 1) t nd))) 7 (rs_ref (A_repl (ar 1) t nd))) 8 (rs_code 2 (A_repl (ar 1) t nd))) 9 (rs_why (sc 9) (A_repl (ar 1) t nd))) 10 (rs_det (sc 10) (A_repl (ar 1) t nd))) 11 (sc 11)) (ua (ua ar 1 a_11) 2 a_10)) := hD
                    have w_18 : sc 11 = rs_cau (sc 11) (A_repl (ar 1) t nd) := by
                      first | (rw [hA]; done) | (rw [hA]; rfl) | (rw [hA]; exact if_pos hden) | (rw [hA]; exact if_neg hden) | (rw [hA]; exact rfl) | (rw [hA]; exact rfl)
                    rw [show (us (us (us (us (us (us sc 5 (rs_cw (sc 6) (sc 5) (A_repl (ar 1) t nd))) 7 (rs_ref (A_repl (ar 1) t nd))) 8 (rs_code 2 (A_repl (ar 1) t nd))) 9 (rs_why (sc 9) (A_repl (ar 1) t nd))) 10 (rs_det (sc 10) (A_repl (ar 1) t nd))) 11 (sc 11)) = (us (us (us (us (us (us sc 5 (rs_cw (sc 6) (sc 5) (A_repl (ar 1) t nd))) 7 (rs_ref (A_repl (ar 1) t nd))) 8 (rs_code 2 (A_repl (ar 1) t nd))) 9 (rs_why (sc 9) (A_repl (ar 1) t nd))) 10 (rs_det (sc 10) (A_repl (ar 1) t nd))) 11 (rs_cau (sc 11) (A_repl (ar 1) t nd))) from congrArg (fun z0 : Int => (us (us (us (us (us (us sc 5 (rs_cw (sc 6) (sc 5) (A_repl (ar 1) t nd))) 7 (rs_ref (A_repl (ar 1) t nd))) 8 (rs_code 2 (A_repl (ar 1) t nd))) 9 (rs_why (sc 9) (A_repl (ar 1) t nd))) 10 (rs_det (sc 10) (A_repl (ar 1) t nd))) 11 z0)) w_18] at hP hD
                    have w_19 : a_11 = rs_g (ar 1) (A_repl (ar 1) t nd) := by
                      first | (rw [hA]; done) | (rw [hA]; rfl) | (rw [hA]; exact if_pos hden) | (rw [hA]; exact if_neg hden) | (rw [hA]; exact rfl) | (rw [hA]; exact rfl)
                    rw [show (ua (ua ar 1 a_11) 2 a_10) = (ua (ua ar 1 (rs_g (ar 1) (A_repl (ar 1) t nd))) 2 a_10) from congrArg (fun z0 : Int → Int => (ua (ua ar 1 z0) 2 a_10)) w_19] at hP hD
                    have w_20 : a_10 = rs_kw (sc 6) (ar 2) (ar 1) (sc 5) (A_repl (ar 1) t nd) := by
                      rw [hA]
                      first | rfl | exact ea_10
                    rw [show (ua (ua ar 1 (rs_g (ar 1) (A_repl (ar 1) t nd))) 2 a_10) = (ua (ua ar 1 (rs_g (ar 1) (A_repl (ar 1) t nd))) 2 (rs_kw (sc 6) (ar 2) (ar 1) (sc 5) (A_repl (ar 1) t nd))) from congrArg (fun z0 : Int → Int => (ua (ua ar 1 (rs_g (ar 1) (A_repl (ar 1) t nd))) 2 z0)) w_20] at hP hD
                    exact W.iret (v := iI x7) hx hb hr (fun tt_ ht_ hW_ => ⟨⟨iI x7, (), rfl, (congrArg iI hfin), by rw [ht_]; exact hP, hD⟩, hS.F ht_⟩) hS.2.2 dX5_replace_201
                  · refine lv_iload hx hb dX5_replace_172 (lv_at hl 1 rfl) ?_
                    refine lv_aload_n hx hb dX5_replace_174 rfl (lv_at hl 6 rfl) ?_
                    refine lv_iload hx hb dX5_replace_175 (lv_at hl 0 rfl) ?_
                    refine lv_bipush (v := iI 6) hx hb dX5_replace_177 (by decide) ?_
                    refine n_csi (x := m_of a_11 x8 6) (va_runV (As := [iv x8, iv 6]) (rest := [iv x7]) ⟨hx, hb, hml, hown, hts⟩ (mt_X5_of l E o (us (us (us sc 5 (k_cw (sc 6) (sc 5))) 7 0) 8 0) (ua (ua ar 1 a_11) 2 a_10) x8 6 (by omega)) (cwV 2 hts (lw_V q2120 q2122 qs49 q113 q2123) rfl rfl rfl (by decide +kernel) ⟨Nat.le_of_ble_eq_true rfl, Nat.le_of_ble_eq_true rfl⟩) (PW_V hP hK (va_recv hK.1 hP (ci := 0) (q0 := 0) rfl rfl)) rfl rfl hl.1 rfl (lv_room (Nat.le_of_ble_eq_true rfl)) dX5_replace_179 ⟨Nat.le_of_ble_eq_true rfl, Nat.le_of_ble_eq_true rfl⟩) ?_
                    have b_21 := (show 0 ≤ m_of a_11 x8 6 ∧ m_of a_11 x8 6 < 2147483648 from hBa_11 _)
                    refine n_if_le (tgt := 189) hx hb dX5_replace_182 (by decide) (by omega) (fun c_22 => ?_) (fun c_22 => ?_)
                    · refine lv_iconst (v := iI 0) hx hb dX5_replace_189 rfl ?_
                      refine n_iadd hx hb dX5_replace_190 ?_
                      refine lv_istore (lv' := [(7, iv (x7 + 0)), (8, iv x8), (6, iv (m_circ (m_set (ar 1) (t - 97) 6 (nd - 97 + 1)))), (5, iv (m_of (ar 1) (t - 97) 6)), (4, iv x4), (3, iv (t - 97)), (0, .ref (o 0)), (1, iv t), (2, iv nd)]) hx hb dX5_replace_191 hl (by decide) rfl (fun ls hl => ?_)
                      refine lv_iinc (v := iI (x8 + 1)) (lv' := [(8, iv (x8 + 1)), (7, iv (x7 + 0)), (6, iv (m_circ (m_set (ar 1) (t - 97) 6 (nd - 97 + 1)))), (5, iv (m_of (ar 1) (t - 97) 6)), (4, iv x4), (3, iv (t - 97)), (0, .ref (o 0)), (1, iv t), (2, iv nd)]) hx hb dX5_replace_193 hl (k := 1) rfl (iI_add _ _) (by decide) rfl (fun ls hl => ?_)
                      refine lv_goto (tgt := 165) hx hb dX5_replace_196 (by decide) ?_
                      exact ihl165 (x7 + 0) (x8 + 1) (by first | omega | rfl) (by rw [sumI_s (by omega), ← il165_1]; first | rw [b2_pos (by omega)] | (rw [b2_neg (by omega)])) (by omega) ls (lv_sub hl [0, 1, 2, 3, 4, 5, 6, 7, 8] rfl)
                    · refine lv_iconst (v := iI 1) hx hb dX5_replace_185 rfl ?_
                      refine lv_goto (tgt := 190) hx hb dX5_replace_186 (by decide) ?_
                      refine n_iadd hx hb dX5_replace_190 ?_
                      refine lv_istore (lv' := [(7, iv (x7 + 1)), (8, iv x8), (6, iv (m_circ (m_set (ar 1) (t - 97) 6 (nd - 97 + 1)))), (5, iv (m_of (ar 1) (t - 97) 6)), (4, iv x4), (3, iv (t - 97)), (0, .ref (o 0)), (1, iv t), (2, iv nd)]) hx hb dX5_replace_191 hl (by decide) rfl (fun ls hl => ?_)
                      refine lv_iinc (v := iI (x8 + 1)) (lv' := [(8, iv (x8 + 1)), (7, iv (x7 + 1)), (6, iv (m_circ (m_set (ar 1) (t - 97) 6 (nd - 97 + 1)))), (5, iv (m_of (ar 1) (t - 97) 6)), (4, iv x4), (3, iv (t - 97)), (0, .ref (o 0)), (1, iv t), (2, iv nd)]) hx hb dX5_replace_193 hl (k := 1) rfl (iI_add _ _) (by decide) rfl (fun ls hl => ?_)
                      refine lv_goto (tgt := 165) hx hb dX5_replace_196 (by decide) ?_
                      exact ihl165 (x7 + 1) (x8 + 1) (by first | omega | rfl) (by rw [sumI_s (by omega), ← il165_1]; first | rw [b2_pos (by omega)] | (rw [b2_neg (by omega)])) (by omega) ls (lv_sub hl [0, 1, 2, 3, 4, 5, 6, 7, 8] rfl)
              exact l165 9 0 0 (by first | omega | rfl | trivial) (by rfl) (by omega) ls hl
            · refine lv_aload_n hx hb dX5_replace_129 rfl (lv_at hl 4 rfl) ?_
              refine lv_iconst (v := iI 2) hx hb dX5_replace_130 rfl ?_
              refine lv_iconst (v := iI 3) hx hb dX5_replace_131 rfl ?_
              refine lv_iload hx hb dX5_replace_132 (lv_at hl 0 rfl) ?_
              refine n_cui (x := 0) (va_runV (As := [iv 2, iv 3, iv (m_circ (m_set (ar 1) (t - 97) 6 (nd - 97 + 1)))]) (rest := []) ⟨hx, hb, hml, hown, hts⟩ (mt_X5_refuses l E o (us (us sc 7 0) 8 (c_repl t nd)) (ua ar 1 (ar 1)) 2 3 (m_circ (m_set (ar 1) (t - 97) 6 (nd - 97 + 1))) _) (cwV 3 hts (lw_V q2171 q2173 qs59 q113 q2174) rfl rfl rfl (by decide +kernel) ⟨Nat.le_of_ble_eq_true rfl, Nat.le_of_ble_eq_true rfl⟩) (UW_V hP hK (hD) (va_recv hK.1 hP (ci := 0) (q0 := 0) rfl rfl)) rfl rfl hl.1 rfl (lv_room (Nat.le_of_ble_eq_true rfl)) dX5_replace_134 ⟨Nat.le_of_ble_eq_true rfl, Nat.le_of_ble_eq_true rfl⟩) hD hS hA (fun H locs hP hD hS => ?_)
              have hP : va_P E.1 CL (MW E o (us (us (us (us (us sc 7 1) 8 2) 9 3) 10 (m_circ (m_set (ar 1) (t - 97) 6 (nd - 97 + 1)))) 11 0) (ua ar 1 (ar 1))) H := hP
              have hD : va_D A (MW E o (us (us (us (us (us sc 7 1) 8 2) 9 3) 10 (m_circ (m_set (ar 1) (t - 97) 6 (nd - 97 + 1)))) 11 0) (ua ar 1 (ar 1))) := hD
              have hA : A_repl (ar 1) t nd = .inr (.inl (3, (m_circ (m_set (ar 1) (t - 97) 6 (nd - 97 + 1))))) := by
                unfold A_repl
                rw [if_neg hnz, if_neg (by omega), if_pos (by assumption)]
              have hfin : 0 = rs_val 0 (A_repl (ar 1) t nd) := by
                first | (rw [hA]; done) | (rw [hA]; rfl)
              have hP : va_P E.1 CL (MW E o (us (us (us (us (us (us sc 5 (sc 5)) 7 1) 8 2) 9 3) 10 (m_circ (m_set (ar 1) (t - 97) 6 (nd - 97 + 1)))) 11 0) (ua ar 1 (ar 1))) H := hP
              have hD : va_D A (MW E o (us (us (us (us (us (us sc 5 (sc 5)) 7 1) 8 2) 9 3) 10 (m_circ (m_set (ar 1) (t - 97) 6 (nd - 97 + 1)))) 11 0) (ua ar 1 (ar 1))) := hD
              have w_23 : sc 5 = rs_cw (sc 6) (sc 5) (A_repl (ar 1) t nd) := by
                first | (rw [hA]; done) | (rw [hA]; rfl) | (rw [hA]; exact if_pos hden) | (rw [hA]; exact if_neg hden) | (rw [hA]; exact rfl) | (rw [hA]; exact rfl)
              rw [show (us (us (us (us (us (us sc 5 (sc 5)) 7 1) 8 2) 9 3) 10 (m_circ (m_set (ar 1) (t - 97) 6 (nd - 97 + 1)))) 11 0) = (us (us (us (us (us (us sc 5 (rs_cw (sc 6) (sc 5) (A_repl (ar 1) t nd))) 7 1) 8 2) 9 3) 10 (m_circ (m_set (ar 1) (t - 97) 6 (nd - 97 + 1)))) 11 0) from congrArg (fun z0 : Int => (us (us (us (us (us (us sc 5 z0) 7 1) 8 2) 9 3) 10 (m_circ (m_set (ar 1) (t - 97) 6 (nd - 97 + 1)))) 11 0)) w_23] at hP hD
              have w_24 : 1 = rs_ref (A_repl (ar 1) t nd) := by
                first | (rw [hA]; done) | (rw [hA]; rfl) | (rw [hA]; exact if_pos hden) | (rw [hA]; exact if_neg hden) | (rw [hA]; exact rfl) | (rw [hA]; exact rfl)
              rw [show (us (us (us (us (us (us sc 5 (rs_cw (sc 6) (sc 5) (A_repl (ar 1) t nd))) 7 1) 8 2) 9 3) 10 (m_circ (m_set (ar 1) (t - 97) 6 (nd - 97 + 1)))) 11 0) = (us (us (us (us (us (us sc 5 (rs_cw (sc 6) (sc 5) (A_repl (ar 1) t nd))) 7 (rs_ref (A_repl (ar 1) t nd))) 8 2) 9 3) 10 (m_circ (m_set (ar 1) (t - 97) 6 (nd - 97 + 1)))) 11 0) from congrArg (fun z0 : Int => (us (us (us (us (us (us sc 5 (rs_cw (sc 6) (sc 5) (A_repl (ar 1) t nd))) 7 z0) 8 2) 9 3) 10 (m_circ (m_set (ar 1) (t - 97) 6 (nd - 97 + 1)))) 11 0)) w_24] at hP hD
              have w_25 : 2 = rs_code 2 (A_repl (ar 1) t nd) := by
                first | (rw [hA]; done) | (rw [hA]; rfl) | (rw [hA]; exact if_pos hden) | (rw [hA]; exact if_neg hden) | (rw [hA]; exact rfl) | (rw [hA]; exact rfl)
              rw [show (us (us (us (us (us (us sc 5 (rs_cw (sc 6) (sc 5) (A_repl (ar 1) t nd))) 7 (rs_ref (A_repl (ar 1) t nd))) 8 2) 9 3) 10 (m_circ (m_set (ar 1) (t - 97) 6 (nd - 97 + 1)))) 11 0) = (us (us (us (us (us (us sc 5 (rs_cw (sc 6) (sc 5) (A_repl (ar 1) t nd))) 7 (rs_ref (A_repl (ar 1) t nd))) 8 (rs_code 2 (A_repl (ar 1) t nd))) 9 3) 10 (m_circ (m_set (ar 1) (t - 97) 6 (nd - 97 + 1)))) 11 0) from congrArg (fun z0 : Int => (us (us (us (us (us (us sc 5 (rs_cw (sc 6) (sc 5) (A_repl (ar 1) t nd))) 7 (rs_ref (A_repl (ar 1) t nd))) 8 z0) 9 3) 10 (m_circ (m_set (ar 1) (t - 97) 6 (nd - 97 + 1)))) 11 0)) w_25] at hP hD
              have w_26 : 3 = rs_why (sc 9) (A_repl (ar 1) t nd) := by
                first | (rw [hA]; done) | (rw [hA]; rfl) | (rw [hA]; exact if_pos hden) | (rw [hA]; exact if_neg hden) | (rw [hA]; exact rfl) | (rw [hA]; exact rfl)
              rw [show (us (us (us (us (us (us sc 5 (rs_cw (sc 6) (sc 5) (A_repl (ar 1) t nd))) 7 (rs_ref (A_repl (ar 1) t nd))) 8 (rs_code 2 (A_repl (ar 1) t nd))) 9 3) 10 (m_circ (m_set (ar 1) (t - 97) 6 (nd - 97 + 1)))) 11 0) = (us (us (us (us (us (us sc 5 (rs_cw (sc 6) (sc 5) (A_repl (ar 1) t nd))) 7 (rs_ref (A_repl (ar 1) t nd))) 8 (rs_code 2 (A_repl (ar 1) t nd))) 9 (rs_why (sc 9) (A_repl (ar 1) t nd))) 10 (m_circ (m_set (ar 1) (t - 97) 6 (nd - 97 + 1)))) 11 0) from congrArg (fun z0 : Int => (us (us (us (us (us (us sc 5 (rs_cw (sc 6) (sc 5) (A_repl (ar 1) t nd))) 7 (rs_ref (A_repl (ar 1) t nd))) 8 (rs_code 2 (A_repl (ar 1) t nd))) 9 z0) 10 (m_circ (m_set (ar 1) (t - 97) 6 (nd - 97 + 1)))) 11 0)) w_26] at hP hD
              have w_27 : (m_circ (m_set (ar 1) (t - 97) 6 (nd - 97 + 1))) = rs_det (sc 10) (A_repl (ar 1) t nd) := by
                first | (rw [hA]; done) | (rw [hA]; rfl) | (rw [hA]; exact if_pos hden) | (rw [hA]; exact if_neg hden) | (rw [hA]; exact rfl) | (rw [hA]; exact rfl)
              rw [show (us (us (us (us (us (us sc 5 (rs_cw (sc 6) (sc 5) (A_repl (ar 1) t nd))) 7 (rs_ref (A_repl (ar 1) t nd))) 8 (rs_code 2 (A_repl (ar 1) t nd))) 9 (rs_why (sc 9) (A_repl (ar 1) t nd))) 10 (m_circ (m_set (ar 1) (t - 97) 6 (nd - 97 + 1)))) 11 0) = (us (us (us (us (us (us sc 5 (rs_cw (sc 6) (sc 5) (A_repl (ar 1) t nd))) 7 (rs_ref (A_repl (ar 1) t nd))) 8 (rs_code 2 (A_repl (ar 1) t nd))) 9 (rs_why (sc 9) (A_repl (ar 1) t nd))) 10 (rs_det (sc 10) (A_repl (ar 1) t nd))) 11 0) from congrArg (fun z0 : Int => (us (us (us (us (us (us sc 5 (rs_cw (sc 6) (sc 5) (A_repl (ar 1) t nd))) 7 (rs_ref (A_repl (ar 1) t nd))) 8 (rs_code 2 (A_repl (ar 1) t nd))) 9 (rs_why (sc 9) (A_repl (ar 1) t nd))) 10 z0) 11 0)) w_27] at hP hD
              have w_28 : 0 = rs_cau (sc 11) (A_repl (ar 1) t nd) := by
                first | (rw [hA]; done) | (rw [hA]; rfl) | (rw [hA]; exact if_pos hden) | (rw [hA]; exact if_neg hden) | (rw [hA]; exact rfl) | (rw [hA]; exact rfl)
              rw [show (us (us (us (us (us (us sc 5 (rs_cw (sc 6) (sc 5) (A_repl (ar 1) t nd))) 7 (rs_ref (A_repl (ar 1) t nd))) 8 (rs_code 2 (A_repl (ar 1) t nd))) 9 (rs_why (sc 9) (A_repl (ar 1) t nd))) 10 (rs_det (sc 10) (A_repl (ar 1) t nd))) 11 0) = (us (us (us (us (us (us sc 5 (rs_cw (sc 6) (sc 5) (A_repl (ar 1) t nd))) 7 (rs_ref (A_repl (ar 1) t nd))) 8 (rs_code 2 (A_repl (ar 1) t nd))) 9 (rs_why (sc 9) (A_repl (ar 1) t nd))) 10 (rs_det (sc 10) (A_repl (ar 1) t nd))) 11 (rs_cau (sc 11) (A_repl (ar 1) t nd))) from congrArg (fun z0 : Int => (us (us (us (us (us (us sc 5 (rs_cw (sc 6) (sc 5) (A_repl (ar 1) t nd))) 7 (rs_ref (A_repl (ar 1) t nd))) 8 (rs_code 2 (A_repl (ar 1) t nd))) 9 (rs_why (sc 9) (A_repl (ar 1) t nd))) 10 (rs_det (sc 10) (A_repl (ar 1) t nd))) 11 z0)) w_28] at hP hD
              have w_29 : ar 1 = rs_g (ar 1) (A_repl (ar 1) t nd) := by
                first | (rw [hA]; done) | (rw [hA]; rfl) | (rw [hA]; exact if_pos hden) | (rw [hA]; exact if_neg hden) | (rw [hA]; exact rfl) | (rw [hA]; exact rfl)
              rw [show (ua ar 1 (ar 1)) = (ua ar 1 (rs_g (ar 1) (A_repl (ar 1) t nd))) from congrArg (fun z0 : Int → Int => (ua ar 1 z0)) w_29] at hP hD
              have hP : va_P E.1 CL (MW E o (us (us (us (us (us (us sc 5 (rs_cw (sc 6) (sc 5) (A_repl (ar 1) t nd))) 7 (rs_ref (A_repl (ar 1) t nd))) 8 (rs_code 2 (A_repl (ar 1) t nd))) 9 (rs_why (sc 9) (A_repl (ar 1) t nd))) 10 (rs_det (sc 10) (A_repl (ar 1) t nd))) 11 (rs_cau (sc 11) (A_repl (ar 1) t nd))) (ua (ua ar 1 (rs_g (ar 1) (A_repl (ar 1) t nd))) 2 (ar 2))) H := hP
              have hD : va_D A (MW E o (us (us (us (us (us (us sc 5 (rs_cw (sc 6) (sc 5) (A_repl (ar 1) t nd))) 7 (rs_ref (A_repl (ar 1) t nd))) 8 (rs_code 2 (A_repl (ar 1) t nd))) 9 (rs_why (sc 9) (A_repl (ar 1) t nd))) 10 (rs_det (sc 10) (A_repl (ar 1) t nd))) 11 (rs_cau (sc 11) (A_repl (ar 1) t nd))) (ua (ua ar 1 (rs_g (ar 1) (A_repl (ar 1) t nd))) 2 (ar 2))) := hD
              have w_30 : ar 2 = rs_kw (sc 6) (ar 2) (ar 1) (sc 5) (A_repl (ar 1) t nd) := by
                rw [hA]
                first | rfl | exact ear 2
              rw [show (ua (ua ar 1 (rs_g (ar 1) (A_repl (ar 1) t nd))) 2 (ar 2)) = (ua (ua ar 1 (rs_g (ar 1) (A_repl (ar 1) t nd))) 2 (rs_kw (sc 6) (ar 2) (ar 1) (sc 5) (A_repl (ar 1) t nd))) from congrArg (fun z0 : Int → Int => (ua (ua ar 1 (rs_g (ar 1) (A_repl (ar 1) t nd))) 2 z0)) w_30] at hP hD
              exact W.iret (v := iI 0) hx hb hr (fun tt_ ht_ hW_ => ⟨⟨iI 0, (), rfl, (congrArg iI hfin), by rw [ht_]; exact hP, hD⟩, hS.F ht_⟩) hS.2.2 dX5_replace_137
          · refine lv_iinc (v := iI (x4 + 1)) (lv' := [(4, iv (x4 + 1)), (5, iv x5), (3, iv (t - 97)), (0, .ref (o 0)), (1, iv t), (2, iv nd)]) hx hb dX5_replace_52 hl (k := 1) rfl (iI_add _ _) (by decide) rfl (fun ls hl => ?_)
            refine lv_iload hx hb dX5_replace_55 (lv_at hl 1 rfl) ?_
            refine lv_iload_n hx hb dX5_replace_57 rfl (lv_at hl 2 rfl) ?_
            refine n_icmp_ne (tgt := 72) hx hb dX5_replace_58 (by decide) (by omega) (by omega) (fun c_31 => ?_) (fun c_31 => ?_)
            · refine lv_aload_n hx hb dX5_replace_72 rfl (lv_at hl 3 rfl) ?_
              refine lv_iload hx hb dX5_replace_73 (lv_at hl 1 rfl) ?_
              refine lv_bipush (v := iI 6) hx hb dX5_replace_75 (by decide) ?_
              refine n_csi (x := m_of (ar 1) x5 6) (va_runV (As := [iv x5, iv 6]) (rest := []) ⟨hx, hb, hml, hown, hts⟩ (mt_X5_of l E o (us (us sc 7 0) 8 (c_repl t nd)) ar x5 6 (by omega)) (cwV 2 hts (lw_V q2120 q2122 qs49 q113 q2123) rfl rfl rfl (by decide +kernel) ⟨Nat.le_of_ble_eq_true rfl, Nat.le_of_ble_eq_true rfl⟩) (PW_V hP hK (va_recv hK.1 hP (ci := 0) (q0 := 0) rfl rfl)) rfl rfl hl.1 rfl (lv_room (Nat.le_of_ble_eq_true rfl)) dX5_replace_77 ⟨Nat.le_of_ble_eq_true rfl, Nat.le_of_ble_eq_true rfl⟩) ?_
              refine lv_iconst (v := iI 1) hx hb dX5_replace_80 rfl ?_
              refine n_isub hx hb dX5_replace_81 ?_
              refine lv_istore (lv' := [(5, iv ((m_of (ar 1) x5 6) - 1)), (4, iv (x4 + 1)), (3, iv (t - 97)), (0, .ref (o 0)), (1, iv t), (2, iv nd)]) hx hb dX5_replace_82 hl (by decide) rfl (fun ls hl => ?_)
              refine lv_goto (tgt := 47) hx hb dX5_replace_84 (by decide) ?_
              have hsx := hsw x5 (by omega) (by omega)
              obtain ⟨w, hw1, hw2, hw3⟩ : ∃ w : Nat, (m_of (ar 1) x5 6 - 1 < 0 ∨ m_of (ar 1) (m_stN (ar 1) w (m_of (ar 1) x5 6 - 1)) 6 = 0) ∧ chR (ar 1) z x5 (t - 97) = (if chR (ar 1) w (m_of (ar 1) x5 6 - 1) (t - 97) = 0 then 0 else chR (ar 1) w (m_of (ar 1) x5 6 - 1) (t - 97) + 1) ∧ (if m_of (ar 1) x5 6 - 1 < 0 then (0 : Int) else (w : Int) + 1) < (z : Int) + 1 := by
                by_cases hs0 : 0 < m_of (ar 1) x5 6
                · rcases il47_2 with hq | hq
                  · omega
                  · obtain ⟨w, rfl, hw⟩ := m_stN_step hs0 hq
                    exact ⟨w, Or.inr (by rw [← hw]; exact hq), chR_step (by omega) (by assumption) hs0, by rw [if_neg (by omega)]; omega⟩
                · refine ⟨0, Or.inl (by omega), ?_, by rw [if_pos (by omega)]; omega⟩
                  rw [chR_end (by omega) (by assumption) (by omega), show chR (ar 1) 0 (m_of (ar 1) x5 6 - 1) (t - 97) = 0 from if_pos (by omega)]
                  rfl
              have hcr := chR_r (ar 1) w (m_of (ar 1) x5 6 - 1) (t - 97)
              exact ihl47 (x4 + 1) ((m_of (ar 1) x5 6) - 1) w (by first | omega | rfl) (by rw [il47_1, hw2]; (repeat' split) <;> omega) (by exact hw1) (by rw [if_neg (by omega)] at hm; omega) ls (lv_sub hl [0, 1, 2, 3, 4, 5] rfl)
            · have hde : m_chain (ar 1) (nd - 97) (t - 97) = x4 := by
                rw [il47_1, show x5 = (t - 97) by assumption, chR_hit (by omega), if_neg (by omega)]
                omega
              refine lv_aload_n hx hb dX5_replace_61 rfl (lv_at hl 3 rfl) ?_
              refine lv_iconst (v := iI 2) hx hb dX5_replace_62 rfl ?_
              refine lv_iconst (v := iI 4) hx hb dX5_replace_63 rfl ?_
              refine lv_iload hx hb dX5_replace_64 (lv_at hl 0 rfl) ?_
              refine lv_iconst (v := iI 1) hx hb dX5_replace_66 rfl ?_
              refine n_isub hx hb dX5_replace_67 ?_
              refine n_cui (x := 0) (va_runV (As := [iv 2, iv 4, iv ((x4 + 1) - 1)]) (rest := []) ⟨hx, hb, hml, hown, hts⟩ (mt_X5_refuses l E o (us (us sc 7 0) 8 (c_repl t nd)) ar 2 4 ((x4 + 1) - 1) _) (cwV 3 hts (lw_V q2171 q2173 qs59 q113 q2174) rfl rfl rfl (by decide +kernel) ⟨Nat.le_of_ble_eq_true rfl, Nat.le_of_ble_eq_true rfl⟩) (UW_V hP hK (hD) (va_recv hK.1 hP (ci := 0) (q0 := 0) rfl rfl)) rfl rfl hl.1 rfl (lv_room (Nat.le_of_ble_eq_true rfl)) dX5_replace_68 ⟨Nat.le_of_ble_eq_true rfl, Nat.le_of_ble_eq_true rfl⟩) hD hS hA (fun H locs hP hD hS => ?_)
              have hP : va_P E.1 CL (MW E o (us (us (us (us (us sc 7 1) 8 2) 9 4) 10 ((x4 + 1) - 1)) 11 0) ar) H := hP
              have hD : va_D A (MW E o (us (us (us (us (us sc 7 1) 8 2) 9 4) 10 ((x4 + 1) - 1)) 11 0) ar) := hD
              have hA : A_repl (ar 1) t nd = .inr (.inl (4, ((x4 + 1) - 1))) := by
                unfold A_repl
                rw [if_neg hnz, if_pos (by omega), hde, show (x4 + 1) - 1 = x4 by omega]
              have hfin : 0 = rs_val 0 (A_repl (ar 1) t nd) := by
                first | (rw [hA]; done) | (rw [hA]; rfl)
              have hP : va_P E.1 CL (MW E o (us (us (us (us (us (us sc 5 (sc 5)) 7 1) 8 2) 9 4) 10 ((x4 + 1) - 1)) 11 0) ar) H := hP
              have hD : va_D A (MW E o (us (us (us (us (us (us sc 5 (sc 5)) 7 1) 8 2) 9 4) 10 ((x4 + 1) - 1)) 11 0) ar) := hD
              have w_32 : sc 5 = rs_cw (sc 6) (sc 5) (A_repl (ar 1) t nd) := by
                first | (rw [hA]; done) | (rw [hA]; rfl) | (rw [hA]; exact if_pos hden) | (rw [hA]; exact if_neg hden) | (rw [hA]; exact rfl) | (rw [hA]; exact rfl)
              rw [show (us (us (us (us (us (us sc 5 (sc 5)) 7 1) 8 2) 9 4) 10 ((x4 + 1) - 1)) 11 0) = (us (us (us (us (us (us sc 5 (rs_cw (sc 6) (sc 5) (A_repl (ar 1) t nd))) 7 1) 8 2) 9 4) 10 ((x4 + 1) - 1)) 11 0) from congrArg (fun z0 : Int => (us (us (us (us (us (us sc 5 z0) 7 1) 8 2) 9 4) 10 ((x4 + 1) - 1)) 11 0)) w_32] at hP hD
              have w_33 : 1 = rs_ref (A_repl (ar 1) t nd) := by
                first | (rw [hA]; done) | (rw [hA]; rfl) | (rw [hA]; exact if_pos hden) | (rw [hA]; exact if_neg hden) | (rw [hA]; exact rfl) | (rw [hA]; exact rfl)
              rw [show (us (us (us (us (us (us sc 5 (rs_cw (sc 6) (sc 5) (A_repl (ar 1) t nd))) 7 1) 8 2) 9 4) 10 ((x4 + 1) - 1)) 11 0) = (us (us (us (us (us (us sc 5 (rs_cw (sc 6) (sc 5) (A_repl (ar 1) t nd))) 7 (rs_ref (A_repl (ar 1) t nd))) 8 2) 9 4) 10 ((x4 + 1) - 1)) 11 0) from congrArg (fun z0 : Int => (us (us (us (us (us (us sc 5 (rs_cw (sc 6) (sc 5) (A_repl (ar 1) t nd))) 7 z0) 8 2) 9 4) 10 ((x4 + 1) - 1)) 11 0)) w_33] at hP hD
              have w_34 : 2 = rs_code 2 (A_repl (ar 1) t nd) := by
                first | (rw [hA]; done) | (rw [hA]; rfl) | (rw [hA]; exact if_pos hden) | (rw [hA]; exact if_neg hden) | (rw [hA]; exact rfl) | (rw [hA]; exact rfl)
              rw [show (us (us (us (us (us (us sc 5 (rs_cw (sc 6) (sc 5) (A_repl (ar 1) t nd))) 7 (rs_ref (A_repl (ar 1) t nd))) 8 2) 9 4) 10 ((x4 + 1) - 1)) 11 0) = (us (us (us (us (us (us sc 5 (rs_cw (sc 6) (sc 5) (A_repl (ar 1) t nd))) 7 (rs_ref (A_repl (ar 1) t nd))) 8 (rs_code 2 (A_repl (ar 1) t nd))) 9 4) 10 ((x4 + 1) - 1)) 11 0) from congrArg (fun z0 : Int => (us (us (us (us (us (us sc 5 (rs_cw (sc 6) (sc 5) (A_repl (ar 1) t nd))) 7 (rs_ref (A_repl (ar 1) t nd))) 8 z0) 9 4) 10 ((x4 + 1) - 1)) 11 0)) w_34] at hP hD
              have w_35 : 4 = rs_why (sc 9) (A_repl (ar 1) t nd) := by
                first | (rw [hA]; done) | (rw [hA]; rfl) | (rw [hA]; exact if_pos hden) | (rw [hA]; exact if_neg hden) | (rw [hA]; exact rfl) | (rw [hA]; exact rfl)
              rw [show (us (us (us (us (us (us sc 5 (rs_cw (sc 6) (sc 5) (A_repl (ar 1) t nd))) 7 (rs_ref (A_repl (ar 1) t nd))) 8 (rs_code 2 (A_repl (ar 1) t nd))) 9 4) 10 ((x4 + 1) - 1)) 11 0) = (us (us (us (us (us (us sc 5 (rs_cw (sc 6) (sc 5) (A_repl (ar 1) t nd))) 7 (rs_ref (A_repl (ar 1) t nd))) 8 (rs_code 2 (A_repl (ar 1) t nd))) 9 (rs_why (sc 9) (A_repl (ar 1) t nd))) 10 ((x4 + 1) - 1)) 11 0) from congrArg (fun z0 : Int => (us (us (us (us (us (us sc 5 (rs_cw (sc 6) (sc 5) (A_repl (ar 1) t nd))) 7 (rs_ref (A_repl (ar 1) t nd))) 8 (rs_code 2 (A_repl (ar 1) t nd))) 9 z0) 10 ((x4 + 1) - 1)) 11 0)) w_35] at hP hD
              have w_36 : ((x4 + 1) - 1) = rs_det (sc 10) (A_repl (ar 1) t nd) := by
                first | (rw [hA]; done) | (rw [hA]; rfl) | (rw [hA]; exact if_pos hden) | (rw [hA]; exact if_neg hden) | (rw [hA]; exact rfl) | (rw [hA]; exact rfl)
              rw [show (us (us (us (us (us (us sc 5 (rs_cw (sc 6) (sc 5) (A_repl (ar 1) t nd))) 7 (rs_ref (A_repl (ar 1) t nd))) 8 (rs_code 2 (A_repl (ar 1) t nd))) 9 (rs_why (sc 9) (A_repl (ar 1) t nd))) 10 ((x4 + 1) - 1)) 11 0) = (us (us (us (us (us (us sc 5 (rs_cw (sc 6) (sc 5) (A_repl (ar 1) t nd))) 7 (rs_ref (A_repl (ar 1) t nd))) 8 (rs_code 2 (A_repl (ar 1) t nd))) 9 (rs_why (sc 9) (A_repl (ar 1) t nd))) 10 (rs_det (sc 10) (A_repl (ar 1) t nd))) 11 0) from congrArg (fun z0 : Int => (us (us (us (us (us (us sc 5 (rs_cw (sc 6) (sc 5) (A_repl (ar 1) t nd))) 7 (rs_ref (A_repl (ar 1) t nd))) 8 (rs_code 2 (A_repl (ar 1) t nd))) 9 (rs_why (sc 9) (A_repl (ar 1) t nd))) 10 z0) 11 0)) w_36] at hP hD
              have w_37 : 0 = rs_cau (sc 11) (A_repl (ar 1) t nd) := by
                first | (rw [hA]; done) | (rw [hA]; rfl) | (rw [hA]; exact if_pos hden) | (rw [hA]; exact if_neg hden) | (rw [hA]; exact rfl) | (rw [hA]; exact rfl)
              rw [show (us (us (us (us (us (us sc 5 (rs_cw (sc 6) (sc 5) (A_repl (ar 1) t nd))) 7 (rs_ref (A_repl (ar 1) t nd))) 8 (rs_code 2 (A_repl (ar 1) t nd))) 9 (rs_why (sc 9) (A_repl (ar 1) t nd))) 10 (rs_det (sc 10) (A_repl (ar 1) t nd))) 11 0) = (us (us (us (us (us (us sc 5 (rs_cw (sc 6) (sc 5) (A_repl (ar 1) t nd))) 7 (rs_ref (A_repl (ar 1) t nd))) 8 (rs_code 2 (A_repl (ar 1) t nd))) 9 (rs_why (sc 9) (A_repl (ar 1) t nd))) 10 (rs_det (sc 10) (A_repl (ar 1) t nd))) 11 (rs_cau (sc 11) (A_repl (ar 1) t nd))) from congrArg (fun z0 : Int => (us (us (us (us (us (us sc 5 (rs_cw (sc 6) (sc 5) (A_repl (ar 1) t nd))) 7 (rs_ref (A_repl (ar 1) t nd))) 8 (rs_code 2 (A_repl (ar 1) t nd))) 9 (rs_why (sc 9) (A_repl (ar 1) t nd))) 10 (rs_det (sc 10) (A_repl (ar 1) t nd))) 11 z0)) w_37] at hP hD
              have hP : va_P E.1 CL (MW E o (us (us (us (us (us (us sc 5 (rs_cw (sc 6) (sc 5) (A_repl (ar 1) t nd))) 7 (rs_ref (A_repl (ar 1) t nd))) 8 (rs_code 2 (A_repl (ar 1) t nd))) 9 (rs_why (sc 9) (A_repl (ar 1) t nd))) 10 (rs_det (sc 10) (A_repl (ar 1) t nd))) 11 (rs_cau (sc 11) (A_repl (ar 1) t nd))) (ua ar 1 (ar 1))) H := hP
              have hD : va_D A (MW E o (us (us (us (us (us (us sc 5 (rs_cw (sc 6) (sc 5) (A_repl (ar 1) t nd))) 7 (rs_ref (A_repl (ar 1) t nd))) 8 (rs_code 2 (A_repl (ar 1) t nd))) 9 (rs_why (sc 9) (A_repl (ar 1) t nd))) 10 (rs_det (sc 10) (A_repl (ar 1) t nd))) 11 (rs_cau (sc 11) (A_repl (ar 1) t nd))) (ua ar 1 (ar 1))) := hD
              have w_38 : ar 1 = rs_g (ar 1) (A_repl (ar 1) t nd) := by
                first | (rw [hA]; done) | (rw [hA]; rfl) | (rw [hA]; exact if_pos hden) | (rw [hA]; exact if_neg hden) | (rw [hA]; exact rfl) | (rw [hA]; exact rfl)
              rw [show (ua ar 1 (ar 1)) = (ua ar 1 (rs_g (ar 1) (A_repl (ar 1) t nd))) from congrArg (fun z0 : Int → Int => (ua ar 1 z0)) w_38] at hP hD
              have hP : va_P E.1 CL (MW E o (us (us (us (us (us (us sc 5 (rs_cw (sc 6) (sc 5) (A_repl (ar 1) t nd))) 7 (rs_ref (A_repl (ar 1) t nd))) 8 (rs_code 2 (A_repl (ar 1) t nd))) 9 (rs_why (sc 9) (A_repl (ar 1) t nd))) 10 (rs_det (sc 10) (A_repl (ar 1) t nd))) 11 (rs_cau (sc 11) (A_repl (ar 1) t nd))) (ua (ua ar 1 (rs_g (ar 1) (A_repl (ar 1) t nd))) 2 (ar 2))) H := hP
              have hD : va_D A (MW E o (us (us (us (us (us (us sc 5 (rs_cw (sc 6) (sc 5) (A_repl (ar 1) t nd))) 7 (rs_ref (A_repl (ar 1) t nd))) 8 (rs_code 2 (A_repl (ar 1) t nd))) 9 (rs_why (sc 9) (A_repl (ar 1) t nd))) 10 (rs_det (sc 10) (A_repl (ar 1) t nd))) 11 (rs_cau (sc 11) (A_repl (ar 1) t nd))) (ua (ua ar 1 (rs_g (ar 1) (A_repl (ar 1) t nd))) 2 (ar 2))) := hD
              have w_39 : ar 2 = rs_kw (sc 6) (ar 2) (ar 1) (sc 5) (A_repl (ar 1) t nd) := by
                rw [hA]
                first | rfl | exact ear 2
              rw [show (ua (ua ar 1 (rs_g (ar 1) (A_repl (ar 1) t nd))) 2 (ar 2)) = (ua (ua ar 1 (rs_g (ar 1) (A_repl (ar 1) t nd))) 2 (rs_kw (sc 6) (ar 2) (ar 1) (sc 5) (A_repl (ar 1) t nd))) from congrArg (fun z0 : Int → Int => (ua (ua ar 1 (rs_g (ar 1) (A_repl (ar 1) t nd))) 2 z0)) w_39] at hP hD
              exact W.iret (v := iI 0) hx hb hr (fun tt_ ht_ hW_ => ⟨⟨iI 0, (), rfl, (congrArg iI hfin), by rw [ht_]; exact hP, hD⟩, hS.F ht_⟩) hS.2.2 dX5_replace_71
      exact l47 (m_len (ar 1) (nd - 97) + 2) 1 (nd - 97) (m_len (ar 1) (nd - 97)) (by first | omega | rfl | trivial) (by have e : chR (ar 1) (m_len (ar 1) (nd - 97)) (nd - 97) (t - 97) = m_chain (ar 1) (nd - 97) (t - 97) := if_neg (by omega); rw [e]; split <;> omega) (by exact Or.inr (hsw (nd - 97) (by omega) (by omega)).2.2) (by rw [if_neg (by omega)]; omega) ls hl
    · refine lv_iconst (v := iI 0) hx hb dX5_replace_31 rfl ?_
      have hA : A_repl (ar 1) t nd = .inl (c_repl t nd) := by
        unfold A_repl
        rw [if_pos (by assumption)]
      have hfin : 0 = rs_val 0 (A_repl (ar 1) t nd) := by
        first | (rw [hA]; done) | (rw [hA]; rfl)
      have hP : va_P E.1 CL (MW E o (us (us (us sc 5 (sc 5)) 7 0) 8 (c_repl t nd)) ar) H := hP
      have hD : va_D A (MW E o (us (us (us sc 5 (sc 5)) 7 0) 8 (c_repl t nd)) ar) := hD
      have w_40 : sc 5 = rs_cw (sc 6) (sc 5) (A_repl (ar 1) t nd) := by
        first | (rw [hA]; done) | (rw [hA]; rfl) | (rw [hA]; exact if_pos hden) | (rw [hA]; exact if_neg hden) | (rw [hA]; exact rfl) | (rw [hA]; exact rfl)
      rw [show (us (us (us sc 5 (sc 5)) 7 0) 8 (c_repl t nd)) = (us (us (us sc 5 (rs_cw (sc 6) (sc 5) (A_repl (ar 1) t nd))) 7 0) 8 (c_repl t nd)) from congrArg (fun z0 : Int => (us (us (us sc 5 z0) 7 0) 8 (c_repl t nd))) w_40] at hP hD
      have w_41 : 0 = rs_ref (A_repl (ar 1) t nd) := by
        first | (rw [hA]; done) | (rw [hA]; rfl) | (rw [hA]; exact if_pos hden) | (rw [hA]; exact if_neg hden) | (rw [hA]; exact rfl) | (rw [hA]; exact rfl)
      rw [show (us (us (us sc 5 (rs_cw (sc 6) (sc 5) (A_repl (ar 1) t nd))) 7 0) 8 (c_repl t nd)) = (us (us (us sc 5 (rs_cw (sc 6) (sc 5) (A_repl (ar 1) t nd))) 7 (rs_ref (A_repl (ar 1) t nd))) 8 (c_repl t nd)) from congrArg (fun z0 : Int => (us (us (us sc 5 (rs_cw (sc 6) (sc 5) (A_repl (ar 1) t nd))) 7 z0) 8 (c_repl t nd))) w_41] at hP hD
      have w_42 : (c_repl t nd) = rs_code 2 (A_repl (ar 1) t nd) := by
        first | (rw [hA]; done) | (rw [hA]; rfl) | (rw [hA]; exact if_pos hden) | (rw [hA]; exact if_neg hden) | (rw [hA]; exact rfl) | (rw [hA]; exact rfl)
      rw [show (us (us (us sc 5 (rs_cw (sc 6) (sc 5) (A_repl (ar 1) t nd))) 7 (rs_ref (A_repl (ar 1) t nd))) 8 (c_repl t nd)) = (us (us (us sc 5 (rs_cw (sc 6) (sc 5) (A_repl (ar 1) t nd))) 7 (rs_ref (A_repl (ar 1) t nd))) 8 (rs_code 2 (A_repl (ar 1) t nd))) from congrArg (fun z0 : Int => (us (us (us sc 5 (rs_cw (sc 6) (sc 5) (A_repl (ar 1) t nd))) 7 (rs_ref (A_repl (ar 1) t nd))) 8 z0)) w_42] at hP hD
      have hP : va_P E.1 CL (MW E o (us (us (us (us sc 5 (rs_cw (sc 6) (sc 5) (A_repl (ar 1) t nd))) 7 (rs_ref (A_repl (ar 1) t nd))) 8 (rs_code 2 (A_repl (ar 1) t nd))) 9 (sc 9)) ar) H := hP
      have hD : va_D A (MW E o (us (us (us (us sc 5 (rs_cw (sc 6) (sc 5) (A_repl (ar 1) t nd))) 7 (rs_ref (A_repl (ar 1) t nd))) 8 (rs_code 2 (A_repl (ar 1) t nd))) 9 (sc 9)) ar) := hD
      have w_43 : sc 9 = rs_why (sc 9) (A_repl (ar 1) t nd) := by
        first | (rw [hA]; done) | (rw [hA]; rfl) | (rw [hA]; exact if_pos hden) | (rw [hA]; exact if_neg hden) | (rw [hA]; exact rfl) | (rw [hA]; exact rfl)
      rw [show (us (us (us (us sc 5 (rs_cw (sc 6) (sc 5) (A_repl (ar 1) t nd))) 7 (rs_ref (A_repl (ar 1) t nd))) 8 (rs_code 2 (A_repl (ar 1) t nd))) 9 (sc 9)) = (us (us (us (us sc 5 (rs_cw (sc 6) (sc 5) (A_repl (ar 1) t nd))) 7 (rs_ref (A_repl (ar 1) t nd))) 8 (rs_code 2 (A_repl (ar 1) t nd))) 9 (rs_why (sc 9) (A_repl (ar 1) t nd))) from congrArg (fun z0 : Int => (us (us (us (us sc 5 (rs_cw (sc 6) (sc 5) (A_repl (ar 1) t nd))) 7 (rs_ref (A_repl (ar 1) t nd))) 8 (rs_code 2 (A_repl (ar 1) t nd))) 9 z0)) w_43] at hP hD
      have hP : va_P E.1 CL (MW E o (us (us (us (us (us sc 5 (rs_cw (sc 6) (sc 5) (A_repl (ar 1) t nd))) 7 (rs_ref (A_repl (ar 1) t nd))) 8 (rs_code 2 (A_repl (ar 1) t nd))) 9 (rs_why (sc 9) (A_repl (ar 1) t nd))) 10 (sc 10)) ar) H := hP
      have hD : va_D A (MW E o (us (us (us (us (us sc 5 (rs_cw (sc 6) (sc 5) (A_repl (ar 1) t nd))) 7 (rs_ref (A_repl (ar 1) t nd))) 8 (rs_code 2 (A_repl (ar 1) t nd))) 9 (rs_why (sc 9) (A_repl (ar 1) t nd))) 10 (sc 10)) ar) := hD
      have w_44 : sc 10 = rs_det (sc 10) (A_repl (ar 1) t nd) := by
        first | (rw [hA]; done) | (rw [hA]; rfl) | (rw [hA]; exact if_pos hden) | (rw [hA]; exact if_neg hden) | (rw [hA]; exact rfl) | (rw [hA]; exact rfl)
      rw [show (us (us (us (us (us sc 5 (rs_cw (sc 6) (sc 5) (A_repl (ar 1) t nd))) 7 (rs_ref (A_repl (ar 1) t nd))) 8 (rs_code 2 (A_repl (ar 1) t nd))) 9 (rs_why (sc 9) (A_repl (ar 1) t nd))) 10 (sc 10)) = (us (us (us (us (us sc 5 (rs_cw (sc 6) (sc 5) (A_repl (ar 1) t nd))) 7 (rs_ref (A_repl (ar 1) t nd))) 8 (rs_code 2 (A_repl (ar 1) t nd))) 9 (rs_why (sc 9) (A_repl (ar 1) t nd))) 10 (rs_det (sc 10) (A_repl (ar 1) t nd))) from congrArg (fun z0 : Int => (us (us (us (us (us sc 5 (rs_cw (sc 6) (sc 5) (A_repl (ar 1) t nd))) 7 (rs_ref (A_repl (ar 1) t nd))) 8 (rs_code 2 (A_repl (ar 1) t nd))) 9 (rs_why (sc 9) (A_repl (ar 1) t nd))) 10 z0)) w_44] at hP hD
      have hP : va_P E.1 CL (MW E o (us (us (us (us (us (us sc 5 (rs_cw (sc 6) (sc 5) (A_repl (ar 1) t nd))) 7 (rs_ref (A_repl (ar 1) t nd))) 8 (rs_code 2 (A_repl (ar 1) t nd))) 9 (rs_why (sc 9) (A_repl (ar 1) t nd))) 10 (rs_det (sc 10) (A_repl (ar 1) t nd))) 11 (sc 11)) ar) H := hP
      have hD : va_D A (MW E o (us (us (us (us (us (us sc 5 (rs_cw (sc 6) (sc 5) (A_repl (ar 1) t nd))) 7 (rs_ref (A_repl (ar 1) t nd))) 8 (rs_code 2 (A_repl (ar 1) t nd))) 9 (rs_why (sc 9) (A_repl (ar 1) t nd))) 10 (rs_det (sc 10) (A_repl (ar 1) t nd))) 11 (sc 11)) ar) := hD
      have w_45 : sc 11 = rs_cau (sc 11) (A_repl (ar 1) t nd) := by
        first | (rw [hA]; done) | (rw [hA]; rfl) | (rw [hA]; exact if_pos hden) | (rw [hA]; exact if_neg hden) | (rw [hA]; exact rfl) | (rw [hA]; exact rfl)
      rw [show (us (us (us (us (us (us sc 5 (rs_cw (sc 6) (sc 5) (A_repl (ar 1) t nd))) 7 (rs_ref (A_repl (ar 1) t nd))) 8 (rs_code 2 (A_repl (ar 1) t nd))) 9 (rs_why (sc 9) (A_repl (ar 1) t nd))) 10 (rs_det (sc 10) (A_repl (ar 1) t nd))) 11 (sc 11)) = (us (us (us (us (us (us sc 5 (rs_cw (sc 6) (sc 5) (A_repl (ar 1) t nd))) 7 (rs_ref (A_repl (ar 1) t nd))) 8 (rs_code 2 (A_repl (ar 1) t nd))) 9 (rs_why (sc 9) (A_repl (ar 1) t nd))) 10 (rs_det (sc 10) (A_repl (ar 1) t nd))) 11 (rs_cau (sc 11) (A_repl (ar 1) t nd))) from congrArg (fun z0 : Int => (us (us (us (us (us (us sc 5 (rs_cw (sc 6) (sc 5) (A_repl (ar 1) t nd))) 7 (rs_ref (A_repl (ar 1) t nd))) 8 (rs_code 2 (A_repl (ar 1) t nd))) 9 (rs_why (sc 9) (A_repl (ar 1) t nd))) 10 (rs_det (sc 10) (A_repl (ar 1) t nd))) 11 z0)) w_45] at hP hD
      have hP : va_P E.1 CL (MW E o (us (us (us (us (us (us sc 5 (rs_cw (sc 6) (sc 5) (A_repl (ar 1) t nd))) 7 (rs_ref (A_repl (ar 1) t nd))) 8 (rs_code 2 (A_repl (ar 1) t nd))) 9 (rs_why (sc 9) (A_repl (ar 1) t nd))) 10 (rs_det (sc 10) (A_repl (ar 1) t nd))) 11 (rs_cau (sc 11) (A_repl (ar 1) t nd))) (ua ar 1 (ar 1))) H := hP
      have hD : va_D A (MW E o (us (us (us (us (us (us sc 5 (rs_cw (sc 6) (sc 5) (A_repl (ar 1) t nd))) 7 (rs_ref (A_repl (ar 1) t nd))) 8 (rs_code 2 (A_repl (ar 1) t nd))) 9 (rs_why (sc 9) (A_repl (ar 1) t nd))) 10 (rs_det (sc 10) (A_repl (ar 1) t nd))) 11 (rs_cau (sc 11) (A_repl (ar 1) t nd))) (ua ar 1 (ar 1))) := hD
      have w_46 : ar 1 = rs_g (ar 1) (A_repl (ar 1) t nd) := by
        first | (rw [hA]; done) | (rw [hA]; rfl) | (rw [hA]; exact if_pos hden) | (rw [hA]; exact if_neg hden) | (rw [hA]; exact rfl) | (rw [hA]; exact rfl)
      rw [show (ua ar 1 (ar 1)) = (ua ar 1 (rs_g (ar 1) (A_repl (ar 1) t nd))) from congrArg (fun z0 : Int → Int => (ua ar 1 z0)) w_46] at hP hD
      have hP : va_P E.1 CL (MW E o (us (us (us (us (us (us sc 5 (rs_cw (sc 6) (sc 5) (A_repl (ar 1) t nd))) 7 (rs_ref (A_repl (ar 1) t nd))) 8 (rs_code 2 (A_repl (ar 1) t nd))) 9 (rs_why (sc 9) (A_repl (ar 1) t nd))) 10 (rs_det (sc 10) (A_repl (ar 1) t nd))) 11 (rs_cau (sc 11) (A_repl (ar 1) t nd))) (ua (ua ar 1 (rs_g (ar 1) (A_repl (ar 1) t nd))) 2 (ar 2))) H := hP
      have hD : va_D A (MW E o (us (us (us (us (us (us sc 5 (rs_cw (sc 6) (sc 5) (A_repl (ar 1) t nd))) 7 (rs_ref (A_repl (ar 1) t nd))) 8 (rs_code 2 (A_repl (ar 1) t nd))) 9 (rs_why (sc 9) (A_repl (ar 1) t nd))) 10 (rs_det (sc 10) (A_repl (ar 1) t nd))) 11 (rs_cau (sc 11) (A_repl (ar 1) t nd))) (ua (ua ar 1 (rs_g (ar 1) (A_repl (ar 1) t nd))) 2 (ar 2))) := hD
      have w_47 : ar 2 = rs_kw (sc 6) (ar 2) (ar 1) (sc 5) (A_repl (ar 1) t nd) := by
        rw [hA]
        first | rfl | exact ear 2
      rw [show (ua (ua ar 1 (rs_g (ar 1) (A_repl (ar 1) t nd))) 2 (ar 2)) = (ua (ua ar 1 (rs_g (ar 1) (A_repl (ar 1) t nd))) 2 (rs_kw (sc 6) (ar 2) (ar 1) (sc 5) (A_repl (ar 1) t nd))) from congrArg (fun z0 : Int → Int => (ua (ua ar 1 (rs_g (ar 1) (A_repl (ar 1) t nd))) 2 z0)) w_47] at hP hD
      exact W.iret (v := iI 0) hx hb hr (fun tt_ ht_ hW_ => ⟨⟨iI 0, (), rfl, (congrArg iI hfin), by rw [ht_]; exact hP, hD⟩, hS.F ht_⟩) hS.2.2 dX5_replace_32
  refine lv_iload_n hx hb dX5_replace_1 rfl (lv_at hl 1 rfl) ?_
  refine n_csi (x := b2 (decide (97 ≤ t ∧ t ≤ 104))) (va_runS (As := [iv t]) (rest := [.ref (o 0)]) ⟨hx, hb, hml, hown, hts⟩ (mt_X5_isTool l E o sc ar t (by omega)) (va_cwS 1 hts (lw_S q2107 q2108 q113 q2109) rfl rfl rfl (by decide +kernel) ⟨Nat.le_of_ble_eq_true rfl, Nat.le_of_ble_eq_true rfl⟩) (PW_S hP hK) rfl rfl hl.1 rfl (lv_room (Nat.le_of_ble_eq_true rfl)) dX5_replace_2 ⟨Nat.le_of_ble_eq_true rfl, Nat.le_of_ble_eq_true rfl⟩) ?_
  refine n_ifd_eq (tgt := 24) hx hb dX5_replace_5 (by decide) (fun c_48 => ?_) (fun c_48 => ?_)
  · refine lv_iconst (v := iI 1) hx hb dX5_replace_24 rfl ?_
    refine n_top (y := c_repl t nd) (by (try unfold c_repl); (repeat' split) <;> first | rfl | omega | contradiction | (exfalso; omega) | (simp_all; done)) ?_
    exact j_1
  · refine lv_iload_n hx hb dX5_replace_8 rfl (lv_at hl 2 rfl) ?_
    refine n_csi (x := b2 (decide (97 ≤ nd ∧ nd ≤ 104))) (va_runS (As := [iv nd]) (rest := [.ref (o 0)]) ⟨hx, hb, hml, hown, hts⟩ (mt_X5_isTool l E o sc ar nd (by omega)) (va_cwS 1 hts (lw_S q2107 q2108 q113 q2109) rfl rfl rfl (by decide +kernel) ⟨Nat.le_of_ble_eq_true rfl, Nat.le_of_ble_eq_true rfl⟩) (PW_S hP hK) rfl rfl hl.1 rfl (lv_room (Nat.le_of_ble_eq_true rfl)) dX5_replace_9 ⟨Nat.le_of_ble_eq_true rfl, Nat.le_of_ble_eq_true rfl⟩) ?_
    refine n_ifd_eq (tgt := 24) hx hb dX5_replace_12 (by decide) (fun c_49 => ?_) (fun c_49 => ?_)
    · refine lv_iconst (v := iI 1) hx hb dX5_replace_24 rfl ?_
      refine n_top (y := c_repl t nd) (by (try unfold c_repl); (repeat' split) <;> first | rfl | omega | contradiction | (exfalso; omega) | (simp_all; done)) ?_
      exact j_1
    · refine lv_iload_n hx hb dX5_replace_15 rfl (lv_at hl 1 rfl) ?_
      refine lv_iload_n hx hb dX5_replace_16 rfl (lv_at hl 2 rfl) ?_
      refine n_icmp_eq (tgt := 24) hx hb dX5_replace_17 (by decide) (by omega) (by omega) (fun c_50 => ?_) (fun c_50 => ?_)
      · refine lv_iconst (v := iI 1) hx hb dX5_replace_24 rfl ?_
        refine n_top (y := c_repl t nd) (by (try unfold c_repl); (repeat' split) <;> first | rfl | omega | contradiction | (exfalso; omega) | (simp_all; done)) ?_
        exact j_1
      · refine lv_iconst (v := iI 0) hx hb dX5_replace_20 rfl ?_
        refine lv_goto (tgt := 25) hx hb dX5_replace_21 (by decide) ?_
        refine n_top (y := c_repl t nd) (by (try unfold c_repl); (repeat' split) <;> first | rfl | omega | contradiction | (exfalso; omega) | (simp_all; done)) ?_
        exact j_1
set_option maxHeartbeats 4000000 in
set_option maxRecDepth 100000 in
theorem mt_X5_putBack (l : Launch) (E : EE) (o : Nat → Nat) (sc : Nat → Int) (ar : Nat → Int → Int) (t : Int) (hB : ∀ k x, 0 ≤ ar k x ∧ ar k x < 2147483648) (ht : 0 ≤ t ∧ t < 65536) (htw : TW (ar 1)) (hsw : SwOK (ar 1)) (hch : 0 ≤ sc 5 ∧ sc 5 ≤ 8) (hwi : 0 ≤ sc 6 ∧ sc 6 ≤ 1) (sz : Nat) : Met l yX5_putBack (ws_ yX5_putBack cX5_putBack 5 (some .char)) { frames := 5, cells := 0, slots := 0, locals := 116 } (va_Pc [.ref (o 0), iv t] (UW E (MW E o sc ar) sz)) (UQi E (rs_val 32 (A_back (ar 1) t)) (MW E o (us (us (us (us (us (us sc 5 (rs_cw (sc 6) (sc 5) (A_back (ar 1) t))) 7 (rs_ref (A_back (ar 1) t))) 8 (rs_code 3 (A_back (ar 1) t))) 9 (rs_why (sc 9) (A_back (ar 1) t))) 10 (rs_det (sc 10) (A_back (ar 1) t))) 11 (rs_cau (sc 11) (A_back (ar 1) t))) (ua (ua ar 1 (rs_g (ar 1) (A_back (ar 1) t))) 2 (rs_kw (sc 6) (ar 2) (ar 1) (sc 5) (A_back (ar 1) t)))) (va_A (MW E o sc ar) sz)) 0 0 (va_A (MW E o sc ar) sz) := by
  refine Met.ofW (cc := cX5_putBack) (maxL := 5) (ret := (some .char)) (by decide) rfl ?_
  intro p e s m args below meth c s₁ B hml hv
  obtain ⟨rfl, hsz, hP, hK, hD0⟩ := hv
  have hx := B.exec
  have hb := B.bytes
  have hr := B.returns
  have hts := atoms_spec (ws := (ws_ yX5_putBack cX5_putBack 5 (some .char))) B.pre
  have hts : ∀ w ∈ lw_all, w.before _ s = true := fun w h => hts w (List.mem_cons_of_mem _ h)
  have hown : s.vm.findClass RX5 = some m.cls := findClass_of_methodNamed B.named
  have hlocks := B.notSynchronized
  subst hsz
  have hD := hD0.self (sz := s.heap.size)
  generalize hAe : va_A (MW E o sc ar) s.heap.size = A at hD ⊢
  have hA : ∀ q : Nat, s.heap.size ≤ q → A q := fun q h => by rw [← hAe]; exact Or.inr h
  have hS : va_S A s.heap s.heap [] := va_S.rf
  have hl := lv_entry ([.ref (o 0), iv t]) (n := 5) (Nat.le_of_ble_eq_true rfl)
  rw [lg_entry_eq]
  generalize (lg_sl ([.ref (o 0), iv t]) ++ List.replicate (5 - (lg_sl ([.ref (o 0), iv t])).length) Slot.unset).toArray = ls at hl ⊢
  have hl : lv_has ls 5 [(0, .ref (o 0)), (1, iv t)] := hl
  refine lv_aload_n hx hb dX5_putBack_0 rfl (lv_at hl 0 rfl) ?_
  have j_1 : W p l e (headSpec (ws_ yX5_putBack cX5_putBack 5 (some .char)) { frames := 5, cells := 0, slots := 0, locals := 116 }).room s m ([.ref (o 0), iv t] : List Value).toArray below meth c s.heap [] 0 0 (MQ below (UQi E (rs_val 32 (A_back (ar 1) t)) (MW E o (us (us (us (us (us (us sc 5 (rs_cw (sc 6) (sc 5) (A_back (ar 1) t))) 7 (rs_ref (A_back (ar 1) t))) 8 (rs_code 3 (A_back (ar 1) t))) 9 (rs_why (sc 9) (A_back (ar 1) t))) 10 (rs_det (sc 10) (A_back (ar 1) t))) 11 (rs_cau (sc 11) (A_back (ar 1) t))) (ua (ua ar 1 (rs_g (ar 1) (A_back (ar 1) t))) 2 (rs_kw (sc 6) (ar 2) (ar 1) (sc 5) (A_back (ar 1) t)))) A) ([.ref (o 0), iv t] : List Value).toArray s 0 0 A) (F0 m 30 ls [iv (c_back (ar 1) t), .ref (o 0)]) := by
    have b_2 := c_back_r (ar 1) t
    refine n_cui (x := b2 (decide (0 < (c_back (ar 1) t)))) (va_runV (As := [iv (c_back (ar 1) t)]) (rest := []) ⟨hx, hb, hml, hown, hts⟩ (mt_X5_fails l E o sc ar (c_back (ar 1) t) (by omega) _) (cwV 1 hts (lw_V q2124 q2126 qs50 q113 q2127) rfl rfl rfl (by decide +kernel) ⟨Nat.le_of_ble_eq_true rfl, Nat.le_of_ble_eq_true rfl⟩) (UW_V hP hK (hD) (va_recv hK.1 hP (ci := 0) (q0 := 0) rfl rfl)) rfl rfl hl.1 rfl (lv_room (Nat.le_of_ble_eq_true rfl)) dX5_putBack_30 ⟨Nat.le_of_ble_eq_true rfl, Nat.le_of_ble_eq_true rfl⟩) hD hS hA (fun H locs hP hD hS => ?_)
    have hP : va_P E.1 CL (MW E o (us (us sc 7 0) 8 (c_back (ar 1) t)) ar) H := hP
    have hD : va_D A (MW E o (us (us sc 7 0) 8 (c_back (ar 1) t)) ar) := hD
    refine n_ifd_eq (tgt := 39) hx hb dX5_putBack_33 (by decide) (fun c_3 => ?_) (fun c_3 => ?_)
    · have hnz : ¬ 0 < c_back (ar 1) t := by assumption
      have hz := c_back_ok hnz
      have hst := hsw (t - 97) (by omega) (by omega)
      refine lv_iload_n hx hb dX5_putBack_39 rfl (lv_at hl 1 rfl) ?_
      refine lv_bipush (v := iI 97) hx hb dX5_putBack_40 (by decide) ?_
      refine n_isub hx hb dX5_putBack_42 ?_
      refine lv_istore_n (lv' := [(2, iv (t - 97)), (0, .ref (o 0)), (1, iv t)]) hx hb dX5_putBack_43 rfl hl (by decide) rfl (fun ls hl => ?_)
      refine lv_aload_n hx hb dX5_putBack_44 rfl (lv_at hl 1 rfl) ?_
      refine lv_iload_n hx hb dX5_putBack_45 rfl (lv_at hl 0 rfl) ?_
      refine lv_bipush (v := iI 6) hx hb dX5_putBack_46 (by decide) ?_
      refine n_csi (x := m_of (ar 1) (t - 97) 6) (va_runV (As := [iv (t - 97), iv 6]) (rest := []) ⟨hx, hb, hml, hown, hts⟩ (mt_X5_of l E o (us (us sc 7 0) 8 (c_back (ar 1) t)) ar (t - 97) 6 (by omega)) (cwV 2 hts (lw_V q2120 q2122 qs49 q113 q2123) rfl rfl rfl (by decide +kernel) ⟨Nat.le_of_ble_eq_true rfl, Nat.le_of_ble_eq_true rfl⟩) (PW_V hP hK (va_recv hK.1 hP (ci := 0) (q0 := 0) rfl rfl)) rfl rfl hl.1 rfl (lv_room (Nat.le_of_ble_eq_true rfl)) dX5_putBack_48 ⟨Nat.le_of_ble_eq_true rfl, Nat.le_of_ble_eq_true rfl⟩) ?_
      refine lv_istore_n (lv' := [(3, iv (m_of (ar 1) (t - 97) 6)), (2, iv (t - 97)), (0, .ref (o 0)), (1, iv t)]) hx hb dX5_putBack_51 rfl hl (by decide) rfl (fun ls hl => ?_)
      refine lv_aload_n hx hb dX5_putBack_52 rfl (lv_at hl 2 rfl) ?_
      refine lv_iload_n hx hb dX5_putBack_53 rfl (lv_at hl 1 rfl) ?_
      refine lv_bipush (v := iI 6) hx hb dX5_putBack_54 (by decide) ?_
      refine lv_iconst (v := iI 0) hx hb dX5_putBack_56 rfl ?_
      refine n_cuv (va_runV (As := [iv (t - 97), iv 6, iv 0]) (rest := []) ⟨hx, hb, hml, hown, hts⟩ (mt_X5_lays l E o (us (us sc 7 0) 8 (c_back (ar 1) t)) ar (t - 97) 6 0 (by omega) _) (cwV 3 hts (lw_V q2135 q2137 qs52 q113 q2138) rfl rfl rfl (by decide +kernel) ⟨Nat.le_of_ble_eq_true rfl, Nat.le_of_ble_eq_true rfl⟩) (UW_V hP hK (hD) (va_recv hK.1 hP (ci := 0) (q0 := 0) rfl rfl)) rfl rfl hl.1 rfl (lv_room (Nat.le_of_ble_eq_true rfl)) dX5_putBack_57 ⟨Nat.le_of_ble_eq_true rfl, Nat.le_of_ble_eq_true rfl⟩) hD hS hA (fun H locs hP hD hS => ?_)
      have hP : va_P E.1 CL (MW E o (us (us sc 7 0) 8 (c_back (ar 1) t)) (ua ar 1 (ui (ar 1) (5 + 7 * (t - 97) + 6) 0))) H := hP
      have hD : va_D A (MW E o (us (us sc 7 0) 8 (c_back (ar 1) t)) (ua ar 1 (ui (ar 1) (5 + 7 * (t - 97) + 6) 0))) := hD
      obtain ⟨a_4, ea_4⟩ : ∃ zz : Int → Int, zz = ui (ar 1) (5 + 7 * (t - 97) + 6) 0 := ⟨_, rfl⟩
      rw [← ea_4] at hP hD
      have hBa_4 := ui_b (i := (5 + 7 * (t - 97) + 6)) (v := 0) (hB 1) (by omega)
      rw [← ea_4] at hBa_4
      have hg1 : a_4 = m_set (ar 1) (t - 97) 6 0 := ea_4
      have htw2 : TW a_4 := by rw [hg1]; exact set_tw htw
      have hsw2 : SwOK a_4 := by rw [hg1]; exact cut_ok hsw
      refine lv_aload_n hx hb dX5_putBack_60 rfl (lv_at hl 2 rfl) ?_
      refine n_csi (x := m_circ a_4) (va_runV (As := []) (rest := []) ⟨hx, hb, hml, hown, hts⟩ (mt_X5_circle l E o (us (us sc 7 0) 8 (c_back (ar 1) t)) (ua ar 1 a_4)  (ua_b 1 hB hBa_4) (by exact htw2) (by exact hsw2)) (cwV 0 hts (lw_V q2175 q2177 qs60 q113 q2178) rfl rfl rfl (by decide +kernel) ⟨Nat.le_of_ble_eq_true rfl, Nat.le_of_ble_eq_true rfl⟩) (PW_V hP hK (va_recv hK.1 hP (ci := 0) (q0 := 0) rfl rfl)) rfl rfl hl.1 rfl (lv_room (Nat.le_of_ble_eq_true rfl)) dX5_putBack_61 ⟨Nat.le_of_ble_eq_true rfl, Nat.le_of_ble_eq_true rfl⟩) ?_
      refine n_top (y := m_circ (m_set (ar 1) (t - 97) 6 0)) (by rw [hg1]) ?_
      refine lv_istore (lv' := [(4, iv (m_circ (m_set (ar 1) (t - 97) 6 0))), (3, iv (m_of (ar 1) (t - 97) 6)), (2, iv (t - 97)), (0, .ref (o 0)), (1, iv t)]) hx hb dX5_putBack_64 hl (by decide) rfl (fun ls hl => ?_)
      refine lv_aload_n hx hb dX5_putBack_66 rfl (lv_at hl 3 rfl) ?_
      refine lv_iload_n hx hb dX5_putBack_67 rfl (lv_at hl 2 rfl) ?_
      refine lv_bipush (v := iI 6) hx hb dX5_putBack_68 (by decide) ?_
      refine lv_iload_n hx hb dX5_putBack_70 rfl (lv_at hl 1 rfl) ?_
      have b_5 := (show 0 ≤ m_of (ar 1) (t - 97) 6 ∧ m_of (ar 1) (t - 97) 6 < 2147483648 from (hB 1) _)
      refine n_cuv (va_runV (As := [iv (t - 97), iv 6, iv (m_of (ar 1) (t - 97) 6)]) (rest := []) ⟨hx, hb, hml, hown, hts⟩ (mt_X5_lays l E o (us (us sc 7 0) 8 (c_back (ar 1) t)) (ua ar 1 a_4) (t - 97) 6 (m_of (ar 1) (t - 97) 6) (by omega) _) (cwV 3 hts (lw_V q2135 q2137 qs52 q113 q2138) rfl rfl rfl (by decide +kernel) ⟨Nat.le_of_ble_eq_true rfl, Nat.le_of_ble_eq_true rfl⟩) (UW_V hP hK (hD) (va_recv hK.1 hP (ci := 0) (q0 := 0) rfl rfl)) rfl rfl hl.1 rfl (lv_room (Nat.le_of_ble_eq_true rfl)) dX5_putBack_71 ⟨Nat.le_of_ble_eq_true rfl, Nat.le_of_ble_eq_true rfl⟩) hD hS hA (fun H locs hP hD hS => ?_)
      have hP : va_P E.1 CL (MW E o (us (us sc 7 0) 8 (c_back (ar 1) t)) (ua ar 1 (ui a_4 (5 + 7 * (t - 97) + 6) (m_of (ar 1) (t - 97) 6)))) H := hP
      have hD : va_D A (MW E o (us (us sc 7 0) 8 (c_back (ar 1) t)) (ua ar 1 (ui a_4 (5 + 7 * (t - 97) + 6) (m_of (ar 1) (t - 97) 6)))) := hD
      obtain ⟨a_6, ea_6⟩ : ∃ zz : Int → Int, zz = ui a_4 (5 + 7 * (t - 97) + 6) (m_of (ar 1) (t - 97) 6) := ⟨_, rfl⟩
      rw [← ea_6] at hP hD
      have hBa_6 := ui_b (i := (5 + 7 * (t - 97) + 6)) (v := (m_of (ar 1) (t - 97) 6)) hBa_4 (by omega)
      rw [← ea_6] at hBa_6
      have hrs : a_6 = ar 1 := set_back (g1 := a_4) rfl ea_4 ea_6
      rw [hrs] at hP hD
      refine lv_iload hx hb dX5_putBack_74 (lv_at hl 0 rfl) ?_
      have b_7 := m_circ_r (m_set (ar 1) (t - 97) 6 0)
      refine n_if_le (tgt := 91) hx hb dX5_putBack_76 (by decide) (by omega) (fun c_8 => ?_) (fun c_8 => ?_)
      · refine lv_aload_n hx hb dX5_putBack_91 rfl (lv_at hl 3 rfl) ?_
        refine lv_aload_n hx hb dX5_putBack_92 rfl (lv_at hl 3 rfl) ?_
        refine va_get (D := E.1) (ci := 0) (v := .ref (o 1)) (C := RX5) (T := TX5) (N := 23) hx hb hts in_X5 hown hK.1 hP 0 rfl rfl 0 (by decide) (hts _ q2029) (fun _ h9 => h9) rfl dX5_putBack_93 ?_
        refine n_cuv (va_runV (As := [.ref (o 1)]) (rest := []) ⟨hx, hb, hml, hown, hts⟩ (mt_X5_keeps1 l E o (us (us sc 7 0) 8 (c_back (ar 1) t)) (ua ar 1 (ar 1))  (by first | omega | exact hch) (by first | omega | exact hwi) _) (cwV 1 hts (lw_V q2128 q2130 qs51 q113 q2131) rfl rfl rfl (by decide +kernel) ⟨Nat.le_of_ble_eq_true rfl, Nat.le_of_ble_eq_true rfl⟩) (UW_V hP hK (hD) (va_recv hK.1 hP (ci := 0) (q0 := 0) rfl rfl)) rfl rfl hl.1 rfl (lv_room (Nat.le_of_ble_eq_true rfl)) dX5_putBack_96 ⟨Nat.le_of_ble_eq_true rfl, Nat.le_of_ble_eq_true rfl⟩) hD hS hA (fun H locs hP hD hS => ?_)
        have hP : va_P E.1 CL (MW E o (us (us (us sc 5 (k_cw (sc 6) (sc 5))) 7 0) 8 0) (ua (ua ar 1 (ar 1)) 2 (k_kw (sc 6) (ar 2) (ar 1) (sc 5)))) H := hP
        have hD : va_D A (MW E o (us (us (us sc 5 (k_cw (sc 6) (sc 5))) 7 0) 8 0) (ua (ua ar 1 (ar 1)) 2 (k_kw (sc 6) (ar 2) (ar 1) (sc 5)))) := hD
        obtain ⟨a_9, ea_9⟩ : ∃ zz : Int → Int, zz = k_kw (sc 6) (ar 2) (ar 1) (sc 5) := ⟨_, rfl⟩
        rw [← ea_9] at hP hD
        have hBa_9 := k_kw_b (w := (sc 6)) (c := (sc 5)) (hB 2) (hB 1)
        rw [← ea_9] at hBa_9
        refine lv_aload_n hx hb dX5_putBack_99 rfl (lv_at hl 3 rfl) ?_
        refine lv_iload_n hx hb dX5_putBack_100 rfl (lv_at hl 2 rfl) ?_
        refine lv_bipush (v := iI 6) hx hb dX5_putBack_101 (by decide) ?_
        refine lv_iconst (v := iI 0) hx hb dX5_putBack_103 rfl ?_
        refine n_cuv (va_runV (As := [iv (t - 97), iv 6, iv 0]) (rest := []) ⟨hx, hb, hml, hown, hts⟩ (mt_X5_lays l E o (us (us (us sc 5 (k_cw (sc 6) (sc 5))) 7 0) 8 0) (ua (ua ar 1 (ar 1)) 2 a_9) (t - 97) 6 0 (by omega) _) (cwV 3 hts (lw_V q2135 q2137 qs52 q113 q2138) rfl rfl rfl (by decide +kernel) ⟨Nat.le_of_ble_eq_true rfl, Nat.le_of_ble_eq_true rfl⟩) (UW_V hP hK (hD) (va_recv hK.1 hP (ci := 0) (q0 := 0) rfl rfl)) rfl rfl hl.1 rfl (lv_room (Nat.le_of_ble_eq_true rfl)) dX5_putBack_104 ⟨Nat.le_of_ble_eq_true rfl, Nat.le_of_ble_eq_true rfl⟩) hD hS hA (fun H locs hP hD hS => ?_)
        have hP : va_P E.1 CL (MW E o (us (us (us sc 5 (k_cw (sc 6) (sc 5))) 7 0) 8 0) (ua (ua ar 1 (ui (ar 1) (5 + 7 * (t - 97) + 6) 0)) 2 a_9)) H := hP
        have hD : va_D A (MW E o (us (us (us sc 5 (k_cw (sc 6) (sc 5))) 7 0) 8 0) (ua (ua ar 1 (ui (ar 1) (5 + 7 * (t - 97) + 6) 0)) 2 a_9)) := hD
        obtain ⟨a_10, ea_10⟩ : ∃ zz : Int → Int, zz = ui (ar 1) (5 + 7 * (t - 97) + 6) 0 := ⟨_, rfl⟩
        rw [← ea_10] at hP hD
        have hBa_10 := ui_b (i := (5 + 7 * (t - 97) + 6)) (v := 0) (hB 1) (by omega)
        rw [← ea_10] at hBa_10
        have hg3 : a_10 = m_set (ar 1) (t - 97) 6 0 := ea_10
        refine lv_iload_n hx hb dX5_putBack_107 rfl (lv_at hl 1 rfl) ?_
        refine lv_iconst (v := iI 1) hx hb dX5_putBack_108 rfl ?_
        refine n_isub hx hb dX5_putBack_109 ?_
        refine n_csi (x := 97 + ((m_of (ar 1) (t - 97) 6) - 1)) (va_runS (As := [iv ((m_of (ar 1) (t - 97) 6) - 1)]) (rest := []) ⟨hx, hb, hml, hown, hts⟩ (mt_X5_letter l E o (us (us (us sc 5 (k_cw (sc 6) (sc 5))) 7 0) 8 0) (ua (ua ar 1 a_10) 2 a_9) ((m_of (ar 1) (t - 97) 6) - 1) (by omega)) (va_cwS 1 hts (lw_S q2223 q2224 q113 q2225) rfl rfl rfl (by decide +kernel) ⟨Nat.le_of_ble_eq_true rfl, Nat.le_of_ble_eq_true rfl⟩) (PW_S hP hK) rfl rfl hl.1 rfl (lv_room (Nat.le_of_ble_eq_true rfl)) dX5_putBack_110 ⟨Nat.le_of_ble_eq_true rfl, Nat.le_of_ble_eq_true rfl⟩) ?_
        have hA : A_back (ar 1) t = .inr (.inr (97 + ((m_of (ar 1) (t - 97) 6) - 1), a_10)) := by
          unfold A_back
          rw [if_neg hnz, if_neg (by omega), ← hg3]
        have hfin : 97 + ((m_of (ar 1) (t - 97) 6) - 1) = rs_val 32 (A_back (ar 1) t) := by
          first | (rw [hA]; done) | (rw [hA]; rfl)
        have w_11 : k_cw (sc 6) (sc 5) = rs_cw (sc 6) (sc 5) (A_back (ar 1) t) := by
          first | (rw [hA]; done) | (rw [hA]; rfl) | (rw [hA]; exact if_pos hden) | (rw [hA]; exact if_neg hden) | (rw [hA]; exact rfl) | (rw [hA]; exact rfl)
        rw [show (us (us (us sc 5 (k_cw (sc 6) (sc 5))) 7 0) 8 0) = (us (us (us sc 5 (rs_cw (sc 6) (sc 5) (A_back (ar 1) t))) 7 0) 8 0) from congrArg (fun z0 : Int => (us (us (us sc 5 z0) 7 0) 8 0)) w_11] at hP hD
        have w_12 : 0 = rs_ref (A_back (ar 1) t) := by
          first | (rw [hA]; done) | (rw [hA]; rfl) | (rw [hA]; exact if_pos hden) | (rw [hA]; exact if_neg hden) | (rw [hA]; exact rfl) | (rw [hA]; exact rfl)
        rw [show (us (us (us sc 5 (rs_cw (sc 6) (sc 5) (A_back (ar 1) t))) 7 0) 8 0) = (us (us (us sc 5 (rs_cw (sc 6) (sc 5) (A_back (ar 1) t))) 7 (rs_ref (A_back (ar 1) t))) 8 0) from congrArg (fun z0 : Int => (us (us (us sc 5 (rs_cw (sc 6) (sc 5) (A_back (ar 1) t))) 7 z0) 8 0)) w_12] at hP hD
        have w_13 : 0 = rs_code 3 (A_back (ar 1) t) := by
          first | (rw [hA]; done) | (rw [hA]; rfl) | (rw [hA]; exact if_pos hden) | (rw [hA]; exact if_neg hden) | (rw [hA]; exact rfl) | (rw [hA]; exact rfl)
        rw [show (us (us (us sc 5 (rs_cw (sc 6) (sc 5) (A_back (ar 1) t))) 7 (rs_ref (A_back (ar 1) t))) 8 0) = (us (us (us sc 5 (rs_cw (sc 6) (sc 5) (A_back (ar 1) t))) 7 (rs_ref (A_back (ar 1) t))) 8 (rs_code 3 (A_back (ar 1) t))) from congrArg (fun z0 : Int => (us (us (us sc 5 (rs_cw (sc 6) (sc 5) (A_back (ar 1) t))) 7 (rs_ref (A_back (ar 1) t))) 8 z0)) w_13] at hP hD
        have hP : va_P E.1 CL (MW E o (us (us (us (us sc 5 (rs_cw (sc 6) (sc 5) (A_back (ar 1) t))) 7 (rs_ref (A_back (ar 1) t))) 8 (rs_code 3 (A_back (ar 1) t))) 9 (sc 9)) (ua (ua ar 1 a_10) 2 a_9)) H := hP
        have hD : va_D A (MW E o (us (us (us (us sc 5 (rs_cw (sc 6) (sc 5) (A_back (ar 1) t))) 7 (rs_ref (A_back (ar 1) t))) 8 (rs_code 3 (A_back (ar 1) t))) 9 (sc 9)) (ua (ua ar 1 a_10) 2 a_9)) := hD
        have w_14 : sc 9 = rs_why (sc 9) (A_back (ar 1) t) := by
          first | (rw [hA]; done) | (rw [hA]; rfl) | (rw [hA]; exact if_pos hden) | (rw [hA]; exact if_neg hden) | (rw [hA]; exact rfl) | (rw [hA]; exact rfl)
        rw [show (us (us (us (us sc 5 (rs_cw (sc 6) (sc 5) (A_back (ar 1) t))) 7 (rs_ref (A_back (ar 1) t))) 8 (rs_code 3 (A_back (ar 1) t))) 9 (sc 9)) = (us (us (us (us sc 5 (rs_cw (sc 6) (sc 5) (A_back (ar 1) t))) 7 (rs_ref (A_back (ar 1) t))) 8 (rs_code 3 (A_back (ar 1) t))) 9 (rs_why (sc 9) (A_back (ar 1) t))) from congrArg (fun z0 : Int => (us (us (us (us sc 5 (rs_cw (sc 6) (sc 5) (A_back (ar 1) t))) 7 (rs_ref (A_back (ar 1) t))) 8 (rs_code 3 (A_back (ar 1) t))) 9 z0)) w_14] at hP hD
        have hP : va_P E.1 CL (MW E o (us (us (us (us (us sc 5 (rs_cw (sc 6) (sc 5) (A_back (ar 1) t))) 7 (rs_ref (A_back (ar 1) t))) 8 (rs_code 3 (A_back (ar 1) t))) 9 (rs_why (sc 9) (A_back (ar 1) t))) 10 (sc 10)) (ua (ua ar 1 a_10) 2 a_9)) H := hP
        have hD : va_D A (MW E o (us (us (us (us (us sc 5 (rs_cw (sc 6) (sc 5) (A_back (ar 1) t))) 7 (rs_ref (A_back (ar 1) t))) 8 (rs_code 3 (A_back (ar 1) t))) 9 (rs_why (sc 9) (A_back (ar 1) t))) 10 (sc 10)) (ua (ua ar 1 a_10) 2 a_9)) := hD
        have w_15 : sc 10 = rs_det (sc 10) (A_back (ar 1) t) := by
          first | (rw [hA]; done) | (rw [hA]; rfl) | (rw [hA]; exact if_pos hden) | (rw [hA]; exact if_neg hden) | (rw [hA]; exact rfl) | (rw [hA]; exact rfl)
        rw [show (us (us (us (us (us sc 5 (rs_cw (sc 6) (sc 5) (A_back (ar 1) t))) 7 (rs_ref (A_back (ar 1) t))) 8 (rs_code 3 (A_back (ar 1) t))) 9 (rs_why (sc 9) (A_back (ar 1) t))) 10 (sc 10)) = (us (us (us (us (us sc 5 (rs_cw (sc 6) (sc 5) (A_back (ar 1) t))) 7 (rs_ref (A_back (ar 1) t))) 8 (rs_code 3 (A_back (ar 1) t))) 9 (rs_why (sc 9) (A_back (ar 1) t))) 10 (rs_det (sc 10) (A_back (ar 1) t))) from congrArg (fun z0 : Int => (us (us (us (us (us sc 5 (rs_cw (sc 6) (sc 5) (A_back (ar 1) t))) 7 (rs_ref (A_back (ar 1) t))) 8 (rs_code 3 (A_back (ar 1) t))) 9 (rs_why (sc 9) (A_back (ar 1) t))) 10 z0)) w_15] at hP hD
        have hP : va_P E.1 CL (MW E o (us (us (us (us (us (us sc 5 (rs_cw (sc 6) (sc 5) (A_back (ar 1) t))) 7 (rs_ref (A_back (ar 1) t))) 8 (rs_code 3 (A_back (ar 1) t))) 9 (rs_why (sc 9) (A_back (ar 1) t))) 10 (rs_det (sc 10) (A_back (ar 1) t))) 11 (sc 11)) (ua (ua ar 1 a_10) 2 a_9)) H := hP
        have hD : va_D A (MW E o (us (us (us (us (us (us sc 5 (rs_cw (sc 6) (sc 5) (A_back (ar 1) t))) 7 (rs_ref (A_back (ar 1) t))) 8 (rs_code 3 (A_back (ar 1) t))) 9 (rs_why (sc 9) (A_back (ar 1) t))) 10 (rs_det (sc 10) (A_back (ar 1) t))) 11 (sc 11)) (ua (ua ar 1 a_10) 2 a_9)) := hD
        have w_16 : sc 11 = rs_cau (sc 11) (A_back (ar 1) t) := by
          first | (rw [hA]; done) | (rw [hA]; rfl) | (rw [hA]; exact if_pos hden) | (rw [hA]; exact if_neg hden) | (rw [hA]; exact rfl) | (rw [hA]; exact rfl)
        rw [show (us (us (us (us (us (us sc 5 (rs_cw (sc 6) (sc 5) (A_back (ar 1) t))) 7 (rs_ref (A_back (ar 1) t))) 8 (rs_code 3 (A_back (ar 1) t))) 9 (rs_why (sc 9) (A_back (ar 1) t))) 10 (rs_det (sc 10) (A_back (ar 1) t))) 11 (sc 11)) = (us (us (us (us (us (us sc 5 (rs_cw (sc 6) (sc 5) (A_back (ar 1) t))) 7 (rs_ref (A_back (ar 1) t))) 8 (rs_code 3 (A_back (ar 1) t))) 9 (rs_why (sc 9) (A_back (ar 1) t))) 10 (rs_det (sc 10) (A_back (ar 1) t))) 11 (rs_cau (sc 11) (A_back (ar 1) t))) from congrArg (fun z0 : Int => (us (us (us (us (us (us sc 5 (rs_cw (sc 6) (sc 5) (A_back (ar 1) t))) 7 (rs_ref (A_back (ar 1) t))) 8 (rs_code 3 (A_back (ar 1) t))) 9 (rs_why (sc 9) (A_back (ar 1) t))) 10 (rs_det (sc 10) (A_back (ar 1) t))) 11 z0)) w_16] at hP hD
        have w_17 : a_10 = rs_g (ar 1) (A_back (ar 1) t) := by
          first | (rw [hA]; done) | (rw [hA]; rfl) | (rw [hA]; exact if_pos hden) | (rw [hA]; exact if_neg hden) | (rw [hA]; exact rfl) | (rw [hA]; exact rfl)
        rw [show (ua (ua ar 1 a_10) 2 a_9) = (ua (ua ar 1 (rs_g (ar 1) (A_back (ar 1) t))) 2 a_9) from congrArg (fun z0 : Int → Int => (ua (ua ar 1 z0) 2 a_9)) w_17] at hP hD
        have w_18 : a_9 = rs_kw (sc 6) (ar 2) (ar 1) (sc 5) (A_back (ar 1) t) := by
          rw [hA]
          first | rfl | exact ea_9
        rw [show (ua (ua ar 1 (rs_g (ar 1) (A_back (ar 1) t))) 2 a_9) = (ua (ua ar 1 (rs_g (ar 1) (A_back (ar 1) t))) 2 (rs_kw (sc 6) (ar 2) (ar 1) (sc 5) (A_back (ar 1) t))) from congrArg (fun z0 : Int → Int => (ua (ua ar 1 (rs_g (ar 1) (A_back (ar 1) t))) 2 z0)) w_18] at hP hD
        exact W.zret (v := iI (97 + ((m_of (ar 1) (t - 97) 6) - 1))) hx hb hr (nr_c (by omega)) (fun tt_ ht_ hW_ => ⟨⟨iI (97 + ((m_of (ar 1) (t - 97) 6) - 1)), (), rfl, (congrArg iI hfin), by rw [ht_]; exact hP, hD⟩, hS.F ht_⟩) hS.2.2 dX5_putBack_113
      · refine lv_aload_n hx hb dX5_putBack_79 rfl (lv_at hl 3 rfl) ?_
        refine lv_iconst (v := iI 3) hx hb dX5_putBack_80 rfl ?_
        refine lv_iconst (v := iI 3) hx hb dX5_putBack_81 rfl ?_
        refine lv_iload hx hb dX5_putBack_82 (lv_at hl 0 rfl) ?_
        refine n_cui (x := 0) (va_runV (As := [iv 3, iv 3, iv (m_circ (m_set (ar 1) (t - 97) 6 0))]) (rest := []) ⟨hx, hb, hml, hown, hts⟩ (mt_X5_refuses l E o (us (us sc 7 0) 8 (c_back (ar 1) t)) (ua ar 1 (ar 1)) 3 3 (m_circ (m_set (ar 1) (t - 97) 6 0)) _) (cwV 3 hts (lw_V q2171 q2173 qs59 q113 q2174) rfl rfl rfl (by decide +kernel) ⟨Nat.le_of_ble_eq_true rfl, Nat.le_of_ble_eq_true rfl⟩) (UW_V hP hK (hD) (va_recv hK.1 hP (ci := 0) (q0 := 0) rfl rfl)) rfl rfl hl.1 rfl (lv_room (Nat.le_of_ble_eq_true rfl)) dX5_putBack_84 ⟨Nat.le_of_ble_eq_true rfl, Nat.le_of_ble_eq_true rfl⟩) hD hS hA (fun H locs hP hD hS => ?_)
        have hP : va_P E.1 CL (MW E o (us (us (us (us (us sc 7 1) 8 3) 9 3) 10 (m_circ (m_set (ar 1) (t - 97) 6 0))) 11 0) (ua ar 1 (ar 1))) H := hP
        have hD : va_D A (MW E o (us (us (us (us (us sc 7 1) 8 3) 9 3) 10 (m_circ (m_set (ar 1) (t - 97) 6 0))) 11 0) (ua ar 1 (ar 1))) := hD
        refine lv_pop hx hb dX5_putBack_87 rfl ?_
        refine lv_bipush (v := iI 32) hx hb dX5_putBack_88 (by decide) ?_
        have hA : A_back (ar 1) t = .inr (.inl (3, (m_circ (m_set (ar 1) (t - 97) 6 0)))) := by
          unfold A_back
          rw [if_neg hnz, if_pos (by assumption)]
        have hfin : 32 = rs_val 32 (A_back (ar 1) t) := by
          first | (rw [hA]; done) | (rw [hA]; rfl)
        have hP : va_P E.1 CL (MW E o (us (us (us (us (us (us sc 5 (sc 5)) 7 1) 8 3) 9 3) 10 (m_circ (m_set (ar 1) (t - 97) 6 0))) 11 0) (ua ar 1 (ar 1))) H := hP
        have hD : va_D A (MW E o (us (us (us (us (us (us sc 5 (sc 5)) 7 1) 8 3) 9 3) 10 (m_circ (m_set (ar 1) (t - 97) 6 0))) 11 0) (ua ar 1 (ar 1))) := hD
        have w_19 : sc 5 = rs_cw (sc 6) (sc 5) (A_back (ar 1) t) := by
          first | (rw [hA]; done) | (rw [hA]; rfl) | (rw [hA]; exact if_pos hden) | (rw [hA]; exact if_neg hden) | (rw [hA]; exact rfl) | (rw [hA]; exact rfl)
        rw [show (us (us (us (us (us (us sc 5 (sc 5)) 7 1) 8 3) 9 3) 10 (m_circ (m_set (ar 1) (t - 97) 6 0))) 11 0) = (us (us (us (us (us (us sc 5 (rs_cw (sc 6) (sc 5) (A_back (ar 1) t))) 7 1) 8 3) 9 3) 10 (m_circ (m_set (ar 1) (t - 97) 6 0))) 11 0) from congrArg (fun z0 : Int => (us (us (us (us (us (us sc 5 z0) 7 1) 8 3) 9 3) 10 (m_circ (m_set (ar 1) (t - 97) 6 0))) 11 0)) w_19] at hP hD
        have w_20 : 1 = rs_ref (A_back (ar 1) t) := by
          first | (rw [hA]; done) | (rw [hA]; rfl) | (rw [hA]; exact if_pos hden) | (rw [hA]; exact if_neg hden) | (rw [hA]; exact rfl) | (rw [hA]; exact rfl)
        rw [show (us (us (us (us (us (us sc 5 (rs_cw (sc 6) (sc 5) (A_back (ar 1) t))) 7 1) 8 3) 9 3) 10 (m_circ (m_set (ar 1) (t - 97) 6 0))) 11 0) = (us (us (us (us (us (us sc 5 (rs_cw (sc 6) (sc 5) (A_back (ar 1) t))) 7 (rs_ref (A_back (ar 1) t))) 8 3) 9 3) 10 (m_circ (m_set (ar 1) (t - 97) 6 0))) 11 0) from congrArg (fun z0 : Int => (us (us (us (us (us (us sc 5 (rs_cw (sc 6) (sc 5) (A_back (ar 1) t))) 7 z0) 8 3) 9 3) 10 (m_circ (m_set (ar 1) (t - 97) 6 0))) 11 0)) w_20] at hP hD
        have w_21 : 3 = rs_code 3 (A_back (ar 1) t) := by
          first | (rw [hA]; done) | (rw [hA]; rfl) | (rw [hA]; exact if_pos hden) | (rw [hA]; exact if_neg hden) | (rw [hA]; exact rfl) | (rw [hA]; exact rfl)
        rw [show (us (us (us (us (us (us sc 5 (rs_cw (sc 6) (sc 5) (A_back (ar 1) t))) 7 (rs_ref (A_back (ar 1) t))) 8 3) 9 3) 10 (m_circ (m_set (ar 1) (t - 97) 6 0))) 11 0) = (us (us (us (us (us (us sc 5 (rs_cw (sc 6) (sc 5) (A_back (ar 1) t))) 7 (rs_ref (A_back (ar 1) t))) 8 (rs_code 3 (A_back (ar 1) t))) 9 3) 10 (m_circ (m_set (ar 1) (t - 97) 6 0))) 11 0) from congrArg (fun z0 : Int => (us (us (us (us (us (us sc 5 (rs_cw (sc 6) (sc 5) (A_back (ar 1) t))) 7 (rs_ref (A_back (ar 1) t))) 8 z0) 9 3) 10 (m_circ (m_set (ar 1) (t - 97) 6 0))) 11 0)) w_21] at hP hD
        have w_22 : 3 = rs_why (sc 9) (A_back (ar 1) t) := by
          first | (rw [hA]; done) | (rw [hA]; rfl) | (rw [hA]; exact if_pos hden) | (rw [hA]; exact if_neg hden) | (rw [hA]; exact rfl) | (rw [hA]; exact rfl)
        rw [show (us (us (us (us (us (us sc 5 (rs_cw (sc 6) (sc 5) (A_back (ar 1) t))) 7 (rs_ref (A_back (ar 1) t))) 8 (rs_code 3 (A_back (ar 1) t))) 9 3) 10 (m_circ (m_set (ar 1) (t - 97) 6 0))) 11 0) = (us (us (us (us (us (us sc 5 (rs_cw (sc 6) (sc 5) (A_back (ar 1) t))) 7 (rs_ref (A_back (ar 1) t))) 8 (rs_code 3 (A_back (ar 1) t))) 9 (rs_why (sc 9) (A_back (ar 1) t))) 10 (m_circ (m_set (ar 1) (t - 97) 6 0))) 11 0) from congrArg (fun z0 : Int => (us (us (us (us (us (us sc 5 (rs_cw (sc 6) (sc 5) (A_back (ar 1) t))) 7 (rs_ref (A_back (ar 1) t))) 8 (rs_code 3 (A_back (ar 1) t))) 9 z0) 10 (m_circ (m_set (ar 1) (t - 97) 6 0))) 11 0)) w_22] at hP hD
        have w_23 : (m_circ (m_set (ar 1) (t - 97) 6 0)) = rs_det (sc 10) (A_back (ar 1) t) := by
          first | (rw [hA]; done) | (rw [hA]; rfl) | (rw [hA]; exact if_pos hden) | (rw [hA]; exact if_neg hden) | (rw [hA]; exact rfl) | (rw [hA]; exact rfl)
        rw [show (us (us (us (us (us (us sc 5 (rs_cw (sc 6) (sc 5) (A_back (ar 1) t))) 7 (rs_ref (A_back (ar 1) t))) 8 (rs_code 3 (A_back (ar 1) t))) 9 (rs_why (sc 9) (A_back (ar 1) t))) 10 (m_circ (m_set (ar 1) (t - 97) 6 0))) 11 0) = (us (us (us (us (us (us sc 5 (rs_cw (sc 6) (sc 5) (A_back (ar 1) t))) 7 (rs_ref (A_back (ar 1) t))) 8 (rs_code 3 (A_back (ar 1) t))) 9 (rs_why (sc 9) (A_back (ar 1) t))) 10 (rs_det (sc 10) (A_back (ar 1) t))) 11 0) from congrArg (fun z0 : Int => (us (us (us (us (us (us sc 5 (rs_cw (sc 6) (sc 5) (A_back (ar 1) t))) 7 (rs_ref (A_back (ar 1) t))) 8 (rs_code 3 (A_back (ar 1) t))) 9 (rs_why (sc 9) (A_back (ar 1) t))) 10 z0) 11 0)) w_23] at hP hD
        have w_24 : 0 = rs_cau (sc 11) (A_back (ar 1) t) := by
          first | (rw [hA]; done) | (rw [hA]; rfl) | (rw [hA]; exact if_pos hden) | (rw [hA]; exact if_neg hden) | (rw [hA]; exact rfl) | (rw [hA]; exact rfl)
        rw [show (us (us (us (us (us (us sc 5 (rs_cw (sc 6) (sc 5) (A_back (ar 1) t))) 7 (rs_ref (A_back (ar 1) t))) 8 (rs_code 3 (A_back (ar 1) t))) 9 (rs_why (sc 9) (A_back (ar 1) t))) 10 (rs_det (sc 10) (A_back (ar 1) t))) 11 0) = (us (us (us (us (us (us sc 5 (rs_cw (sc 6) (sc 5) (A_back (ar 1) t))) 7 (rs_ref (A_back (ar 1) t))) 8 (rs_code 3 (A_back (ar 1) t))) 9 (rs_why (sc 9) (A_back (ar 1) t))) 10 (rs_det (sc 10) (A_back (ar 1) t))) 11 (rs_cau (sc 11) (A_back (ar 1) t))) from congrArg (fun z0 : Int => (us (us (us (us (us (us sc 5 (rs_cw (sc 6) (sc 5) (A_back (ar 1) t))) 7 (rs_ref (A_back (ar 1) t))) 8 (rs_code 3 (A_back (ar 1) t))) 9 (rs_why (sc 9) (A_back (ar 1) t))) 10 (rs_det (sc 10) (A_back (ar 1) t))) 11 z0)) w_24] at hP hD
        have w_25 : ar 1 = rs_g (ar 1) (A_back (ar 1) t) := by
          first | (rw [hA]; done) | (rw [hA]; rfl) | (rw [hA]; exact if_pos hden) | (rw [hA]; exact if_neg hden) | (rw [hA]; exact rfl) | (rw [hA]; exact rfl)
        rw [show (ua ar 1 (ar 1)) = (ua ar 1 (rs_g (ar 1) (A_back (ar 1) t))) from congrArg (fun z0 : Int → Int => (ua ar 1 z0)) w_25] at hP hD
        have hP : va_P E.1 CL (MW E o (us (us (us (us (us (us sc 5 (rs_cw (sc 6) (sc 5) (A_back (ar 1) t))) 7 (rs_ref (A_back (ar 1) t))) 8 (rs_code 3 (A_back (ar 1) t))) 9 (rs_why (sc 9) (A_back (ar 1) t))) 10 (rs_det (sc 10) (A_back (ar 1) t))) 11 (rs_cau (sc 11) (A_back (ar 1) t))) (ua (ua ar 1 (rs_g (ar 1) (A_back (ar 1) t))) 2 (ar 2))) H := hP
        have hD : va_D A (MW E o (us (us (us (us (us (us sc 5 (rs_cw (sc 6) (sc 5) (A_back (ar 1) t))) 7 (rs_ref (A_back (ar 1) t))) 8 (rs_code 3 (A_back (ar 1) t))) 9 (rs_why (sc 9) (A_back (ar 1) t))) 10 (rs_det (sc 10) (A_back (ar 1) t))) 11 (rs_cau (sc 11) (A_back (ar 1) t))) (ua (ua ar 1 (rs_g (ar 1) (A_back (ar 1) t))) 2 (ar 2))) := hD
        have w_26 : ar 2 = rs_kw (sc 6) (ar 2) (ar 1) (sc 5) (A_back (ar 1) t) := by
          rw [hA]
          first | rfl | exact ear 2
        rw [show (ua (ua ar 1 (rs_g (ar 1) (A_back (ar 1) t))) 2 (ar 2)) = (ua (ua ar 1 (rs_g (ar 1) (A_back (ar 1) t))) 2 (rs_kw (sc 6) (ar 2) (ar 1) (sc 5) (A_back (ar 1) t))) from congrArg (fun z0 : Int → Int => (ua (ua ar 1 (rs_g (ar 1) (A_back (ar 1) t))) 2 z0)) w_26] at hP hD
        exact W.zret (v := iI 32) hx hb hr (nr_c (by omega)) (fun tt_ ht_ hW_ => ⟨⟨iI 32, (), rfl, (congrArg iI hfin), by rw [ht_]; exact hP, hD⟩, hS.F ht_⟩) hS.2.2 dX5_putBack_90
    · refine lv_bipush (v := iI 32) hx hb dX5_putBack_36 (by decide) ?_
      have hA : A_back (ar 1) t = .inl (c_back (ar 1) t) := by
        unfold A_back
        rw [if_pos (by assumption)]
      have hfin : 32 = rs_val 32 (A_back (ar 1) t) := by
        first | (rw [hA]; done) | (rw [hA]; rfl)
      have hP : va_P E.1 CL (MW E o (us (us (us sc 5 (sc 5)) 7 0) 8 (c_back (ar 1) t)) ar) H := hP
      have hD : va_D A (MW E o (us (us (us sc 5 (sc 5)) 7 0) 8 (c_back (ar 1) t)) ar) := hD
      have w_27 : sc 5 = rs_cw (sc 6) (sc 5) (A_back (ar 1) t) := by
        first | (rw [hA]; done) | (rw [hA]; rfl) | (rw [hA]; exact if_pos hden) | (rw [hA]; exact if_neg hden) | (rw [hA]; exact rfl) | (rw [hA]; exact rfl)
      rw [show (us (us (us sc 5 (sc 5)) 7 0) 8 (c_back (ar 1) t)) = (us (us (us sc 5 (rs_cw (sc 6) (sc 5) (A_back (ar 1) t))) 7 0) 8 (c_back (ar 1) t)) from congrArg (fun z0 : Int => (us (us (us sc 5 z0) 7 0) 8 (c_back (ar 1) t))) w_27] at hP hD
      have w_28 : 0 = rs_ref (A_back (ar 1) t) := by
        first | (rw [hA]; done) | (rw [hA]; rfl) | (rw [hA]; exact if_pos hden) | (rw [hA]; exact if_neg hden) | (rw [hA]; exact rfl) | (rw [hA]; exact rfl)
      rw [show (us (us (us sc 5 (rs_cw (sc 6) (sc 5) (A_back (ar 1) t))) 7 0) 8 (c_back (ar 1) t)) = (us (us (us sc 5 (rs_cw (sc 6) (sc 5) (A_back (ar 1) t))) 7 (rs_ref (A_back (ar 1) t))) 8 (c_back (ar 1) t)) from congrArg (fun z0 : Int => (us (us (us sc 5 (rs_cw (sc 6) (sc 5) (A_back (ar 1) t))) 7 z0) 8 (c_back (ar 1) t))) w_28] at hP hD
      have w_29 : (c_back (ar 1) t) = rs_code 3 (A_back (ar 1) t) := by
        first | (rw [hA]; done) | (rw [hA]; rfl) | (rw [hA]; exact if_pos hden) | (rw [hA]; exact if_neg hden) | (rw [hA]; exact rfl) | (rw [hA]; exact rfl)
      rw [show (us (us (us sc 5 (rs_cw (sc 6) (sc 5) (A_back (ar 1) t))) 7 (rs_ref (A_back (ar 1) t))) 8 (c_back (ar 1) t)) = (us (us (us sc 5 (rs_cw (sc 6) (sc 5) (A_back (ar 1) t))) 7 (rs_ref (A_back (ar 1) t))) 8 (rs_code 3 (A_back (ar 1) t))) from congrArg (fun z0 : Int => (us (us (us sc 5 (rs_cw (sc 6) (sc 5) (A_back (ar 1) t))) 7 (rs_ref (A_back (ar 1) t))) 8 z0)) w_29] at hP hD
      have hP : va_P E.1 CL (MW E o (us (us (us (us sc 5 (rs_cw (sc 6) (sc 5) (A_back (ar 1) t))) 7 (rs_ref (A_back (ar 1) t))) 8 (rs_code 3 (A_back (ar 1) t))) 9 (sc 9)) ar) H := hP
      have hD : va_D A (MW E o (us (us (us (us sc 5 (rs_cw (sc 6) (sc 5) (A_back (ar 1) t))) 7 (rs_ref (A_back (ar 1) t))) 8 (rs_code 3 (A_back (ar 1) t))) 9 (sc 9)) ar) := hD
      have w_30 : sc 9 = rs_why (sc 9) (A_back (ar 1) t) := by
        first | (rw [hA]; done) | (rw [hA]; rfl) | (rw [hA]; exact if_pos hden) | (rw [hA]; exact if_neg hden) | (rw [hA]; exact rfl) | (rw [hA]; exact rfl)
      rw [show (us (us (us (us sc 5 (rs_cw (sc 6) (sc 5) (A_back (ar 1) t))) 7 (rs_ref (A_back (ar 1) t))) 8 (rs_code 3 (A_back (ar 1) t))) 9 (sc 9)) = (us (us (us (us sc 5 (rs_cw (sc 6) (sc 5) (A_back (ar 1) t))) 7 (rs_ref (A_back (ar 1) t))) 8 (rs_code 3 (A_back (ar 1) t))) 9 (rs_why (sc 9) (A_back (ar 1) t))) from congrArg (fun z0 : Int => (us (us (us (us sc 5 (rs_cw (sc 6) (sc 5) (A_back (ar 1) t))) 7 (rs_ref (A_back (ar 1) t))) 8 (rs_code 3 (A_back (ar 1) t))) 9 z0)) w_30] at hP hD
      have hP : va_P E.1 CL (MW E o (us (us (us (us (us sc 5 (rs_cw (sc 6) (sc 5) (A_back (ar 1) t))) 7 (rs_ref (A_back (ar 1) t))) 8 (rs_code 3 (A_back (ar 1) t))) 9 (rs_why (sc 9) (A_back (ar 1) t))) 10 (sc 10)) ar) H := hP
      have hD : va_D A (MW E o (us (us (us (us (us sc 5 (rs_cw (sc 6) (sc 5) (A_back (ar 1) t))) 7 (rs_ref (A_back (ar 1) t))) 8 (rs_code 3 (A_back (ar 1) t))) 9 (rs_why (sc 9) (A_back (ar 1) t))) 10 (sc 10)) ar) := hD
      have w_31 : sc 10 = rs_det (sc 10) (A_back (ar 1) t) := by
        first | (rw [hA]; done) | (rw [hA]; rfl) | (rw [hA]; exact if_pos hden) | (rw [hA]; exact if_neg hden) | (rw [hA]; exact rfl) | (rw [hA]; exact rfl)
      rw [show (us (us (us (us (us sc 5 (rs_cw (sc 6) (sc 5) (A_back (ar 1) t))) 7 (rs_ref (A_back (ar 1) t))) 8 (rs_code 3 (A_back (ar 1) t))) 9 (rs_why (sc 9) (A_back (ar 1) t))) 10 (sc 10)) = (us (us (us (us (us sc 5 (rs_cw (sc 6) (sc 5) (A_back (ar 1) t))) 7 (rs_ref (A_back (ar 1) t))) 8 (rs_code 3 (A_back (ar 1) t))) 9 (rs_why (sc 9) (A_back (ar 1) t))) 10 (rs_det (sc 10) (A_back (ar 1) t))) from congrArg (fun z0 : Int => (us (us (us (us (us sc 5 (rs_cw (sc 6) (sc 5) (A_back (ar 1) t))) 7 (rs_ref (A_back (ar 1) t))) 8 (rs_code 3 (A_back (ar 1) t))) 9 (rs_why (sc 9) (A_back (ar 1) t))) 10 z0)) w_31] at hP hD
      have hP : va_P E.1 CL (MW E o (us (us (us (us (us (us sc 5 (rs_cw (sc 6) (sc 5) (A_back (ar 1) t))) 7 (rs_ref (A_back (ar 1) t))) 8 (rs_code 3 (A_back (ar 1) t))) 9 (rs_why (sc 9) (A_back (ar 1) t))) 10 (rs_det (sc 10) (A_back (ar 1) t))) 11 (sc 11)) ar) H := hP
      have hD : va_D A (MW E o (us (us (us (us (us (us sc 5 (rs_cw (sc 6) (sc 5) (A_back (ar 1) t))) 7 (rs_ref (A_back (ar 1) t))) 8 (rs_code 3 (A_back (ar 1) t))) 9 (rs_why (sc 9) (A_back (ar 1) t))) 10 (rs_det (sc 10) (A_back (ar 1) t))) 11 (sc 11)) ar) := hD
      have w_32 : sc 11 = rs_cau (sc 11) (A_back (ar 1) t) := by
        first | (rw [hA]; done) | (rw [hA]; rfl) | (rw [hA]; exact if_pos hden) | (rw [hA]; exact if_neg hden) | (rw [hA]; exact rfl) | (rw [hA]; exact rfl)
      rw [show (us (us (us (us (us (us sc 5 (rs_cw (sc 6) (sc 5) (A_back (ar 1) t))) 7 (rs_ref (A_back (ar 1) t))) 8 (rs_code 3 (A_back (ar 1) t))) 9 (rs_why (sc 9) (A_back (ar 1) t))) 10 (rs_det (sc 10) (A_back (ar 1) t))) 11 (sc 11)) = (us (us (us (us (us (us sc 5 (rs_cw (sc 6) (sc 5) (A_back (ar 1) t))) 7 (rs_ref (A_back (ar 1) t))) 8 (rs_code 3 (A_back (ar 1) t))) 9 (rs_why (sc 9) (A_back (ar 1) t))) 10 (rs_det (sc 10) (A_back (ar 1) t))) 11 (rs_cau (sc 11) (A_back (ar 1) t))) from congrArg (fun z0 : Int => (us (us (us (us (us (us sc 5 (rs_cw (sc 6) (sc 5) (A_back (ar 1) t))) 7 (rs_ref (A_back (ar 1) t))) 8 (rs_code 3 (A_back (ar 1) t))) 9 (rs_why (sc 9) (A_back (ar 1) t))) 10 (rs_det (sc 10) (A_back (ar 1) t))) 11 z0)) w_32] at hP hD
      have hP : va_P E.1 CL (MW E o (us (us (us (us (us (us sc 5 (rs_cw (sc 6) (sc 5) (A_back (ar 1) t))) 7 (rs_ref (A_back (ar 1) t))) 8 (rs_code 3 (A_back (ar 1) t))) 9 (rs_why (sc 9) (A_back (ar 1) t))) 10 (rs_det (sc 10) (A_back (ar 1) t))) 11 (rs_cau (sc 11) (A_back (ar 1) t))) (ua ar 1 (ar 1))) H := hP
      have hD : va_D A (MW E o (us (us (us (us (us (us sc 5 (rs_cw (sc 6) (sc 5) (A_back (ar 1) t))) 7 (rs_ref (A_back (ar 1) t))) 8 (rs_code 3 (A_back (ar 1) t))) 9 (rs_why (sc 9) (A_back (ar 1) t))) 10 (rs_det (sc 10) (A_back (ar 1) t))) 11 (rs_cau (sc 11) (A_back (ar 1) t))) (ua ar 1 (ar 1))) := hD
      have w_33 : ar 1 = rs_g (ar 1) (A_back (ar 1) t) := by
        first | (rw [hA]; done) | (rw [hA]; rfl) | (rw [hA]; exact if_pos hden) | (rw [hA]; exact if_neg hden) | (rw [hA]; exact rfl) | (rw [hA]; exact rfl)
      rw [show (ua ar 1 (ar 1)) = (ua ar 1 (rs_g (ar 1) (A_back (ar 1) t))) from congrArg (fun z0 : Int → Int => (ua ar 1 z0)) w_33] at hP hD
      have hP : va_P E.1 CL (MW E o (us (us (us (us (us (us sc 5 (rs_cw (sc 6) (sc 5) (A_back (ar 1) t))) 7 (rs_ref (A_back (ar 1) t))) 8 (rs_code 3 (A_back (ar 1) t))) 9 (rs_why (sc 9) (A_back (ar 1) t))) 10 (rs_det (sc 10) (A_back (ar 1) t))) 11 (rs_cau (sc 11) (A_back (ar 1) t))) (ua (ua ar 1 (rs_g (ar 1) (A_back (ar 1) t))) 2 (ar 2))) H := hP
      have hD : va_D A (MW E o (us (us (us (us (us (us sc 5 (rs_cw (sc 6) (sc 5) (A_back (ar 1) t))) 7 (rs_ref (A_back (ar 1) t))) 8 (rs_code 3 (A_back (ar 1) t))) 9 (rs_why (sc 9) (A_back (ar 1) t))) 10 (rs_det (sc 10) (A_back (ar 1) t))) 11 (rs_cau (sc 11) (A_back (ar 1) t))) (ua (ua ar 1 (rs_g (ar 1) (A_back (ar 1) t))) 2 (ar 2))) := hD
      have w_34 : ar 2 = rs_kw (sc 6) (ar 2) (ar 1) (sc 5) (A_back (ar 1) t) := by
        rw [hA]
        first | rfl | exact ear 2
      rw [show (ua (ua ar 1 (rs_g (ar 1) (A_back (ar 1) t))) 2 (ar 2)) = (ua (ua ar 1 (rs_g (ar 1) (A_back (ar 1) t))) 2 (rs_kw (sc 6) (ar 2) (ar 1) (sc 5) (A_back (ar 1) t))) from congrArg (fun z0 : Int → Int => (ua (ua ar 1 (rs_g (ar 1) (A_back (ar 1) t))) 2 z0)) w_34] at hP hD
      exact W.zret (v := iI 32) hx hb hr (nr_c (by omega)) (fun tt_ ht_ hW_ => ⟨⟨iI 32, (), rfl, (congrArg iI hfin), by rw [ht_]; exact hP, hD⟩, hS.F ht_⟩) hS.2.2 dX5_putBack_38
  refine lv_iload_n hx hb dX5_putBack_1 rfl (lv_at hl 1 rfl) ?_
  refine n_csi (x := b2 (decide (97 ≤ t ∧ t ≤ 104))) (va_runS (As := [iv t]) (rest := [.ref (o 0)]) ⟨hx, hb, hml, hown, hts⟩ (mt_X5_isTool l E o sc ar t (by omega)) (va_cwS 1 hts (lw_S q2107 q2108 q113 q2109) rfl rfl rfl (by decide +kernel) ⟨Nat.le_of_ble_eq_true rfl, Nat.le_of_ble_eq_true rfl⟩) (PW_S hP hK) rfl rfl hl.1 rfl (lv_room (Nat.le_of_ble_eq_true rfl)) dX5_putBack_2 ⟨Nat.le_of_ble_eq_true rfl, Nat.le_of_ble_eq_true rfl⟩) ?_
  refine n_ifd_ne (tgt := 12) hx hb dX5_putBack_5 (by decide) (fun c_35 => ?_) (fun c_35 => ?_)
  · refine lv_aload_n hx hb dX5_putBack_12 rfl (lv_at hl 0 rfl) ?_
    refine lv_iload_n hx hb dX5_putBack_13 rfl (lv_at hl 1 rfl) ?_
    refine lv_bipush (v := iI 97) hx hb dX5_putBack_14 (by decide) ?_
    refine n_isub hx hb dX5_putBack_16 ?_
    refine lv_bipush (v := iI 6) hx hb dX5_putBack_17 (by decide) ?_
    refine n_csi (x := m_of (ar 1) (t - 97) 6) (va_runV (As := [iv (t - 97), iv 6]) (rest := [.ref (o 0)]) ⟨hx, hb, hml, hown, hts⟩ (mt_X5_of l E o sc ar (t - 97) 6 (by omega)) (cwV 2 hts (lw_V q2120 q2122 qs49 q113 q2123) rfl rfl rfl (by decide +kernel) ⟨Nat.le_of_ble_eq_true rfl, Nat.le_of_ble_eq_true rfl⟩) (PW_V hP hK (va_recv hK.1 hP (ci := 0) (q0 := 0) rfl rfl)) rfl rfl hl.1 rfl (lv_room (Nat.le_of_ble_eq_true rfl)) dX5_putBack_19 ⟨Nat.le_of_ble_eq_true rfl, Nat.le_of_ble_eq_true rfl⟩) ?_
    have b_36 := (show 0 ≤ m_of (ar 1) (t - 97) 6 ∧ m_of (ar 1) (t - 97) 6 < 2147483648 from (hB 1) _)
    refine n_if_ne (tgt := 29) hx hb dX5_putBack_22 (by decide) (by omega) (fun c_37 => ?_) (fun c_37 => ?_)
    · refine lv_iconst (v := iI 0) hx hb dX5_putBack_29 rfl ?_
      refine n_top (y := c_back (ar 1) t) (by (try unfold c_back); (repeat' split) <;> first | rfl | omega | contradiction | (exfalso; omega) | (simp_all; done)) ?_
      exact j_1
    · refine lv_iconst (v := iI 2) hx hb dX5_putBack_25 rfl ?_
      refine lv_goto (tgt := 30) hx hb dX5_putBack_26 (by decide) ?_
      refine n_top (y := c_back (ar 1) t) (by (try unfold c_back); (repeat' split) <;> first | rfl | omega | contradiction | (exfalso; omega) | (simp_all; done)) ?_
      exact j_1
  · refine lv_iconst (v := iI 1) hx hb dX5_putBack_8 rfl ?_
    refine lv_goto (tgt := 30) hx hb dX5_putBack_9 (by decide) ?_
    refine n_top (y := c_back (ar 1) t) (by (try unfold c_back); (repeat' split) <;> first | rfl | omega | contradiction | (exfalso; omega) | (simp_all; done)) ?_
    exact j_1
set_option maxHeartbeats 4000000 in
set_option maxRecDepth 100000 in
theorem mt_X5_openThread (l : Launch) (E : EE) (o : Nat → Nat) (sc : Nat → Int) (ar : Nat → Int → Int) (hB : ∀ k x, 0 ≤ ar k x ∧ ar k x < 2147483648) (hch : 0 ≤ sc 5 ∧ sc 5 ≤ 8) (hwi : 0 ≤ sc 6 ∧ sc 6 ≤ 1) (sz : Nat) : Met l yX5_openThread (ws_ yX5_openThread cX5_openThread 2 (some .int)) { frames := 2, cells := 0, slots := 0, locals := 46 } (va_Pc [.ref (o 0)] (UW E (MW E o sc ar) sz)) (UQi E (rs_val 0 (A_open (ar 1))) (MW E o (us (us (us (us (us (us sc 5 (rs_cw (sc 6) (sc 5) (A_open (ar 1)))) 7 (rs_ref (A_open (ar 1)))) 8 (rs_code 1 (A_open (ar 1)))) 9 (rs_why (sc 9) (A_open (ar 1)))) 10 (rs_det (sc 10) (A_open (ar 1)))) 11 (rs_cau (sc 11) (A_open (ar 1)))) (ua (ua ar 1 (rs_g (ar 1) (A_open (ar 1)))) 2 (rs_kw (sc 6) (ar 2) (ar 1) (sc 5) (A_open (ar 1))))) (va_A (MW E o sc ar) sz)) 0 0 (va_A (MW E o sc ar) sz) := by
  refine Met.ofW (cc := cX5_openThread) (maxL := 2) (ret := (some .int)) (by decide) rfl ?_
  intro p e s m args below meth c s₁ B hml hv
  obtain ⟨rfl, hsz, hP, hK, hD0⟩ := hv
  have hx := B.exec
  have hb := B.bytes
  have hr := B.returns
  have hts := atoms_spec (ws := (ws_ yX5_openThread cX5_openThread 2 (some .int))) B.pre
  have hts : ∀ w ∈ lw_all, w.before _ s = true := fun w h => hts w (List.mem_cons_of_mem _ h)
  have hown : s.vm.findClass RX5 = some m.cls := findClass_of_methodNamed B.named
  have hlocks := B.notSynchronized
  subst hsz
  have hD := hD0.self (sz := s.heap.size)
  generalize hAe : va_A (MW E o sc ar) s.heap.size = A at hD ⊢
  have hA : ∀ q : Nat, s.heap.size ≤ q → A q := fun q h => by rw [← hAe]; exact Or.inr h
  have hS : va_S A s.heap s.heap [] := va_S.rf
  have hl := lv_entry ([.ref (o 0)]) (n := 2) (Nat.le_of_ble_eq_true rfl)
  rw [lg_entry_eq]
  generalize (lg_sl ([.ref (o 0)]) ++ List.replicate (2 - (lg_sl ([.ref (o 0)])).length) Slot.unset).toArray = ls at hl ⊢
  have hl : lv_has ls 2 [(0, .ref (o 0))] := hl
  refine lv_iconst (v := iI 0) hx hb dX5_openThread_0 rfl ?_
  refine lv_istore_n (lv' := [(1, iv 0), (0, .ref (o 0))]) hx hb dX5_openThread_1 rfl hl (by decide) rfl (fun ls hl => ?_)
  have l2 : ∀ (fu : Nat) (x1 : Int), (0 ≤ x1 ∧ x1 ≤ 4) → (fnd (fun k => !(m_opened (ar 1) k)) x1 = -1) → (4 - x1 < (fu : Int)) → ∀ ls : Array Slot, lv_has ls 2 [(1, iv x1), (0, .ref (o 0))] → W p l e (headSpec (ws_ yX5_openThread cX5_openThread 2 (some .int)) { frames := 2, cells := 0, slots := 0, locals := 46 }).room s m ([.ref (o 0)] : List Value).toArray below meth c s.heap [] 0 0 (MQ below (UQi E (rs_val 0 (A_open (ar 1))) (MW E o (us (us (us (us (us (us sc 5 (rs_cw (sc 6) (sc 5) (A_open (ar 1)))) 7 (rs_ref (A_open (ar 1)))) 8 (rs_code 1 (A_open (ar 1)))) 9 (rs_why (sc 9) (A_open (ar 1)))) 10 (rs_det (sc 10) (A_open (ar 1)))) 11 (rs_cau (sc 11) (A_open (ar 1)))) (ua (ua ar 1 (rs_g (ar 1) (A_open (ar 1)))) 2 (rs_kw (sc 6) (ar 2) (ar 1) (sc 5) (A_open (ar 1))))) A) ([.ref (o 0)] : List Value).toArray s 0 0 A) (F0 m 2 ls []) := by
    intro fu
    induction fu with
    | zero =>
      intro x1 il2_0 il2_1 hm
      exfalso; omega
    | succ fu ih =>
      intro x1 il2_0 il2_1 hm ls hl
      have ihl2 := ih
      refine lv_iload_n hx hb dX5_openThread_2 rfl (lv_at hl 0 rfl) ?_
      refine lv_iconst (v := iI 4) hx hb dX5_openThread_3 rfl ?_
      refine n_icmp_ge (tgt := 21) hx hb dX5_openThread_4 (by decide) (by omega) (by omega) (fun c_1 => ?_) (fun c_1 => ?_)
      · refine lv_aload_n hx hb dX5_openThread_21 rfl (lv_at hl 1 rfl) ?_
        refine lv_iload_n hx hb dX5_openThread_22 rfl (lv_at hl 0 rfl) ?_
        refine lv_iconst (v := iI 4) hx hb dX5_openThread_23 rfl ?_
        refine n_icmp_ne (tgt := 31) hx hb dX5_openThread_24 (by decide) (by omega) (by omega) (fun c_2 => ?_) (fun c_2 => ?_)
        · exfalso; omega
        · refine lv_iconst (v := iI 1) hx hb dX5_openThread_27 rfl ?_
          refine lv_goto (tgt := 32) hx hb dX5_openThread_28 (by decide) ?_
          refine n_cui (x := b2 (decide (0 < 1))) (va_runV (As := [iv 1]) (rest := []) ⟨hx, hb, hml, hown, hts⟩ (mt_X5_fails l E o sc ar 1 (by omega) _) (cwV 1 hts (lw_V q2124 q2126 qs50 q113 q2127) rfl rfl rfl (by decide +kernel) ⟨Nat.le_of_ble_eq_true rfl, Nat.le_of_ble_eq_true rfl⟩) (UW_V hP hK (hD) (va_recv hK.1 hP (ci := 0) (q0 := 0) rfl rfl)) rfl rfl hl.1 rfl (lv_room (Nat.le_of_ble_eq_true rfl)) dX5_openThread_32 ⟨Nat.le_of_ble_eq_true rfl, Nat.le_of_ble_eq_true rfl⟩) hD hS hA (fun H locs hP hD hS => ?_)
          have hP : va_P E.1 CL (MW E o (us (us sc 7 0) 8 1) ar) H := hP
          have hD : va_D A (MW E o (us (us sc 7 0) 8 1) ar) := hD
          refine n_ifd_eq (tgt := 40) hx hb dX5_openThread_35 (by decide) (fun c_3 => absurd (show (0 : Int) < 1 by decide) c_3) (fun _ => ?_)
          have hmf : m_free (ar 1) = -1 := by
            obtain rfl : x1 = 4 := by omega
            exact il2_1
          refine lv_iconst (v := iI 0) hx hb dX5_openThread_38 rfl ?_
          have hA : A_open (ar 1) = .inl 1 := by
            unfold A_open
            rw [hmf, if_pos rfl]
          have hfin : 0 = rs_val 0 (A_open (ar 1)) := by
            first | (rw [hA]; done) | (rw [hA]; rfl)
          have hP : va_P E.1 CL (MW E o (us (us (us sc 5 (sc 5)) 7 0) 8 1) ar) H := hP
          have hD : va_D A (MW E o (us (us (us sc 5 (sc 5)) 7 0) 8 1) ar) := hD
          have w_4 : sc 5 = rs_cw (sc 6) (sc 5) (A_open (ar 1)) := by
            first | (rw [hA]; done) | (rw [hA]; rfl) | (rw [hA]; exact if_pos hden) | (rw [hA]; exact if_neg hden) | (rw [hA]; exact rfl) | (rw [hA]; exact rfl)
          rw [show (us (us (us sc 5 (sc 5)) 7 0) 8 1) = (us (us (us sc 5 (rs_cw (sc 6) (sc 5) (A_open (ar 1)))) 7 0) 8 1) from congrArg (fun z0 : Int => (us (us (us sc 5 z0) 7 0) 8 1)) w_4] at hP hD
          have w_5 : 0 = rs_ref (A_open (ar 1)) := by
            first | (rw [hA]; done) | (rw [hA]; rfl) | (rw [hA]; exact if_pos hden) | (rw [hA]; exact if_neg hden) | (rw [hA]; exact rfl) | (rw [hA]; exact rfl)
          rw [show (us (us (us sc 5 (rs_cw (sc 6) (sc 5) (A_open (ar 1)))) 7 0) 8 1) = (us (us (us sc 5 (rs_cw (sc 6) (sc 5) (A_open (ar 1)))) 7 (rs_ref (A_open (ar 1)))) 8 1) from congrArg (fun z0 : Int => (us (us (us sc 5 (rs_cw (sc 6) (sc 5) (A_open (ar 1)))) 7 z0) 8 1)) w_5] at hP hD
          have w_6 : 1 = rs_code 1 (A_open (ar 1)) := by
            first | (rw [hA]; done) | (rw [hA]; rfl) | (rw [hA]; exact if_pos hden) | (rw [hA]; exact if_neg hden) | (rw [hA]; exact rfl) | (rw [hA]; exact rfl)
          rw [show (us (us (us sc 5 (rs_cw (sc 6) (sc 5) (A_open (ar 1)))) 7 (rs_ref (A_open (ar 1)))) 8 1) = (us (us (us sc 5 (rs_cw (sc 6) (sc 5) (A_open (ar 1)))) 7 (rs_ref (A_open (ar 1)))) 8 (rs_code 1 (A_open (ar 1)))) from congrArg (fun z0 : Int => (us (us (us sc 5 (rs_cw (sc 6) (sc 5) (A_open (ar 1)))) 7 (rs_ref (A_open (ar 1)))) 8 z0)) w_6] at hP hD
          have hP : va_P E.1 CL (MW E o (us (us (us (us sc 5 (rs_cw (sc 6) (sc 5) (A_open (ar 1)))) 7 (rs_ref (A_open (ar 1)))) 8 (rs_code 1 (A_open (ar 1)))) 9 (sc 9)) ar) H := hP
          have hD : va_D A (MW E o (us (us (us (us sc 5 (rs_cw (sc 6) (sc 5) (A_open (ar 1)))) 7 (rs_ref (A_open (ar 1)))) 8 (rs_code 1 (A_open (ar 1)))) 9 (sc 9)) ar) := hD
          have w_7 : sc 9 = rs_why (sc 9) (A_open (ar 1)) := by
            first | (rw [hA]; done) | (rw [hA]; rfl) | (rw [hA]; exact if_pos hden) | (rw [hA]; exact if_neg hden) | (rw [hA]; exact rfl) | (rw [hA]; exact rfl)
          rw [show (us (us (us (us sc 5 (rs_cw (sc 6) (sc 5) (A_open (ar 1)))) 7 (rs_ref (A_open (ar 1)))) 8 (rs_code 1 (A_open (ar 1)))) 9 (sc 9)) = (us (us (us (us sc 5 (rs_cw (sc 6) (sc 5) (A_open (ar 1)))) 7 (rs_ref (A_open (ar 1)))) 8 (rs_code 1 (A_open (ar 1)))) 9 (rs_why (sc 9) (A_open (ar 1)))) from congrArg (fun z0 : Int => (us (us (us (us sc 5 (rs_cw (sc 6) (sc 5) (A_open (ar 1)))) 7 (rs_ref (A_open (ar 1)))) 8 (rs_code 1 (A_open (ar 1)))) 9 z0)) w_7] at hP hD
          have hP : va_P E.1 CL (MW E o (us (us (us (us (us sc 5 (rs_cw (sc 6) (sc 5) (A_open (ar 1)))) 7 (rs_ref (A_open (ar 1)))) 8 (rs_code 1 (A_open (ar 1)))) 9 (rs_why (sc 9) (A_open (ar 1)))) 10 (sc 10)) ar) H := hP
          have hD : va_D A (MW E o (us (us (us (us (us sc 5 (rs_cw (sc 6) (sc 5) (A_open (ar 1)))) 7 (rs_ref (A_open (ar 1)))) 8 (rs_code 1 (A_open (ar 1)))) 9 (rs_why (sc 9) (A_open (ar 1)))) 10 (sc 10)) ar) := hD
          have w_8 : sc 10 = rs_det (sc 10) (A_open (ar 1)) := by
            first | (rw [hA]; done) | (rw [hA]; rfl) | (rw [hA]; exact if_pos hden) | (rw [hA]; exact if_neg hden) | (rw [hA]; exact rfl) | (rw [hA]; exact rfl)
          rw [show (us (us (us (us (us sc 5 (rs_cw (sc 6) (sc 5) (A_open (ar 1)))) 7 (rs_ref (A_open (ar 1)))) 8 (rs_code 1 (A_open (ar 1)))) 9 (rs_why (sc 9) (A_open (ar 1)))) 10 (sc 10)) = (us (us (us (us (us sc 5 (rs_cw (sc 6) (sc 5) (A_open (ar 1)))) 7 (rs_ref (A_open (ar 1)))) 8 (rs_code 1 (A_open (ar 1)))) 9 (rs_why (sc 9) (A_open (ar 1)))) 10 (rs_det (sc 10) (A_open (ar 1)))) from congrArg (fun z0 : Int => (us (us (us (us (us sc 5 (rs_cw (sc 6) (sc 5) (A_open (ar 1)))) 7 (rs_ref (A_open (ar 1)))) 8 (rs_code 1 (A_open (ar 1)))) 9 (rs_why (sc 9) (A_open (ar 1)))) 10 z0)) w_8] at hP hD
          have hP : va_P E.1 CL (MW E o (us (us (us (us (us (us sc 5 (rs_cw (sc 6) (sc 5) (A_open (ar 1)))) 7 (rs_ref (A_open (ar 1)))) 8 (rs_code 1 (A_open (ar 1)))) 9 (rs_why (sc 9) (A_open (ar 1)))) 10 (rs_det (sc 10) (A_open (ar 1)))) 11 (sc 11)) ar) H := hP
          have hD : va_D A (MW E o (us (us (us (us (us (us sc 5 (rs_cw (sc 6) (sc 5) (A_open (ar 1)))) 7 (rs_ref (A_open (ar 1)))) 8 (rs_code 1 (A_open (ar 1)))) 9 (rs_why (sc 9) (A_open (ar 1)))) 10 (rs_det (sc 10) (A_open (ar 1)))) 11 (sc 11)) ar) := hD
          have w_9 : sc 11 = rs_cau (sc 11) (A_open (ar 1)) := by
            first | (rw [hA]; done) | (rw [hA]; rfl) | (rw [hA]; exact if_pos hden) | (rw [hA]; exact if_neg hden) | (rw [hA]; exact rfl) | (rw [hA]; exact rfl)
          rw [show (us (us (us (us (us (us sc 5 (rs_cw (sc 6) (sc 5) (A_open (ar 1)))) 7 (rs_ref (A_open (ar 1)))) 8 (rs_code 1 (A_open (ar 1)))) 9 (rs_why (sc 9) (A_open (ar 1)))) 10 (rs_det (sc 10) (A_open (ar 1)))) 11 (sc 11)) = (us (us (us (us (us (us sc 5 (rs_cw (sc 6) (sc 5) (A_open (ar 1)))) 7 (rs_ref (A_open (ar 1)))) 8 (rs_code 1 (A_open (ar 1)))) 9 (rs_why (sc 9) (A_open (ar 1)))) 10 (rs_det (sc 10) (A_open (ar 1)))) 11 (rs_cau (sc 11) (A_open (ar 1)))) from congrArg (fun z0 : Int => (us (us (us (us (us (us sc 5 (rs_cw (sc 6) (sc 5) (A_open (ar 1)))) 7 (rs_ref (A_open (ar 1)))) 8 (rs_code 1 (A_open (ar 1)))) 9 (rs_why (sc 9) (A_open (ar 1)))) 10 (rs_det (sc 10) (A_open (ar 1)))) 11 z0)) w_9] at hP hD
          have hP : va_P E.1 CL (MW E o (us (us (us (us (us (us sc 5 (rs_cw (sc 6) (sc 5) (A_open (ar 1)))) 7 (rs_ref (A_open (ar 1)))) 8 (rs_code 1 (A_open (ar 1)))) 9 (rs_why (sc 9) (A_open (ar 1)))) 10 (rs_det (sc 10) (A_open (ar 1)))) 11 (rs_cau (sc 11) (A_open (ar 1)))) (ua ar 1 (ar 1))) H := hP
          have hD : va_D A (MW E o (us (us (us (us (us (us sc 5 (rs_cw (sc 6) (sc 5) (A_open (ar 1)))) 7 (rs_ref (A_open (ar 1)))) 8 (rs_code 1 (A_open (ar 1)))) 9 (rs_why (sc 9) (A_open (ar 1)))) 10 (rs_det (sc 10) (A_open (ar 1)))) 11 (rs_cau (sc 11) (A_open (ar 1)))) (ua ar 1 (ar 1))) := hD
          have w_10 : ar 1 = rs_g (ar 1) (A_open (ar 1)) := by
            first | (rw [hA]; done) | (rw [hA]; rfl) | (rw [hA]; exact if_pos hden) | (rw [hA]; exact if_neg hden) | (rw [hA]; exact rfl) | (rw [hA]; exact rfl)
          rw [show (ua ar 1 (ar 1)) = (ua ar 1 (rs_g (ar 1) (A_open (ar 1)))) from congrArg (fun z0 : Int → Int => (ua ar 1 z0)) w_10] at hP hD
          have hP : va_P E.1 CL (MW E o (us (us (us (us (us (us sc 5 (rs_cw (sc 6) (sc 5) (A_open (ar 1)))) 7 (rs_ref (A_open (ar 1)))) 8 (rs_code 1 (A_open (ar 1)))) 9 (rs_why (sc 9) (A_open (ar 1)))) 10 (rs_det (sc 10) (A_open (ar 1)))) 11 (rs_cau (sc 11) (A_open (ar 1)))) (ua (ua ar 1 (rs_g (ar 1) (A_open (ar 1)))) 2 (ar 2))) H := hP
          have hD : va_D A (MW E o (us (us (us (us (us (us sc 5 (rs_cw (sc 6) (sc 5) (A_open (ar 1)))) 7 (rs_ref (A_open (ar 1)))) 8 (rs_code 1 (A_open (ar 1)))) 9 (rs_why (sc 9) (A_open (ar 1)))) 10 (rs_det (sc 10) (A_open (ar 1)))) 11 (rs_cau (sc 11) (A_open (ar 1)))) (ua (ua ar 1 (rs_g (ar 1) (A_open (ar 1)))) 2 (ar 2))) := hD
          have w_11 : ar 2 = rs_kw (sc 6) (ar 2) (ar 1) (sc 5) (A_open (ar 1)) := by
            rw [hA]
            first | rfl | exact ear 2
          rw [show (ua (ua ar 1 (rs_g (ar 1) (A_open (ar 1)))) 2 (ar 2)) = (ua (ua ar 1 (rs_g (ar 1) (A_open (ar 1)))) 2 (rs_kw (sc 6) (ar 2) (ar 1) (sc 5) (A_open (ar 1)))) from congrArg (fun z0 : Int → Int => (ua (ua ar 1 (rs_g (ar 1) (A_open (ar 1)))) 2 z0)) w_11] at hP hD
          exact W.iret (v := iI 0) hx hb hr (fun tt_ ht_ hW_ => ⟨⟨iI 0, (), rfl, (congrArg iI hfin), by rw [ht_]; exact hP, hD⟩, hS.F ht_⟩) hS.2.2 dX5_openThread_39
      · refine lv_aload_n hx hb dX5_openThread_7 rfl (lv_at hl 1 rfl) ?_
        refine lv_iload_n hx hb dX5_openThread_8 rfl (lv_at hl 0 rfl) ?_
        refine n_csi (x := b2 (m_opened (ar 1) x1)) (va_runV (As := [iv x1]) (rest := []) ⟨hx, hb, hml, hown, hts⟩ (mt_X5_isOpened l E o sc ar x1 hB (by omega)) (cwV 1 hts (lw_V q2300 q2302 qs71 q113 q2303) rfl rfl rfl (by decide +kernel) ⟨Nat.le_of_ble_eq_true rfl, Nat.le_of_ble_eq_true rfl⟩) (PW_V hP hK (va_recv hK.1 hP (ci := 0) (q0 := 0) rfl rfl)) rfl rfl hl.1 rfl (lv_room (Nat.le_of_ble_eq_true rfl)) dX5_openThread_9 ⟨Nat.le_of_ble_eq_true rfl, Nat.le_of_ble_eq_true rfl⟩) ?_
        refine n_ifb_eq (tgt := 21) hx hb dX5_openThread_12 (by decide) (fun c_12 => ?_) (fun c_12 => ?_)
        · refine lv_aload_n hx hb dX5_openThread_21 rfl (lv_at hl 1 rfl) ?_
          refine lv_iload_n hx hb dX5_openThread_22 rfl (lv_at hl 0 rfl) ?_
          refine lv_iconst (v := iI 4) hx hb dX5_openThread_23 rfl ?_
          refine n_icmp_ne (tgt := 31) hx hb dX5_openThread_24 (by decide) (by omega) (by omega) (fun c_13 => ?_) (fun c_13 => ?_)
          · refine lv_iconst (v := iI 0) hx hb dX5_openThread_31 rfl ?_
            refine n_cui (x := b2 (decide (0 < 0))) (va_runV (As := [iv 0]) (rest := []) ⟨hx, hb, hml, hown, hts⟩ (mt_X5_fails l E o sc ar 0 (by omega) _) (cwV 1 hts (lw_V q2124 q2126 qs50 q113 q2127) rfl rfl rfl (by decide +kernel) ⟨Nat.le_of_ble_eq_true rfl, Nat.le_of_ble_eq_true rfl⟩) (UW_V hP hK (hD) (va_recv hK.1 hP (ci := 0) (q0 := 0) rfl rfl)) rfl rfl hl.1 rfl (lv_room (Nat.le_of_ble_eq_true rfl)) dX5_openThread_32 ⟨Nat.le_of_ble_eq_true rfl, Nat.le_of_ble_eq_true rfl⟩) hD hS hA (fun H locs hP hD hS => ?_)
            have hP : va_P E.1 CL (MW E o (us (us sc 7 0) 8 0) ar) H := hP
            have hD : va_D A (MW E o (us (us sc 7 0) 8 0) ar) := hD
            refine n_ifd_eq (tgt := 40) hx hb dX5_openThread_35 (by decide) (fun _ => ?_) (fun c_14 => absurd (show (0 : Int) < 0 from c_14) (by decide))
            have hmf : m_free (ar 1) = x1 := fnd_yes (by omega) (by omega) il2_1 (by simp [c_1, c_12, c_13])
            have hb0 := hB 1 0
            have hb1 := hB 1 1
            have hpw := pw_r (k := x1) (by omega)
            refine lv_aload_n hx hb dX5_openThread_40 rfl (lv_at hl 1 rfl) ?_
            refine lv_aload_n hx hb dX5_openThread_41 rfl (lv_at hl 1 rfl) ?_
            refine va_get (D := E.1) (ci := 0) (v := .ref (o 1)) (C := RX5) (T := TX5) (N := 23) hx hb hts in_X5 hown hK.1 hP 0 rfl rfl 0 (by decide) (hts _ q2029) (fun _ h9 => h9) rfl dX5_openThread_42 ?_
            refine n_cuv (va_runV (As := [.ref (o 1)]) (rest := []) ⟨hx, hb, hml, hown, hts⟩ (mt_X5_keeps1 l E o (us (us sc 7 0) 8 0) ar  (by first | omega | exact hch) (by first | omega | exact hwi) _) (cwV 1 hts (lw_V q2128 q2130 qs51 q113 q2131) rfl rfl rfl (by decide +kernel) ⟨Nat.le_of_ble_eq_true rfl, Nat.le_of_ble_eq_true rfl⟩) (UW_V hP hK (hD) (va_recv hK.1 hP (ci := 0) (q0 := 0) rfl rfl)) rfl rfl hl.1 rfl (lv_room (Nat.le_of_ble_eq_true rfl)) dX5_openThread_45 ⟨Nat.le_of_ble_eq_true rfl, Nat.le_of_ble_eq_true rfl⟩) hD hS hA (fun H locs hP hD hS => ?_)
            have hP : va_P E.1 CL (MW E o (us (us (us sc 5 (k_cw (sc 6) (sc 5))) 7 0) 8 0) (ua ar 2 (k_kw (sc 6) (ar 2) (ar 1) (sc 5)))) H := hP
            have hD : va_D A (MW E o (us (us (us sc 5 (k_cw (sc 6) (sc 5))) 7 0) 8 0) (ua ar 2 (k_kw (sc 6) (ar 2) (ar 1) (sc 5)))) := hD
            obtain ⟨a_15, ea_15⟩ : ∃ zz : Int → Int, zz = k_kw (sc 6) (ar 2) (ar 1) (sc 5) := ⟨_, rfl⟩
            rw [← ea_15] at hP hD
            have hBa_15 := k_kw_b (w := (sc 6)) (c := (sc 5)) (hB 2) (hB 1)
            rw [← ea_15] at hBa_15
            refine lv_aload_n hx hb dX5_openThread_48 rfl (lv_at hl 1 rfl) ?_
            refine va_get (D := E.1) (ci := 0) (v := .ref (o 1)) (C := RX5) (T := TX5) (N := 23) hx hb hts in_X5 hown hK.1 hP 0 rfl rfl 0 (by decide) (hts _ q2029) (fun _ h9 => h9) rfl dX5_openThread_49 ?_
            refine lv_iconst (v := iI 0) hx hb dX5_openThread_52 rfl ?_
            refine lv_dup2_11 hx hb dX5_openThread_53 rfl rfl ?_
            refine n_iald (f := ar 1) hx hb hK.1 hP 1 0 rfl rfl (by omega) (by decide) dX5_openThread_54 ?_
            refine lv_iconst (v := iI 1) hx hb dX5_openThread_55 rfl ?_
            refine lv_iload_n hx hb dX5_openThread_56 rfl (lv_at hl 0 rfl) ?_
            refine n_ishl1 hx hb (by omega) dX5_openThread_57 ?_
            have b_16 := (hB 1) 0
            have b_17 := pw_r (k := x1) (by omega)
            refine n_ior hx hb (by omega) (by omega) dX5_openThread_58 ?_
            have b_18 := bor_r (a := ar 1 0) (b := pw x1) (by omega) (by omega)
            refine n_iast (f := ar 1) hx hb hK.1 hP hD hS 1 0 rfl rfl (by omega) (by decide) dX5_openThread_59 (ws2 := MW E o (us (us (us sc 5 (k_cw (sc 6) (sc 5))) 7 0) 8 0) (ua (ua ar 1 (ui (ar 1) 0 (bor (ar 1 0) (pw x1)))) 2 a_15)) rfl (fun H locs hP hD hS => ?_)
            obtain ⟨a_19, ea_19⟩ : ∃ zz : Int → Int, zz = ui (ar 1) 0 (bor (ar 1 0) (pw x1)) := ⟨_, rfl⟩
            rw [← ea_19] at hP hD
            have hBa_19 := ui_b (i := 0) (hB 1) (show 0 ≤ bor (ar 1 0) (pw x1) ∧ bor (ar 1 0) (pw x1) < 2147483648 by omega); rw [← ea_19] at hBa_19
            refine lv_iload_n hx hb dX5_openThread_60 rfl (lv_at hl 0 rfl) ?_
            have hA : A_open (ar 1) = .inr (.inr (x1, a_19)) := by
              unfold A_open
              rw [hmf, if_neg (by omega), ea_19]
            have hfin : x1 = rs_val 0 (A_open (ar 1)) := by
              first | (rw [hA]; done) | (rw [hA]; rfl)
            have w_20 : k_cw (sc 6) (sc 5) = rs_cw (sc 6) (sc 5) (A_open (ar 1)) := by
              first | (rw [hA]; done) | (rw [hA]; rfl) | (rw [hA]; exact if_pos hden) | (rw [hA]; exact if_neg hden) | (rw [hA]; exact rfl) | (rw [hA]; exact rfl)
            rw [show (us (us (us sc 5 (k_cw (sc 6) (sc 5))) 7 0) 8 0) = (us (us (us sc 5 (rs_cw (sc 6) (sc 5) (A_open (ar 1)))) 7 0) 8 0) from congrArg (fun z0 : Int => (us (us (us sc 5 z0) 7 0) 8 0)) w_20] at hP hD
            have w_21 : 0 = rs_ref (A_open (ar 1)) := by
              first | (rw [hA]; done) | (rw [hA]; rfl) | (rw [hA]; exact if_pos hden) | (rw [hA]; exact if_neg hden) | (rw [hA]; exact rfl) | (rw [hA]; exact rfl)
            rw [show (us (us (us sc 5 (rs_cw (sc 6) (sc 5) (A_open (ar 1)))) 7 0) 8 0) = (us (us (us sc 5 (rs_cw (sc 6) (sc 5) (A_open (ar 1)))) 7 (rs_ref (A_open (ar 1)))) 8 0) from congrArg (fun z0 : Int => (us (us (us sc 5 (rs_cw (sc 6) (sc 5) (A_open (ar 1)))) 7 z0) 8 0)) w_21] at hP hD
            have w_22 : 0 = rs_code 1 (A_open (ar 1)) := by
              first | (rw [hA]; done) | (rw [hA]; rfl) | (rw [hA]; exact if_pos hden) | (rw [hA]; exact if_neg hden) | (rw [hA]; exact rfl) | (rw [hA]; exact rfl)
            rw [show (us (us (us sc 5 (rs_cw (sc 6) (sc 5) (A_open (ar 1)))) 7 (rs_ref (A_open (ar 1)))) 8 0) = (us (us (us sc 5 (rs_cw (sc 6) (sc 5) (A_open (ar 1)))) 7 (rs_ref (A_open (ar 1)))) 8 (rs_code 1 (A_open (ar 1)))) from congrArg (fun z0 : Int => (us (us (us sc 5 (rs_cw (sc 6) (sc 5) (A_open (ar 1)))) 7 (rs_ref (A_open (ar 1)))) 8 z0)) w_22] at hP hD
            have hP : va_P E.1 CL (MW E o (us (us (us (us sc 5 (rs_cw (sc 6) (sc 5) (A_open (ar 1)))) 7 (rs_ref (A_open (ar 1)))) 8 (rs_code 1 (A_open (ar 1)))) 9 (sc 9)) (ua (ua ar 1 a_19) 2 a_15)) H := hP
            have hD : va_D A (MW E o (us (us (us (us sc 5 (rs_cw (sc 6) (sc 5) (A_open (ar 1)))) 7 (rs_ref (A_open (ar 1)))) 8 (rs_code 1 (A_open (ar 1)))) 9 (sc 9)) (ua (ua ar 1 a_19) 2 a_15)) := hD
            have w_23 : sc 9 = rs_why (sc 9) (A_open (ar 1)) := by
              first | (rw [hA]; done) | (rw [hA]; rfl) | (rw [hA]; exact if_pos hden) | (rw [hA]; exact if_neg hden) | (rw [hA]; exact rfl) | (rw [hA]; exact rfl)
            rw [show (us (us (us (us sc 5 (rs_cw (sc 6) (sc 5) (A_open (ar 1)))) 7 (rs_ref (A_open (ar 1)))) 8 (rs_code 1 (A_open (ar 1)))) 9 (sc 9)) = (us (us (us (us sc 5 (rs_cw (sc 6) (sc 5) (A_open (ar 1)))) 7 (rs_ref (A_open (ar 1)))) 8 (rs_code 1 (A_open (ar 1)))) 9 (rs_why (sc 9) (A_open (ar 1)))) from congrArg (fun z0 : Int => (us (us (us (us sc 5 (rs_cw (sc 6) (sc 5) (A_open (ar 1)))) 7 (rs_ref (A_open (ar 1)))) 8 (rs_code 1 (A_open (ar 1)))) 9 z0)) w_23] at hP hD
            have hP : va_P E.1 CL (MW E o (us (us (us (us (us sc 5 (rs_cw (sc 6) (sc 5) (A_open (ar 1)))) 7 (rs_ref (A_open (ar 1)))) 8 (rs_code 1 (A_open (ar 1)))) 9 (rs_why (sc 9) (A_open (ar 1)))) 10 (sc 10)) (ua (ua ar 1 a_19) 2 a_15)) H := hP
            have hD : va_D A (MW E o (us (us (us (us (us sc 5 (rs_cw (sc 6) (sc 5) (A_open (ar 1)))) 7 (rs_ref (A_open (ar 1)))) 8 (rs_code 1 (A_open (ar 1)))) 9 (rs_why (sc 9) (A_open (ar 1)))) 10 (sc 10)) (ua (ua ar 1 a_19) 2 a_15)) := hD
            have w_24 : sc 10 = rs_det (sc 10) (A_open (ar 1)) := by
              first | (rw [hA]; done) | (rw [hA]; rfl) | (rw [hA]; exact if_pos hden) | (rw [hA]; exact if_neg hden) | (rw [hA]; exact rfl) | (rw [hA]; exact rfl)
            rw [show (us (us (us (us (us sc 5 (rs_cw (sc 6) (sc 5) (A_open (ar 1)))) 7 (rs_ref (A_open (ar 1)))) 8 (rs_code 1 (A_open (ar 1)))) 9 (rs_why (sc 9) (A_open (ar 1)))) 10 (sc 10)) = (us (us (us (us (us sc 5 (rs_cw (sc 6) (sc 5) (A_open (ar 1)))) 7 (rs_ref (A_open (ar 1)))) 8 (rs_code 1 (A_open (ar 1)))) 9 (rs_why (sc 9) (A_open (ar 1)))) 10 (rs_det (sc 10) (A_open (ar 1)))) from congrArg (fun z0 : Int => (us (us (us (us (us sc 5 (rs_cw (sc 6) (sc 5) (A_open (ar 1)))) 7 (rs_ref (A_open (ar 1)))) 8 (rs_code 1 (A_open (ar 1)))) 9 (rs_why (sc 9) (A_open (ar 1)))) 10 z0)) w_24] at hP hD
            have hP : va_P E.1 CL (MW E o (us (us (us (us (us (us sc 5 (rs_cw (sc 6) (sc 5) (A_open (ar 1)))) 7 (rs_ref (A_open (ar 1)))) 8 (rs_code 1 (A_open (ar 1)))) 9 (rs_why (sc 9) (A_open (ar 1)))) 10 (rs_det (sc 10) (A_open (ar 1)))) 11 (sc 11)) (ua (ua ar 1 a_19) 2 a_15)) H := hP
            have hD : va_D A (MW E o (us (us (us (us (us (us sc 5 (rs_cw (sc 6) (sc 5) (A_open (ar 1)))) 7 (rs_ref (A_open (ar 1)))) 8 (rs_code 1 (A_open (ar 1)))) 9 (rs_why (sc 9) (A_open (ar 1)))) 10 (rs_det (sc 10) (A_open (ar 1)))) 11 (sc 11)) (ua (ua ar 1 a_19) 2 a_15)) := hD
            have w_25 : sc 11 = rs_cau (sc 11) (A_open (ar 1)) := by
              first | (rw [hA]; done) | (rw [hA]; rfl) | (rw [hA]; exact if_pos hden) | (rw [hA]; exact if_neg hden) | (rw [hA]; exact rfl) | (rw [hA]; exact rfl)
            rw [show (us (us (us (us (us (us sc 5 (rs_cw (sc 6) (sc 5) (A_open (ar 1)))) 7 (rs_ref (A_open (ar 1)))) 8 (rs_code 1 (A_open (ar 1)))) 9 (rs_why (sc 9) (A_open (ar 1)))) 10 (rs_det (sc 10) (A_open (ar 1)))) 11 (sc 11)) = (us (us (us (us (us (us sc 5 (rs_cw (sc 6) (sc 5) (A_open (ar 1)))) 7 (rs_ref (A_open (ar 1)))) 8 (rs_code 1 (A_open (ar 1)))) 9 (rs_why (sc 9) (A_open (ar 1)))) 10 (rs_det (sc 10) (A_open (ar 1)))) 11 (rs_cau (sc 11) (A_open (ar 1)))) from congrArg (fun z0 : Int => (us (us (us (us (us (us sc 5 (rs_cw (sc 6) (sc 5) (A_open (ar 1)))) 7 (rs_ref (A_open (ar 1)))) 8 (rs_code 1 (A_open (ar 1)))) 9 (rs_why (sc 9) (A_open (ar 1)))) 10 (rs_det (sc 10) (A_open (ar 1)))) 11 z0)) w_25] at hP hD
            have w_26 : a_19 = rs_g (ar 1) (A_open (ar 1)) := by
              first | (rw [hA]; done) | (rw [hA]; rfl) | (rw [hA]; exact if_pos hden) | (rw [hA]; exact if_neg hden) | (rw [hA]; exact rfl) | (rw [hA]; exact rfl)
            rw [show (ua (ua ar 1 a_19) 2 a_15) = (ua (ua ar 1 (rs_g (ar 1) (A_open (ar 1)))) 2 a_15) from congrArg (fun z0 : Int → Int => (ua (ua ar 1 z0) 2 a_15)) w_26] at hP hD
            have w_27 : a_15 = rs_kw (sc 6) (ar 2) (ar 1) (sc 5) (A_open (ar 1)) := by
              rw [hA]
              first | rfl | exact ea_15
            rw [show (ua (ua ar 1 (rs_g (ar 1) (A_open (ar 1)))) 2 a_15) = (ua (ua ar 1 (rs_g (ar 1) (A_open (ar 1)))) 2 (rs_kw (sc 6) (ar 2) (ar 1) (sc 5) (A_open (ar 1)))) from congrArg (fun z0 : Int → Int => (ua (ua ar 1 (rs_g (ar 1) (A_open (ar 1)))) 2 z0)) w_27] at hP hD
            exact W.iret (v := iI x1) hx hb hr (fun tt_ ht_ hW_ => ⟨⟨iI x1, (), rfl, (congrArg iI hfin), by rw [ht_]; exact hP, hD⟩, hS.F ht_⟩) hS.2.2 dX5_openThread_61
          · exfalso; omega
        · refine lv_iinc (v := iI (x1 + 1)) (lv' := [(1, iv (x1 + 1)), (0, .ref (o 0))]) hx hb dX5_openThread_15 hl (k := 0) rfl (iI_add _ _) (by decide) rfl (fun ls hl => ?_)
          refine lv_goto (tgt := 2) hx hb dX5_openThread_18 (by decide) ?_
          exact ihl2 (x1 + 1) (by first | omega | rfl) (by exact fnd_no (by omega) il2_1 (by simp [c_1, c_12, b2_t])) (by omega) ls (lv_sub hl [0, 1] rfl)
  exact l2 5 0 (by first | omega | rfl | trivial) (by rfl) (by omega) ls hl
set_option maxHeartbeats 4000000 in
set_option maxRecDepth 100000 in
theorem mt_X5_closeThread (l : Launch) (E : EE) (o : Nat → Nat) (sc : Nat → Int) (ar : Nat → Int → Int) (th : Int) (hB : ∀ k x, 0 ≤ ar k x ∧ ar k x < 2147483648) (hth : -2147483648 ≤ th ∧ th < 2147483648) (how : OW (ar 1)) (hch : 0 ≤ sc 5 ∧ sc 5 ≤ 8) (hwi : 0 ≤ sc 6 ∧ sc 6 ≤ 1) (sz : Nat) : Met l yX5_closeThread (ws_ yX5_closeThread cX5_closeThread 4 (some .int)) { frames := 2, cells := 0, slots := 0, locals := 46 } (va_Pc [.ref (o 0), iv th] (UW E (MW E o sc ar) sz)) (UQi E (rs_val 0 (A_close (ar 1) th)) (MW E o (us (us (us (us (us (us sc 5 (rs_cw (sc 6) (sc 5) (A_close (ar 1) th))) 7 (rs_ref (A_close (ar 1) th))) 8 (rs_code 1 (A_close (ar 1) th))) 9 (rs_why (sc 9) (A_close (ar 1) th))) 10 (rs_det (sc 10) (A_close (ar 1) th))) 11 (rs_cau (sc 11) (A_close (ar 1) th))) (ua (ua ar 1 (rs_g (ar 1) (A_close (ar 1) th))) 2 (rs_kw (sc 6) (ar 2) (ar 1) (sc 5) (A_close (ar 1) th)))) (va_A (MW E o sc ar) sz)) 0 0 (va_A (MW E o sc ar) sz) := by
  refine Met.ofW (cc := cX5_closeThread) (maxL := 4) (ret := (some .int)) (by decide) rfl ?_
  intro p e s m args below meth c s₁ B hml hv
  obtain ⟨rfl, hsz, hP, hK, hD0⟩ := hv
  have hx := B.exec
  have hb := B.bytes
  have hr := B.returns
  have hts := atoms_spec (ws := (ws_ yX5_closeThread cX5_closeThread 4 (some .int))) B.pre
  have hts : ∀ w ∈ lw_all, w.before _ s = true := fun w h => hts w (List.mem_cons_of_mem _ h)
  have hown : s.vm.findClass RX5 = some m.cls := findClass_of_methodNamed B.named
  have hlocks := B.notSynchronized
  subst hsz
  have hD := hD0.self (sz := s.heap.size)
  generalize hAe : va_A (MW E o sc ar) s.heap.size = A at hD ⊢
  have hA : ∀ q : Nat, s.heap.size ≤ q → A q := fun q h => by rw [← hAe]; exact Or.inr h
  have hS : va_S A s.heap s.heap [] := va_S.rf
  have hl := lv_entry ([.ref (o 0), iv th]) (n := 4) (Nat.le_of_ble_eq_true rfl)
  rw [lg_entry_eq]
  generalize (lg_sl ([.ref (o 0), iv th]) ++ List.replicate (4 - (lg_sl ([.ref (o 0), iv th])).length) Slot.unset).toArray = ls at hl ⊢
  have hl : lv_has ls 4 [(0, .ref (o 0)), (1, iv th)] := hl
  have ho1 := how.1
  have ho2 := how.2.1
  refine lv_aload_n hx hb dX5_closeThread_0 rfl (lv_at hl 0 rfl) ?_
  refine lv_aload_n hx hb dX5_closeThread_1 rfl (lv_at hl 0 rfl) ?_
  refine lv_iload_n hx hb dX5_closeThread_2 rfl (lv_at hl 1 rfl) ?_
  refine n_csi (x := b2 (m_opened (ar 1) th)) (va_runV (As := [iv th]) (rest := [.ref (o 0)]) ⟨hx, hb, hml, hown, hts⟩ (mt_X5_isOpened l E o sc ar th hB (by omega)) (cwV 1 hts (lw_V q2300 q2302 qs71 q113 q2303) rfl rfl rfl (by decide +kernel) ⟨Nat.le_of_ble_eq_true rfl, Nat.le_of_ble_eq_true rfl⟩) (PW_V hP hK (va_recv hK.1 hP (ci := 0) (q0 := 0) rfl rfl)) rfl rfl hl.1 rfl (lv_room (Nat.le_of_ble_eq_true rfl)) dX5_closeThread_3 ⟨Nat.le_of_ble_eq_true rfl, Nat.le_of_ble_eq_true rfl⟩) ?_
  refine n_ifb_eq (tgt := 13) hx hb dX5_closeThread_6 (by decide) (fun c_1 => ?_) (fun c_1 => ?_)
  · refine lv_iconst (v := iI 1) hx hb dX5_closeThread_13 rfl ?_
    refine n_cui (x := b2 (decide (0 < 1))) (va_runV (As := [iv 1]) (rest := []) ⟨hx, hb, hml, hown, hts⟩ (mt_X5_fails l E o sc ar 1 (by omega) _) (cwV 1 hts (lw_V q2124 q2126 qs50 q113 q2127) rfl rfl rfl (by decide +kernel) ⟨Nat.le_of_ble_eq_true rfl, Nat.le_of_ble_eq_true rfl⟩) (UW_V hP hK (hD) (va_recv hK.1 hP (ci := 0) (q0 := 0) rfl rfl)) rfl rfl hl.1 rfl (lv_room (Nat.le_of_ble_eq_true rfl)) dX5_closeThread_14 ⟨Nat.le_of_ble_eq_true rfl, Nat.le_of_ble_eq_true rfl⟩) hD hS hA (fun H locs hP hD hS => ?_)
    have hP : va_P E.1 CL (MW E o (us (us sc 7 0) 8 1) ar) H := hP
    have hD : va_D A (MW E o (us (us sc 7 0) 8 1) ar) := hD
    refine n_ifd_eq (tgt := 22) hx hb dX5_closeThread_17 (by decide) (fun c_2 => absurd (show (0 : Int) < 1 by decide) c_2) (fun _ => ?_)
    refine lv_iconst (v := iI 0) hx hb dX5_closeThread_20 rfl ?_
    have hA : A_close (ar 1) th = .inl 1 := by
      unfold A_close
      rw [if_neg (by rw [show m_opened (ar 1) th = false by assumption]; decide)]
    have hfin : 0 = rs_val 0 (A_close (ar 1) th) := by
      first | (rw [hA]; done) | (rw [hA]; rfl)
    have hP : va_P E.1 CL (MW E o (us (us (us sc 5 (sc 5)) 7 0) 8 1) ar) H := hP
    have hD : va_D A (MW E o (us (us (us sc 5 (sc 5)) 7 0) 8 1) ar) := hD
    have w_3 : sc 5 = rs_cw (sc 6) (sc 5) (A_close (ar 1) th) := by
      first | (rw [hA]; done) | (rw [hA]; rfl) | (rw [hA]; exact if_pos hden) | (rw [hA]; exact if_neg hden) | (rw [hA]; exact rfl) | (rw [hA]; exact rfl)
    rw [show (us (us (us sc 5 (sc 5)) 7 0) 8 1) = (us (us (us sc 5 (rs_cw (sc 6) (sc 5) (A_close (ar 1) th))) 7 0) 8 1) from congrArg (fun z0 : Int => (us (us (us sc 5 z0) 7 0) 8 1)) w_3] at hP hD
    have w_4 : 0 = rs_ref (A_close (ar 1) th) := by
      first | (rw [hA]; done) | (rw [hA]; rfl) | (rw [hA]; exact if_pos hden) | (rw [hA]; exact if_neg hden) | (rw [hA]; exact rfl) | (rw [hA]; exact rfl)
    rw [show (us (us (us sc 5 (rs_cw (sc 6) (sc 5) (A_close (ar 1) th))) 7 0) 8 1) = (us (us (us sc 5 (rs_cw (sc 6) (sc 5) (A_close (ar 1) th))) 7 (rs_ref (A_close (ar 1) th))) 8 1) from congrArg (fun z0 : Int => (us (us (us sc 5 (rs_cw (sc 6) (sc 5) (A_close (ar 1) th))) 7 z0) 8 1)) w_4] at hP hD
    have w_5 : 1 = rs_code 1 (A_close (ar 1) th) := by
      first | (rw [hA]; done) | (rw [hA]; rfl) | (rw [hA]; exact if_pos hden) | (rw [hA]; exact if_neg hden) | (rw [hA]; exact rfl) | (rw [hA]; exact rfl)
    rw [show (us (us (us sc 5 (rs_cw (sc 6) (sc 5) (A_close (ar 1) th))) 7 (rs_ref (A_close (ar 1) th))) 8 1) = (us (us (us sc 5 (rs_cw (sc 6) (sc 5) (A_close (ar 1) th))) 7 (rs_ref (A_close (ar 1) th))) 8 (rs_code 1 (A_close (ar 1) th))) from congrArg (fun z0 : Int => (us (us (us sc 5 (rs_cw (sc 6) (sc 5) (A_close (ar 1) th))) 7 (rs_ref (A_close (ar 1) th))) 8 z0)) w_5] at hP hD
    have hP : va_P E.1 CL (MW E o (us (us (us (us sc 5 (rs_cw (sc 6) (sc 5) (A_close (ar 1) th))) 7 (rs_ref (A_close (ar 1) th))) 8 (rs_code 1 (A_close (ar 1) th))) 9 (sc 9)) ar) H := hP
    have hD : va_D A (MW E o (us (us (us (us sc 5 (rs_cw (sc 6) (sc 5) (A_close (ar 1) th))) 7 (rs_ref (A_close (ar 1) th))) 8 (rs_code 1 (A_close (ar 1) th))) 9 (sc 9)) ar) := hD
    have w_6 : sc 9 = rs_why (sc 9) (A_close (ar 1) th) := by
      first | (rw [hA]; done) | (rw [hA]; rfl) | (rw [hA]; exact if_pos hden) | (rw [hA]; exact if_neg hden) | (rw [hA]; exact rfl) | (rw [hA]; exact rfl)
    rw [show (us (us (us (us sc 5 (rs_cw (sc 6) (sc 5) (A_close (ar 1) th))) 7 (rs_ref (A_close (ar 1) th))) 8 (rs_code 1 (A_close (ar 1) th))) 9 (sc 9)) = (us (us (us (us sc 5 (rs_cw (sc 6) (sc 5) (A_close (ar 1) th))) 7 (rs_ref (A_close (ar 1) th))) 8 (rs_code 1 (A_close (ar 1) th))) 9 (rs_why (sc 9) (A_close (ar 1) th))) from congrArg (fun z0 : Int => (us (us (us (us sc 5 (rs_cw (sc 6) (sc 5) (A_close (ar 1) th))) 7 (rs_ref (A_close (ar 1) th))) 8 (rs_code 1 (A_close (ar 1) th))) 9 z0)) w_6] at hP hD
    have hP : va_P E.1 CL (MW E o (us (us (us (us (us sc 5 (rs_cw (sc 6) (sc 5) (A_close (ar 1) th))) 7 (rs_ref (A_close (ar 1) th))) 8 (rs_code 1 (A_close (ar 1) th))) 9 (rs_why (sc 9) (A_close (ar 1) th))) 10 (sc 10)) ar) H := hP
    have hD : va_D A (MW E o (us (us (us (us (us sc 5 (rs_cw (sc 6) (sc 5) (A_close (ar 1) th))) 7 (rs_ref (A_close (ar 1) th))) 8 (rs_code 1 (A_close (ar 1) th))) 9 (rs_why (sc 9) (A_close (ar 1) th))) 10 (sc 10)) ar) := hD
    have w_7 : sc 10 = rs_det (sc 10) (A_close (ar 1) th) := by
      first | (rw [hA]; done) | (rw [hA]; rfl) | (rw [hA]; exact if_pos hden) | (rw [hA]; exact if_neg hden) | (rw [hA]; exact rfl) | (rw [hA]; exact rfl)
    rw [show (us (us (us (us (us sc 5 (rs_cw (sc 6) (sc 5) (A_close (ar 1) th))) 7 (rs_ref (A_close (ar 1) th))) 8 (rs_code 1 (A_close (ar 1) th))) 9 (rs_why (sc 9) (A_close (ar 1) th))) 10 (sc 10)) = (us (us (us (us (us sc 5 (rs_cw (sc 6) (sc 5) (A_close (ar 1) th))) 7 (rs_ref (A_close (ar 1) th))) 8 (rs_code 1 (A_close (ar 1) th))) 9 (rs_why (sc 9) (A_close (ar 1) th))) 10 (rs_det (sc 10) (A_close (ar 1) th))) from congrArg (fun z0 : Int => (us (us (us (us (us sc 5 (rs_cw (sc 6) (sc 5) (A_close (ar 1) th))) 7 (rs_ref (A_close (ar 1) th))) 8 (rs_code 1 (A_close (ar 1) th))) 9 (rs_why (sc 9) (A_close (ar 1) th))) 10 z0)) w_7] at hP hD
    have hP : va_P E.1 CL (MW E o (us (us (us (us (us (us sc 5 (rs_cw (sc 6) (sc 5) (A_close (ar 1) th))) 7 (rs_ref (A_close (ar 1) th))) 8 (rs_code 1 (A_close (ar 1) th))) 9 (rs_why (sc 9) (A_close (ar 1) th))) 10 (rs_det (sc 10) (A_close (ar 1) th))) 11 (sc 11)) ar) H := hP
    have hD : va_D A (MW E o (us (us (us (us (us (us sc 5 (rs_cw (sc 6) (sc 5) (A_close (ar 1) th))) 7 (rs_ref (A_close (ar 1) th))) 8 (rs_code 1 (A_close (ar 1) th))) 9 (rs_why (sc 9) (A_close (ar 1) th))) 10 (rs_det (sc 10) (A_close (ar 1) th))) 11 (sc 11)) ar) := hD
    have w_8 : sc 11 = rs_cau (sc 11) (A_close (ar 1) th) := by
      first | (rw [hA]; done) | (rw [hA]; rfl) | (rw [hA]; exact if_pos hden) | (rw [hA]; exact if_neg hden) | (rw [hA]; exact rfl) | (rw [hA]; exact rfl)
    rw [show (us (us (us (us (us (us sc 5 (rs_cw (sc 6) (sc 5) (A_close (ar 1) th))) 7 (rs_ref (A_close (ar 1) th))) 8 (rs_code 1 (A_close (ar 1) th))) 9 (rs_why (sc 9) (A_close (ar 1) th))) 10 (rs_det (sc 10) (A_close (ar 1) th))) 11 (sc 11)) = (us (us (us (us (us (us sc 5 (rs_cw (sc 6) (sc 5) (A_close (ar 1) th))) 7 (rs_ref (A_close (ar 1) th))) 8 (rs_code 1 (A_close (ar 1) th))) 9 (rs_why (sc 9) (A_close (ar 1) th))) 10 (rs_det (sc 10) (A_close (ar 1) th))) 11 (rs_cau (sc 11) (A_close (ar 1) th))) from congrArg (fun z0 : Int => (us (us (us (us (us (us sc 5 (rs_cw (sc 6) (sc 5) (A_close (ar 1) th))) 7 (rs_ref (A_close (ar 1) th))) 8 (rs_code 1 (A_close (ar 1) th))) 9 (rs_why (sc 9) (A_close (ar 1) th))) 10 (rs_det (sc 10) (A_close (ar 1) th))) 11 z0)) w_8] at hP hD
    have hP : va_P E.1 CL (MW E o (us (us (us (us (us (us sc 5 (rs_cw (sc 6) (sc 5) (A_close (ar 1) th))) 7 (rs_ref (A_close (ar 1) th))) 8 (rs_code 1 (A_close (ar 1) th))) 9 (rs_why (sc 9) (A_close (ar 1) th))) 10 (rs_det (sc 10) (A_close (ar 1) th))) 11 (rs_cau (sc 11) (A_close (ar 1) th))) (ua ar 1 (ar 1))) H := hP
    have hD : va_D A (MW E o (us (us (us (us (us (us sc 5 (rs_cw (sc 6) (sc 5) (A_close (ar 1) th))) 7 (rs_ref (A_close (ar 1) th))) 8 (rs_code 1 (A_close (ar 1) th))) 9 (rs_why (sc 9) (A_close (ar 1) th))) 10 (rs_det (sc 10) (A_close (ar 1) th))) 11 (rs_cau (sc 11) (A_close (ar 1) th))) (ua ar 1 (ar 1))) := hD
    have w_9 : ar 1 = rs_g (ar 1) (A_close (ar 1) th) := by
      first | (rw [hA]; done) | (rw [hA]; rfl) | (rw [hA]; exact if_pos hden) | (rw [hA]; exact if_neg hden) | (rw [hA]; exact rfl) | (rw [hA]; exact rfl)
    rw [show (ua ar 1 (ar 1)) = (ua ar 1 (rs_g (ar 1) (A_close (ar 1) th))) from congrArg (fun z0 : Int → Int => (ua ar 1 z0)) w_9] at hP hD
    have hP : va_P E.1 CL (MW E o (us (us (us (us (us (us sc 5 (rs_cw (sc 6) (sc 5) (A_close (ar 1) th))) 7 (rs_ref (A_close (ar 1) th))) 8 (rs_code 1 (A_close (ar 1) th))) 9 (rs_why (sc 9) (A_close (ar 1) th))) 10 (rs_det (sc 10) (A_close (ar 1) th))) 11 (rs_cau (sc 11) (A_close (ar 1) th))) (ua (ua ar 1 (rs_g (ar 1) (A_close (ar 1) th))) 2 (ar 2))) H := hP
    have hD : va_D A (MW E o (us (us (us (us (us (us sc 5 (rs_cw (sc 6) (sc 5) (A_close (ar 1) th))) 7 (rs_ref (A_close (ar 1) th))) 8 (rs_code 1 (A_close (ar 1) th))) 9 (rs_why (sc 9) (A_close (ar 1) th))) 10 (rs_det (sc 10) (A_close (ar 1) th))) 11 (rs_cau (sc 11) (A_close (ar 1) th))) (ua (ua ar 1 (rs_g (ar 1) (A_close (ar 1) th))) 2 (ar 2))) := hD
    have w_10 : ar 2 = rs_kw (sc 6) (ar 2) (ar 1) (sc 5) (A_close (ar 1) th) := by
      rw [hA]
      first | rfl | exact ear 2
    rw [show (ua (ua ar 1 (rs_g (ar 1) (A_close (ar 1) th))) 2 (ar 2)) = (ua (ua ar 1 (rs_g (ar 1) (A_close (ar 1) th))) 2 (rs_kw (sc 6) (ar 2) (ar 1) (sc 5) (A_close (ar 1) th))) from congrArg (fun z0 : Int → Int => (ua (ua ar 1 (rs_g (ar 1) (A_close (ar 1) th))) 2 z0)) w_10] at hP hD
    exact W.iret (v := iI 0) hx hb hr (fun tt_ ht_ hW_ => ⟨⟨iI 0, (), rfl, (congrArg iI hfin), by rw [ht_]; exact hP, hD⟩, hS.F ht_⟩) hS.2.2 dX5_closeThread_21
  · refine lv_iconst (v := iI 0) hx hb dX5_closeThread_9 rfl ?_
    refine lv_goto (tgt := 14) hx hb dX5_closeThread_10 (by decide) ?_
    refine n_cui (x := b2 (decide (0 < 0))) (va_runV (As := [iv 0]) (rest := []) ⟨hx, hb, hml, hown, hts⟩ (mt_X5_fails l E o sc ar 0 (by omega) _) (cwV 1 hts (lw_V q2124 q2126 qs50 q113 q2127) rfl rfl rfl (by decide +kernel) ⟨Nat.le_of_ble_eq_true rfl, Nat.le_of_ble_eq_true rfl⟩) (UW_V hP hK (hD) (va_recv hK.1 hP (ci := 0) (q0 := 0) rfl rfl)) rfl rfl hl.1 rfl (lv_room (Nat.le_of_ble_eq_true rfl)) dX5_closeThread_14 ⟨Nat.le_of_ble_eq_true rfl, Nat.le_of_ble_eq_true rfl⟩) hD hS hA (fun H locs hP hD hS => ?_)
    have hP : va_P E.1 CL (MW E o (us (us sc 7 0) 8 0) ar) H := hP
    have hD : va_D A (MW E o (us (us sc 7 0) 8 0) ar) := hD
    refine n_ifd_eq (tgt := 22) hx hb dX5_closeThread_17 (by decide) (fun _ => ?_) (fun c_11 => absurd (show (0 : Int) < 0 from c_11) (by decide))
    have hop : m_opened (ar 1) th = true := by assumption
    have hthr : 0 ≤ th ∧ th ≤ 3 := by unfold m_opened at hop; simp at hop; omega
    have hb0 := hB 1 0
    have hb1 := hB 1 1
    have hpw := pw_r (k := th) (by omega)
    refine lv_aload_n hx hb dX5_closeThread_22 rfl (lv_at hl 0 rfl) ?_
    refine lv_aload_n hx hb dX5_closeThread_23 rfl (lv_at hl 0 rfl) ?_
    refine va_get (D := E.1) (ci := 0) (v := .ref (o 1)) (C := RX5) (T := TX5) (N := 23) hx hb hts in_X5 hown hK.1 hP 0 rfl rfl 0 (by decide) (hts _ q2029) (fun _ h9 => h9) rfl dX5_closeThread_24 ?_
    refine n_cuv (va_runV (As := [.ref (o 1)]) (rest := []) ⟨hx, hb, hml, hown, hts⟩ (mt_X5_keeps1 l E o (us (us sc 7 0) 8 0) ar  (by first | omega | exact hch) (by first | omega | exact hwi) _) (cwV 1 hts (lw_V q2128 q2130 qs51 q113 q2131) rfl rfl rfl (by decide +kernel) ⟨Nat.le_of_ble_eq_true rfl, Nat.le_of_ble_eq_true rfl⟩) (UW_V hP hK (hD) (va_recv hK.1 hP (ci := 0) (q0 := 0) rfl rfl)) rfl rfl hl.1 rfl (lv_room (Nat.le_of_ble_eq_true rfl)) dX5_closeThread_27 ⟨Nat.le_of_ble_eq_true rfl, Nat.le_of_ble_eq_true rfl⟩) hD hS hA (fun H locs hP hD hS => ?_)
    have hP : va_P E.1 CL (MW E o (us (us (us sc 5 (k_cw (sc 6) (sc 5))) 7 0) 8 0) (ua ar 2 (k_kw (sc 6) (ar 2) (ar 1) (sc 5)))) H := hP
    have hD : va_D A (MW E o (us (us (us sc 5 (k_cw (sc 6) (sc 5))) 7 0) 8 0) (ua ar 2 (k_kw (sc 6) (ar 2) (ar 1) (sc 5)))) := hD
    obtain ⟨a_12, ea_12⟩ : ∃ zz : Int → Int, zz = k_kw (sc 6) (ar 2) (ar 1) (sc 5) := ⟨_, rfl⟩
    rw [← ea_12] at hP hD
    have hBa_12 := k_kw_b (w := (sc 6)) (c := (sc 5)) (hB 2) (hB 1)
    rw [← ea_12] at hBa_12
    refine lv_aload_n hx hb dX5_closeThread_30 rfl (lv_at hl 0 rfl) ?_
    refine va_get (D := E.1) (ci := 0) (v := .ref (o 1)) (C := RX5) (T := TX5) (N := 23) hx hb hts in_X5 hown hK.1 hP 0 rfl rfl 0 (by decide) (hts _ q2029) (fun _ h9 => h9) rfl dX5_closeThread_31 ?_
    refine lv_iconst (v := iI 0) hx hb dX5_closeThread_34 rfl ?_
    refine lv_dup2_11 hx hb dX5_closeThread_35 rfl rfl ?_
    refine n_iald (f := ar 1) hx hb hK.1 hP 1 0 rfl rfl (by omega) (by decide) dX5_closeThread_36 ?_
    refine lv_iconst (v := iI 1) hx hb dX5_closeThread_37 rfl ?_
    refine lv_iload_n hx hb dX5_closeThread_38 rfl (lv_at hl 1 rfl) ?_
    refine n_ishl1 hx hb (by omega) dX5_closeThread_39 ?_
    have b_13 := (hB 1) 0
    have b_14 := pw_r (k := th) (by omega)
    refine n_ixor hx hb (by omega) (by omega) dX5_closeThread_40 ?_
    have b_15 := bxr_r (a := ar 1 0) (b := pw th) (by omega) (by omega)
    refine n_iast (f := ar 1) hx hb hK.1 hP hD hS 1 0 rfl rfl (by omega) (by decide) dX5_closeThread_41 (ws2 := MW E o (us (us (us sc 5 (k_cw (sc 6) (sc 5))) 7 0) 8 0) (ua (ua ar 1 (ui (ar 1) 0 (bxr (ar 1 0) (pw th)))) 2 a_12)) rfl (fun H locs hP hD hS => ?_)
    obtain ⟨a_16, ea_16⟩ : ∃ zz : Int → Int, zz = ui (ar 1) 0 (bxr (ar 1 0) (pw th)) := ⟨_, rfl⟩
    rw [← ea_16] at hP hD
    have hBa_16 := ui_b (i := 0) (hB 1) (show 0 ≤ bxr (ar 1 0) (pw th) ∧ bxr (ar 1 0) (pw th) < 2147483648 by omega); rw [← ea_16] at hBa_16
    refine lv_iconst (v := iI 0) hx hb dX5_closeThread_42 rfl ?_
    refine lv_istore_n (lv' := [(2, iv 0), (0, .ref (o 0)), (1, iv th)]) hx hb dX5_closeThread_43 rfl hl (by decide) rfl (fun ls hl => ?_)
    refine lv_iconst (v := iI 0) hx hb dX5_closeThread_44 rfl ?_
    refine lv_istore_n (lv' := [(3, iv 0), (2, iv 0), (0, .ref (o 0)), (1, iv th)]) hx hb dX5_closeThread_45 rfl hl (by decide) rfl (fun ls hl => ?_)
    have l46 : ∀ (fu : Nat) (x2 : Int) (x3 : Int) (gv : Int → Int), (0 ≤ x3 ∧ x3 ≤ ar 1 1 ∧ 0 ≤ x2 ∧ x2 ≤ x3) → (x2 = sumI (fun k => b2 (m_goes (ar 1) th k)) x3) → (∀ x, gv x = if x = 0 then bxr (ar 1 0) (pw th) else if exB (fun k => decide (x = 63 + 10 * k) && m_goes (ar 1) th k) x3 = true then 1 else ar 1 x) → (∀ x, 0 ≤ gv x ∧ gv x < 2147483648) → (ar 1 1 - x3 < (fu : Int)) → ∀ (H : Heap) (locs : List Loc), va_P E.1 CL (MW E o (us (us (us sc 5 (k_cw (sc 6) (sc 5))) 7 0) 8 0) (ua (ua ar 1 gv) 2 a_12)) H → va_D A (MW E o (us (us (us sc 5 (k_cw (sc 6) (sc 5))) 7 0) 8 0) (ua (ua ar 1 gv) 2 a_12)) → va_S A s.heap H locs → ∀ ls : Array Slot, lv_has ls 4 [(3, iv x3), (2, iv x2), (0, .ref (o 0)), (1, iv th)] → W p l e (headSpec (ws_ yX5_closeThread cX5_closeThread 4 (some .int)) { frames := 2, cells := 0, slots := 0, locals := 46 }).room s m ([.ref (o 0), iv th] : List Value).toArray below meth c H locs 0 0 (MQ below (UQi E (rs_val 0 (A_close (ar 1) th)) (MW E o (us (us (us (us (us (us sc 5 (rs_cw (sc 6) (sc 5) (A_close (ar 1) th))) 7 (rs_ref (A_close (ar 1) th))) 8 (rs_code 1 (A_close (ar 1) th))) 9 (rs_why (sc 9) (A_close (ar 1) th))) 10 (rs_det (sc 10) (A_close (ar 1) th))) 11 (rs_cau (sc 11) (A_close (ar 1) th))) (ua (ua ar 1 (rs_g (ar 1) (A_close (ar 1) th))) 2 (rs_kw (sc 6) (ar 2) (ar 1) (sc 5) (A_close (ar 1) th)))) A) ([.ref (o 0), iv th] : List Value).toArray s 0 0 A) (F0 m 46 ls []) := by
      intro fu
      induction fu with
      | zero =>
        intro x2 x3 gv il46_0 il46_1 il46_2 il46_3 hm
        exfalso; omega
      | succ fu ih =>
        intro x2 x3 gv il46_0 il46_1 il46_2 il46_3 hm H locs hP hD hS ls hl
        have ihl46 := ih
        have hkeep : ∀ y, y ≠ 0 → (∀ k, 0 ≤ k → k < x3 → y ≠ 63 + 10 * k) → gv y = ar 1 y := fun y h0 hn => cl_keep il46_2 h0 hn
        have hob := how.2.2 x3
        refine lv_iload_n hx hb dX5_closeThread_46 rfl (lv_at hl 0 rfl) ?_
        refine lv_aload_n hx hb dX5_closeThread_47 rfl (lv_at hl 2 rfl) ?_
        refine va_get (D := E.1) (ci := 0) (v := .ref (o 1)) (C := RX5) (T := TX5) (N := 23) hx hb hts in_X5 hown hK.1 hP 0 rfl rfl 0 (by decide) (hts _ q2029) (fun _ h9 => h9) rfl dX5_closeThread_48 ?_
        refine lv_iconst (v := iI 1) hx hb dX5_closeThread_51 rfl ?_
        refine n_iald (f := gv) hx hb hK.1 hP 1 0 rfl rfl (by omega) (by decide) dX5_closeThread_52 ?_
        refine n_top (y := ar 1 1) (by show gv (1) = _; exact hkeep (1) (by omega) (fun k q1 q2 => by omega)) ?_
        have b_17 := (show 0 ≤ ar 1 1 ∧ ar 1 1 < 2147483648 from hB 1 (1))
        refine n_icmp_ge (tgt := 117) hx hb dX5_closeThread_53 (by decide) (by omega) (by omega) (fun c_18 => ?_) (fun c_18 => ?_)
        · have hx3 : x3 = ar 1 1 := by omega
          have hsm : sumI (fun k => b2 (m_goes (ar 1) th k)) (ar 1 1) = x2 := by rw [← hx3]; exact il46_1.symm
          have hfn : s_close (ar 1) th = gv := by funext x; rw [il46_2 x, hx3]; rfl
          refine lv_iload_n hx hb dX5_closeThread_117 rfl (lv_at hl 1 rfl) ?_
          have hA : A_close (ar 1) th = .inr (.inr (x2, gv)) := by
            unfold A_close
            rw [if_pos hop, hsm, hfn]
          have hfin : x2 = rs_val 0 (A_close (ar 1) th) := by
            first | (rw [hA]; done) | (rw [hA]; rfl)
          have w_19 : k_cw (sc 6) (sc 5) = rs_cw (sc 6) (sc 5) (A_close (ar 1) th) := by
            first | (rw [hA]; done) | (rw [hA]; rfl) | (rw [hA]; exact if_pos hden) | (rw [hA]; exact if_neg hden) | (rw [hA]; exact rfl) | (rw [hA]; exact rfl)
          rw [show (us (us (us sc 5 (k_cw (sc 6) (sc 5))) 7 0) 8 0) = (us (us (us sc 5 (rs_cw (sc 6) (sc 5) (A_close (ar 1) th))) 7 0) 8 0) from congrArg (fun z0 : Int => (us (us (us sc 5 z0) 7 0) 8 0)) w_19] at hP hD
          have w_20 : 0 = rs_ref (A_close (ar 1) th) := by
            first | (rw [hA]; done) | (rw [hA]; rfl) | (rw [hA]; exact if_pos hden) | (rw [hA]; exact if_neg hden) | (rw [hA]; exact rfl) | (rw [hA]; exact rfl)
          rw [show (us (us (us sc 5 (rs_cw (sc 6) (sc 5) (A_close (ar 1) th))) 7 0) 8 0) = (us (us (us sc 5 (rs_cw (sc 6) (sc 5) (A_close (ar 1) th))) 7 (rs_ref (A_close (ar 1) th))) 8 0) from congrArg (fun z0 : Int => (us (us (us sc 5 (rs_cw (sc 6) (sc 5) (A_close (ar 1) th))) 7 z0) 8 0)) w_20] at hP hD
          have w_21 : 0 = rs_code 1 (A_close (ar 1) th) := by
            first | (rw [hA]; done) | (rw [hA]; rfl) | (rw [hA]; exact if_pos hden) | (rw [hA]; exact if_neg hden) | (rw [hA]; exact rfl) | (rw [hA]; exact rfl)
          rw [show (us (us (us sc 5 (rs_cw (sc 6) (sc 5) (A_close (ar 1) th))) 7 (rs_ref (A_close (ar 1) th))) 8 0) = (us (us (us sc 5 (rs_cw (sc 6) (sc 5) (A_close (ar 1) th))) 7 (rs_ref (A_close (ar 1) th))) 8 (rs_code 1 (A_close (ar 1) th))) from congrArg (fun z0 : Int => (us (us (us sc 5 (rs_cw (sc 6) (sc 5) (A_close (ar 1) th))) 7 (rs_ref (A_close (ar 1) th))) 8 z0)) w_21] at hP hD
          have hP : va_P E.1 CL (MW E o (us (us (us (us sc 5 (rs_cw (sc 6) (sc 5) (A_close (ar 1) th))) 7 (rs_ref (A_close (ar 1) th))) 8 (rs_code 1 (A_close (ar 1) th))) 9 (sc 9)) (ua (ua ar 1 gv) 2 a_12)) H := hP
          have hD : va_D A (MW E o (us (us (us (us sc 5 (rs_cw (sc 6) (sc 5) (A_close (ar 1) th))) 7 (rs_ref (A_close (ar 1) th))) 8 (rs_code 1 (A_close (ar 1) th))) 9 (sc 9)) (ua (ua ar 1 gv) 2 a_12)) := hD
          have w_22 : sc 9 = rs_why (sc 9) (A_close (ar 1) th) := by
            first | (rw [hA]; done) | (rw [hA]; rfl) | (rw [hA]; exact if_pos hden) | (rw [hA]; exact if_neg hden) | (rw [hA]; exact rfl) | (rw [hA]; exact rfl)
          rw [show (us (us (us (us sc 5 (rs_cw (sc 6) (sc 5) (A_close (ar 1) th))) 7 (rs_ref (A_close (ar 1) th))) 8 (rs_code 1 (A_close (ar 1) th))) 9 (sc 9)) = (us (us (us (us sc 5 (rs_cw (sc 6) (sc 5) (A_close (ar 1) th))) 7 (rs_ref (A_close (ar 1) th))) 8 (rs_code 1 (A_close (ar 1) th))) 9 (rs_why (sc 9) (A_close (ar 1) th))) from congrArg (fun z0 : Int => (us (us (us (us sc 5 (rs_cw (sc 6) (sc 5) (A_close (ar 1) th))) 7 (rs_ref (A_close (ar 1) th))) 8 (rs_code 1 (A_close (ar 1) th))) 9 z0)) w_22] at hP hD
          have hP : va_P E.1 CL (MW E o (us (us (us (us (us sc 5 (rs_cw (sc 6) (sc 5) (A_close (ar 1) th))) 7 (rs_ref (A_close (ar 1) th))) 8 (rs_code 1 (A_close (ar 1) th))) 9 (rs_why (sc 9) (A_close (ar 1) th))) 10 (sc 10)) (ua (ua ar 1 gv) 2 a_12)) H := hP
          have hD : va_D A (MW E o (us (us (us (us (us sc 5 (rs_cw (sc 6) (sc 5) (A_close (ar 1) th))) 7 (rs_ref (A_close (ar 1) th))) 8 (rs_code 1 (A_close (ar 1) th))) 9 (rs_why (sc 9) (A_close (ar 1) th))) 10 (sc 10)) (ua (ua ar 1 gv) 2 a_12)) := hD
          have w_23 : sc 10 = rs_det (sc 10) (A_close (ar 1) th) := by
            first | (rw [hA]; done) | (rw [hA]; rfl) | (rw [hA]; exact if_pos hden) | (rw [hA]; exact if_neg hden) | (rw [hA]; exact rfl) | (rw [hA]; exact rfl)
          rw [show (us (us (us (us (us sc 5 (rs_cw (sc 6) (sc 5) (A_close (ar 1) th))) 7 (rs_ref (A_close (ar 1) th))) 8 (rs_code 1 (A_close (ar 1) th))) 9 (rs_why (sc 9) (A_close (ar 1) th))) 10 (sc 10)) = (us (us (us (us (us sc 5 (rs_cw (sc 6) (sc 5) (A_close (ar 1) th))) 7 (rs_ref (A_close (ar 1) th))) 8 (rs_code 1 (A_close (ar 1) th))) 9 (rs_why (sc 9) (A_close (ar 1) th))) 10 (rs_det (sc 10) (A_close (ar 1) th))) from congrArg (fun z0 : Int => (us (us (us (us (us sc 5 (rs_cw (sc 6) (sc 5) (A_close (ar 1) th))) 7 (rs_ref (A_close (ar 1) th))) 8 (rs_code 1 (A_close (ar 1) th))) 9 (rs_why (sc 9) (A_close (ar 1) th))) 10 z0)) w_23] at hP hD
          have hP : va_P E.1 CL (MW E o (us (us (us (us (us (us sc 5 (rs_cw (sc 6) (sc 5) (A_close (ar 1) th))) 7 (rs_ref (A_close (ar 1) th))) 8 (rs_code 1 (A_close (ar 1) th))) 9 (rs_why (sc 9) (A_close (ar 1) th))) 10 (rs_det (sc 10) (A_close (ar 1) th))) 11 (sc 11)) (ua (ua ar 1 gv) 2 a_12)) H := hP
          have hD : va_D A (MW E o (us (us (us (us (us (us sc 5 (rs_cw (sc 6) (sc 5) (A_close (ar 1) th))) 7 (rs_ref (A_close (ar 1) th))) 8 (rs_code 1 (A_close (ar 1) th))) 9 (rs_why (sc 9) (A_close (ar 1) th))) 10 (rs_det (sc 10) (A_close (ar 1) th))) 11 (sc 11)) (ua (ua ar 1 gv) 2 a_12)) := hD
          have w_24 : sc 11 = rs_cau (sc 11) (A_close (ar 1) th) := by
            first | (rw [hA]; done) | (rw [hA]; rfl) | (rw [hA]; exact if_pos hden) | (rw [hA]; exact if_neg hden) | (rw [hA]; exact rfl) | (rw [hA]; exact rfl)
          rw [show (us (us (us (us (us (us sc 5 (rs_cw (sc 6) (sc 5) (A_close (ar 1) th))) 7 (rs_ref (A_close (ar 1) th))) 8 (rs_code 1 (A_close (ar 1) th))) 9 (rs_why (sc 9) (A_close (ar 1) th))) 10 (rs_det (sc 10) (A_close (ar 1) th))) 11 (sc 11)) = (us (us (us (us (us (us sc 5 (rs_cw (sc 6) (sc 5) (A_close (ar 1) th))) 7 (rs_ref (A_close (ar 1) th))) 8 (rs_code 1 (A_close (ar 1) th))) 9 (rs_why (sc 9) (A_close (ar 1) th))) 10 (rs_det (sc 10) (A_close (ar 1) th))) 11 (rs_cau (sc 11) (A_close (ar 1) th))) from congrArg (fun z0 : Int => (us (us (us (us (us (us sc 5 (rs_cw (sc 6) (sc 5) (A_close (ar 1) th))) 7 (rs_ref (A_close (ar 1) th))) 8 (rs_code 1 (A_close (ar 1) th))) 9 (rs_why (sc 9) (A_close (ar 1) th))) 10 (rs_det (sc 10) (A_close (ar 1) th))) 11 z0)) w_24] at hP hD
          have w_25 : gv = rs_g (ar 1) (A_close (ar 1) th) := by
            first | (rw [hA]; done) | (rw [hA]; rfl) | (rw [hA]; exact if_pos hden) | (rw [hA]; exact if_neg hden) | (rw [hA]; exact rfl) | (rw [hA]; exact rfl)
          rw [show (ua (ua ar 1 gv) 2 a_12) = (ua (ua ar 1 (rs_g (ar 1) (A_close (ar 1) th))) 2 a_12) from congrArg (fun z0 : Int → Int => (ua (ua ar 1 z0) 2 a_12)) w_25] at hP hD
          have w_26 : a_12 = rs_kw (sc 6) (ar 2) (ar 1) (sc 5) (A_close (ar 1) th) := by
            rw [hA]
            first | rfl | exact ea_12
          rw [show (ua (ua ar 1 (rs_g (ar 1) (A_close (ar 1) th))) 2 a_12) = (ua (ua ar 1 (rs_g (ar 1) (A_close (ar 1) th))) 2 (rs_kw (sc 6) (ar 2) (ar 1) (sc 5) (A_close (ar 1) th))) from congrArg (fun z0 : Int → Int => (ua (ua ar 1 (rs_g (ar 1) (A_close (ar 1) th))) 2 z0)) w_26] at hP hD
          exact W.iret (v := iI x2) hx hb hr (fun tt_ ht_ hW_ => ⟨⟨iI x2, (), rfl, (congrArg iI hfin), by rw [ht_]; exact hP, hD⟩, hS.F ht_⟩) hS.2.2 dX5_closeThread_118
        · refine lv_aload_n hx hb dX5_closeThread_56 rfl (lv_at hl 2 rfl) ?_
          refine lv_iload_n hx hb dX5_closeThread_57 rfl (lv_at hl 0 rfl) ?_
          refine n_csi (x := b2 (m_here gv x3)) (va_runV (As := [iv x3]) (rest := []) ⟨hx, hb, hml, hown, hts⟩ (mt_X5_isHere l E o (us (us (us sc 5 (k_cw (sc 6) (sc 5))) 7 0) 8 0) (ua (ua ar 1 gv) 2 a_12) x3 (ua_b 2 (ua_b 1 hB il46_3) hBa_12) (by omega)) (cwV 1 hts (lw_V q2151 q2153 qs55 q113 q2154) rfl rfl rfl (by decide +kernel) ⟨Nat.le_of_ble_eq_true rfl, Nat.le_of_ble_eq_true rfl⟩) (PW_V hP hK (va_recv hK.1 hP (ci := 0) (q0 := 0) rfl rfl)) rfl rfl hl.1 rfl (lv_room (Nat.le_of_ble_eq_true rfl)) dX5_closeThread_58 ⟨Nat.le_of_ble_eq_true rfl, Nat.le_of_ble_eq_true rfl⟩) ?_
          refine n_top (y := b2 (m_here (ar 1) x3)) (by unfold m_here m_thing; rw [hkeep _ (by omega) (fun k q1 q2 => by omega)]) ?_
          refine n_ifb_eq (tgt := 111) hx hb dX5_closeThread_61 (by decide) (fun c_27 => ?_) (fun c_27 => ?_)
          · have hgo : m_goes (ar 1) th x3 = false := by unfold m_goes; simp [c_1, c_18, c_27]
            have hgn : ∀ x, gv x = if x = 0 then bxr (ar 1 0) (pw th) else if exB (fun k => decide (x = 63 + 10 * k) && m_goes (ar 1) th k) (x3 + 1) = true then 1 else ar 1 x := by
              intro x
              rw [exB_s (by omega), hgo]
              rw [Bool.and_false, Bool.or_false]
              exact il46_2 x
            refine lv_iinc (v := iI (x3 + 1)) (lv' := [(3, iv (x3 + 1)), (2, iv x2), (0, .ref (o 0)), (1, iv th)]) hx hb dX5_closeThread_111 hl (k := 0) rfl (iI_add _ _) (by decide) rfl (fun ls hl => ?_)
            refine lv_goto (tgt := 46) hx hb dX5_closeThread_114 (by decide) ?_
            exact ihl46 x2 (x3 + 1) gv (by first | omega | rfl) (by rw [sumI_s (by omega), ← il46_1, hgo]; first | rfl | (show x2 = x2 + 0; omega)) (by exact hgn) (by exact il46_3) (by omega) H locs hP hD hS ls (lv_sub hl [0, 1, 2, 3] rfl)
          · refine lv_aload_n hx hb dX5_closeThread_64 rfl (lv_at hl 2 rfl) ?_
            refine lv_iload_n hx hb dX5_closeThread_65 rfl (lv_at hl 0 rfl) ?_
            refine lv_iconst (v := iI 1) hx hb dX5_closeThread_66 rfl ?_
            refine n_csi (x := m_thing gv x3 1) (va_runV (As := [iv x3, iv 1]) (rest := []) ⟨hx, hb, hml, hown, hts⟩ (mt_X5_thing l E o (us (us (us sc 5 (k_cw (sc 6) (sc 5))) 7 0) 8 0) (ua (ua ar 1 gv) 2 a_12) x3 1 (by omega)) (cwV 2 hts (lw_V q2155 q2157 qs56 q113 q2158) rfl rfl rfl (by decide +kernel) ⟨Nat.le_of_ble_eq_true rfl, Nat.le_of_ble_eq_true rfl⟩) (PW_V hP hK (va_recv hK.1 hP (ci := 0) (q0 := 0) rfl rfl)) rfl rfl hl.1 rfl (lv_room (Nat.le_of_ble_eq_true rfl)) dX5_closeThread_67 ⟨Nat.le_of_ble_eq_true rfl, Nat.le_of_ble_eq_true rfl⟩) ?_
            refine n_top (y := m_thing (ar 1) x3 1) (by show gv (61 + 10 * x3 + 1) = _; exact hkeep (61 + 10 * x3 + 1) (by omega) (fun k q1 q2 => by omega)) ?_
            refine lv_iload_n hx hb dX5_closeThread_70 rfl (lv_at hl 3 rfl) ?_
            have b_28 := (show 0 ≤ m_thing (ar 1) x3 1 ∧ m_thing (ar 1) x3 1 < 2147483648 from hB 1 (61 + 10 * x3 + 1))
            refine n_icmp_ne (tgt := 111) hx hb dX5_closeThread_71 (by decide) (by omega) (by omega) (fun c_29 => ?_) (fun c_29 => ?_)
            · have hgo : m_goes (ar 1) th x3 = false := by unfold m_goes; simp [c_1, c_18, c_27, c_29]
              have hgn : ∀ x, gv x = if x = 0 then bxr (ar 1 0) (pw th) else if exB (fun k => decide (x = 63 + 10 * k) && m_goes (ar 1) th k) (x3 + 1) = true then 1 else ar 1 x := by
                intro x
                rw [exB_s (by omega), hgo]
                rw [Bool.and_false, Bool.or_false]
                exact il46_2 x
              refine lv_iinc (v := iI (x3 + 1)) (lv' := [(3, iv (x3 + 1)), (2, iv x2), (0, .ref (o 0)), (1, iv th)]) hx hb dX5_closeThread_111 hl (k := 0) rfl (iI_add _ _) (by decide) rfl (fun ls hl => ?_)
              refine lv_goto (tgt := 46) hx hb dX5_closeThread_114 (by decide) ?_
              exact ihl46 x2 (x3 + 1) gv (by first | omega | rfl) (by rw [sumI_s (by omega), ← il46_1, hgo]; first | rfl | (show x2 = x2 + 0; omega)) (by exact hgn) (by exact il46_3) (by omega) H locs hP hD hS ls (lv_sub hl [0, 1, 2, 3] rfl)
            · refine lv_aload_n hx hb dX5_closeThread_74 rfl (lv_at hl 2 rfl) ?_
              refine lv_aload_n hx hb dX5_closeThread_75 rfl (lv_at hl 2 rfl) ?_
              refine lv_iload_n hx hb dX5_closeThread_76 rfl (lv_at hl 0 rfl) ?_
              refine lv_iconst (v := iI 0) hx hb dX5_closeThread_77 rfl ?_
              refine n_csi (x := m_thing gv x3 0) (va_runV (As := [iv x3, iv 0]) (rest := [.ref (o 0)]) ⟨hx, hb, hml, hown, hts⟩ (mt_X5_thing l E o (us (us (us sc 5 (k_cw (sc 6) (sc 5))) 7 0) 8 0) (ua (ua ar 1 gv) 2 a_12) x3 0 (by omega)) (cwV 2 hts (lw_V q2155 q2157 qs56 q113 q2158) rfl rfl rfl (by decide +kernel) ⟨Nat.le_of_ble_eq_true rfl, Nat.le_of_ble_eq_true rfl⟩) (PW_V hP hK (va_recv hK.1 hP (ci := 0) (q0 := 0) rfl rfl)) rfl rfl hl.1 rfl (lv_room (Nat.le_of_ble_eq_true rfl)) dX5_closeThread_78 ⟨Nat.le_of_ble_eq_true rfl, Nat.le_of_ble_eq_true rfl⟩) ?_
              have hob2 := hob (by omega) (by omega)
              refine n_top (y := m_thing (ar 1) x3 0) (by show gv (61 + 10 * x3 + 0) = _; exact hkeep (61 + 10 * x3 + 0) (by omega) (fun k q1 q2 => by omega)) ?_
              refine lv_iconst (v := iI 0) hx hb dX5_closeThread_81 rfl ?_
              have b_30 := (show 0 ≤ m_thing (ar 1) x3 0 ∧ m_thing (ar 1) x3 0 < 2147483648 from hB 1 (61 + 10 * x3 + 0))
              refine n_csi (x := m_of gv (m_thing (ar 1) x3 0) 0) (va_runV (As := [iv (m_thing (ar 1) x3 0), iv 0]) (rest := []) ⟨hx, hb, hml, hown, hts⟩ (mt_X5_of l E o (us (us (us sc 5 (k_cw (sc 6) (sc 5))) 7 0) 8 0) (ua (ua ar 1 gv) 2 a_12) (m_thing (ar 1) x3 0) 0 (by omega)) (cwV 2 hts (lw_V q2120 q2122 qs49 q113 q2123) rfl rfl rfl (by decide +kernel) ⟨Nat.le_of_ble_eq_true rfl, Nat.le_of_ble_eq_true rfl⟩) (PW_V hP hK (va_recv hK.1 hP (ci := 0) (q0 := 0) rfl rfl)) rfl rfl hl.1 rfl (lv_room (Nat.le_of_ble_eq_true rfl)) dX5_closeThread_82 ⟨Nat.le_of_ble_eq_true rfl, Nat.le_of_ble_eq_true rfl⟩) ?_
              refine n_top (y := m_of (ar 1) (m_thing (ar 1) x3 0) 0) (by show gv (5 + 7 * m_thing (ar 1) x3 0 + 0) = _; exact hkeep (5 + 7 * m_thing (ar 1) x3 0 + 0) (by omega) (fun k q1 q2 => by omega)) ?_
              refine lv_bipush (v := iI 115) hx hb dX5_closeThread_85 (by decide) ?_
              have b_31 := (show 0 ≤ m_of (ar 1) (m_thing (ar 1) x3 0) 0 ∧ m_of (ar 1) (m_thing (ar 1) x3 0) 0 < 2147483648 from hB 1 (5 + 7 * m_thing (ar 1) x3 0 + 0))
              refine n_icmp_ne (tgt := 93) hx hb dX5_closeThread_87 (by decide) (by omega) (by omega) (fun c_32 => ?_) (fun c_32 => ?_)
              · refine lv_aload_n hx hb dX5_closeThread_93 rfl (lv_at hl 2 rfl) ?_
                refine va_get (D := E.1) (ci := 0) (v := .ref (o 1)) (C := RX5) (T := TX5) (N := 23) hx hb hts in_X5 hown hK.1 hP 0 rfl rfl 0 (by decide) (hts _ q2029) (fun _ h9 => h9) rfl dX5_closeThread_94 ?_
                refine lv_bipush (v := iI 61) hx hb dX5_closeThread_97 (by decide) ?_
                refine lv_bipush (v := iI 10) hx hb dX5_closeThread_99 (by decide) ?_
                refine lv_iload_n hx hb dX5_closeThread_101 rfl (lv_at hl 0 rfl) ?_
                refine n_imul hx hb dX5_closeThread_102 ?_
                refine n_iadd hx hb dX5_closeThread_103 ?_
                refine lv_iconst (v := iI 2) hx hb dX5_closeThread_104 rfl ?_
                refine n_iadd hx hb dX5_closeThread_105 ?_
                refine lv_iconst (v := iI 1) hx hb dX5_closeThread_106 rfl ?_
                refine n_iast (f := gv) hx hb hK.1 hP hD hS 1 0 rfl rfl (by omega) (by decide) dX5_closeThread_107 (ws2 := MW E o (us (us (us sc 5 (k_cw (sc 6) (sc 5))) 7 0) 8 0) (ua (ua ar 1 (ui gv ((61 + (10 * x3)) + 2) 1)) 2 a_12)) rfl (fun H locs hP hD hS => ?_)
                obtain ⟨a_33, ea_33⟩ : ∃ zz : Int → Int, zz = ui gv ((61 + (10 * x3)) + 2) 1 := ⟨_, rfl⟩
                rw [← ea_33] at hP hD
                have hBa_33 := ui_b (i := ((61 + (10 * x3)) + 2)) il46_3 (show 0 ≤ 1 ∧ 1 < 2147483648 by omega); rw [← ea_33] at hBa_33
                refine lv_iinc (v := iI (x2 + 1)) (lv' := [(2, iv (x2 + 1)), (3, iv x3), (0, .ref (o 0)), (1, iv th)]) hx hb dX5_closeThread_108 hl (k := 1) rfl (iI_add _ _) (by decide) rfl (fun ls hl => ?_)
                have hgo : m_goes (ar 1) th x3 = true := by unfold m_goes; simp [c_1, c_18, c_27, c_29, c_32]
                have hgn : ∀ x, a_33 x = if x = 0 then bxr (ar 1 0) (pw th) else if exB (fun k => decide (x = 63 + 10 * k) && m_goes (ar 1) th k) (x3 + 1) = true then 1 else ar 1 x := by
                  intro x
                  rw [exB_s (by omega), hgo]
                  rw [ea_33]
                  unfold ui
                  have := il46_2 x
                  by_cases hq : x = 63 + 10 * x3
                  · rw [if_pos (by omega), if_neg (by omega), if_pos (by simp [hq])]
                  · rw [if_neg (by omega), this, decide_eq_false hq, Bool.false_and, Bool.or_false]
                refine lv_iinc (v := iI (x3 + 1)) (lv' := [(3, iv (x3 + 1)), (2, iv (x2 + 1)), (0, .ref (o 0)), (1, iv th)]) hx hb dX5_closeThread_111 hl (k := 1) rfl (iI_add _ _) (by decide) rfl (fun ls hl => ?_)
                refine lv_goto (tgt := 46) hx hb dX5_closeThread_114 (by decide) ?_
                exact ihl46 (x2 + 1) (x3 + 1) a_33 (by first | omega | rfl) (by rw [sumI_s (by omega), ← il46_1, hgo]; first | rfl | (show x2 = x2 + 0; omega)) (by exact hgn) (by exact hBa_33) (by omega) H locs hP hD hS ls (lv_sub hl [0, 1, 2, 3] rfl)
              · refine lv_goto (tgt := 111) hx hb dX5_closeThread_90 (by decide) ?_
                have hgo : m_goes (ar 1) th x3 = false := by unfold m_goes; simp [c_1, c_18, c_27, c_29, c_32]
                have hgn : ∀ x, gv x = if x = 0 then bxr (ar 1 0) (pw th) else if exB (fun k => decide (x = 63 + 10 * k) && m_goes (ar 1) th k) (x3 + 1) = true then 1 else ar 1 x := by
                  intro x
                  rw [exB_s (by omega), hgo]
                  rw [Bool.and_false, Bool.or_false]
                  exact il46_2 x
                refine lv_iinc (v := iI (x3 + 1)) (lv' := [(3, iv (x3 + 1)), (2, iv x2), (0, .ref (o 0)), (1, iv th)]) hx hb dX5_closeThread_111 hl (k := 0) rfl (iI_add _ _) (by decide) rfl (fun ls hl => ?_)
                refine lv_goto (tgt := 46) hx hb dX5_closeThread_114 (by decide) ?_
                exact ihl46 x2 (x3 + 1) gv (by first | omega | rfl) (by rw [sumI_s (by omega), ← il46_1, hgo]; first | rfl | (show x2 = x2 + 0; omega)) (by exact hgn) (by exact il46_3) (by omega) H locs hP hD hS ls (lv_sub hl [0, 1, 2, 3] rfl)
    exact l46 61 0 0 a_16 (by first | omega | rfl | trivial) (by rfl) (by intro x; rw [ea_16]; unfold ui; rfl) (by exact hBa_16) (by omega) H locs hP hD hS ls hl
