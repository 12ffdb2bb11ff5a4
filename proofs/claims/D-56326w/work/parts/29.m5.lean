set_option maxHeartbeats 4000000 in
set_option maxRecDepth 100000 in
theorem mt_X5_define (l : Launch) (E : EE) (o : Nat → Nat) (sc : Nat → Int) (ar : Nat → Int → Int) (t : Int) (sp : Int) (mn : Int) (hB : ∀ k x, 0 ≤ ar k x ∧ ar k x < 2147483648) (ht : 0 ≤ t ∧ t < 65536) (hs : 0 ≤ sp ∧ sp < 65536) (hm : -2147483648 ≤ mn ∧ mn < 2147483648) (hch : 0 ≤ sc 5 ∧ sc 5 ≤ 8) (hwi : 0 ≤ sc 6 ∧ sc 6 ≤ 1) (sz : Nat) : Met l yX5_define (ws_ yX5_define cX5_define 4 (some .int)) { frames := 3, cells := 0, slots := 0, locals := 65 } (va_Pc [.ref (o 0), iv t, iv sp, iv mn] (UW E (MW E o sc ar) sz)) (UQi E (rs_val 0 (A_def (ar 1) t sp mn)) (MW E o (us (us (us (us (us (us sc 5 (rs_cw (sc 6) (sc 5) (A_def (ar 1) t sp mn))) 7 (rs_ref (A_def (ar 1) t sp mn))) 8 (rs_code 2 (A_def (ar 1) t sp mn))) 9 (rs_why (sc 9) (A_def (ar 1) t sp mn))) 10 (rs_det (sc 10) (A_def (ar 1) t sp mn))) 11 (rs_cau (sc 11) (A_def (ar 1) t sp mn))) (ua (ua ar 1 (rs_g (ar 1) (A_def (ar 1) t sp mn))) 2 (rs_kw (sc 6) (ar 2) (ar 1) (sc 5) (A_def (ar 1) t sp mn)))) (va_A (MW E o sc ar) sz)) 0 0 (va_A (MW E o sc ar) sz) := by
  refine Met.ofW (cc := cX5_define) (maxL := 4) (ret := (some .int)) (by decide) rfl ?_
  intro p e s m args below meth c s₁ B hml hv
  obtain ⟨rfl, hsz, hP, hK, hD0⟩ := hv
  have hx := B.exec
  have hb := B.bytes
  have hr := B.returns
  have hts := atoms_spec (ws := (ws_ yX5_define cX5_define 4 (some .int))) B.pre
  have hts : ∀ w ∈ lw_all, w.before _ s = true := fun w h => hts w (List.mem_cons_of_mem _ h)
  have hown : s.vm.findClass RX5 = some m.cls := findClass_of_methodNamed B.named
  have hlocks := B.notSynchronized
  subst hsz
  have hD := hD0.self (sz := s.heap.size)
  generalize hAe : va_A (MW E o sc ar) s.heap.size = A at hD ⊢
  have hA : ∀ q : Nat, s.heap.size ≤ q → A q := fun q h => by rw [← hAe]; exact Or.inr h
  have hS : va_S A s.heap s.heap [] := va_S.rf
  have hl := lv_entry ([.ref (o 0), iv t, iv sp, iv mn]) (n := 4) (Nat.le_of_ble_eq_true rfl)
  rw [lg_entry_eq]
  generalize (lg_sl ([.ref (o 0), iv t, iv sp, iv mn]) ++ List.replicate (4 - (lg_sl ([.ref (o 0), iv t, iv sp, iv mn])).length) Slot.unset).toArray = ls at hl ⊢
  have hl : lv_has ls 4 [(0, .ref (o 0)), (1, iv t), (2, iv sp), (3, iv mn)] := hl
  refine lv_aload_n hx hb dX5_define_0 rfl (lv_at hl 0 rfl) ?_
  have j_1 : W p l e (headSpec (ws_ yX5_define cX5_define 4 (some .int)) { frames := 3, cells := 0, slots := 0, locals := 65 }).room s m ([.ref (o 0), iv t, iv sp, iv mn] : List Value).toArray below meth c s.heap [] 0 0 (MQ below (UQi E (rs_val 0 (A_def (ar 1) t sp mn)) (MW E o (us (us (us (us (us (us sc 5 (rs_cw (sc 6) (sc 5) (A_def (ar 1) t sp mn))) 7 (rs_ref (A_def (ar 1) t sp mn))) 8 (rs_code 2 (A_def (ar 1) t sp mn))) 9 (rs_why (sc 9) (A_def (ar 1) t sp mn))) 10 (rs_det (sc 10) (A_def (ar 1) t sp mn))) 11 (rs_cau (sc 11) (A_def (ar 1) t sp mn))) (ua (ua ar 1 (rs_g (ar 1) (A_def (ar 1) t sp mn))) 2 (rs_kw (sc 6) (ar 2) (ar 1) (sc 5) (A_def (ar 1) t sp mn)))) A) ([.ref (o 0), iv t, iv sp, iv mn] : List Value).toArray s 0 0 A) (F0 m 45 ls [iv (c_def (ar 1) t sp mn), .ref (o 0)]) := by
    have b_2 := c_def_r (ar 1) t sp mn
    refine n_cui (x := b2 (decide (0 < (c_def (ar 1) t sp mn)))) (va_runV (As := [iv (c_def (ar 1) t sp mn)]) (rest := []) ⟨hx, hb, hml, hown, hts⟩ (mt_X5_fails l E o sc ar (c_def (ar 1) t sp mn) (by omega) _) (cwV 1 hts (lw_V q2124 q2126 qs50 q113 q2127) rfl rfl rfl (by decide +kernel) ⟨Nat.le_of_ble_eq_true rfl, Nat.le_of_ble_eq_true rfl⟩) (UW_V hP hK (hD) (va_recv hK.1 hP (ci := 0) (q0 := 0) rfl rfl)) rfl rfl hl.1 rfl (lv_room (Nat.le_of_ble_eq_true rfl)) dX5_define_45 ⟨Nat.le_of_ble_eq_true rfl, Nat.le_of_ble_eq_true rfl⟩) hD hS hA (fun H locs hP hD hS => ?_)
    have hP : va_P E.1 CL (MW E o (us (us sc 7 0) 8 (c_def (ar 1) t sp mn)) ar) H := hP
    have hD : va_D A (MW E o (us (us sc 7 0) 8 (c_def (ar 1) t sp mn)) ar) := hD
    refine n_ifd_eq (tgt := 53) hx hb dX5_define_48 (by decide) (fun c_3 => ?_) (fun c_3 => ?_)
    · have hz := c_def_ok (by assumption)
      refine lv_aload_n hx hb dX5_define_53 rfl (lv_at hl 0 rfl) ?_
      refine lv_aload_n hx hb dX5_define_54 rfl (lv_at hl 0 rfl) ?_
      refine va_get (D := E.1) (ci := 0) (v := .ref (o 1)) (C := RX5) (T := TX5) (N := 23) hx hb hts in_X5 hown hK.1 hP 0 rfl rfl 0 (by decide) (hts _ q2029) (fun _ h9 => h9) rfl dX5_define_55 ?_
      refine n_cuv (va_runV (As := [.ref (o 1)]) (rest := []) ⟨hx, hb, hml, hown, hts⟩ (mt_X5_keeps1 l E o (us (us sc 7 0) 8 (c_def (ar 1) t sp mn)) ar  (by first | omega | exact hch) (by first | omega | exact hwi) _) (cwV 1 hts (lw_V q2128 q2130 qs51 q113 q2131) rfl rfl rfl (by decide +kernel) ⟨Nat.le_of_ble_eq_true rfl, Nat.le_of_ble_eq_true rfl⟩) (UW_V hP hK (hD) (va_recv hK.1 hP (ci := 0) (q0 := 0) rfl rfl)) rfl rfl hl.1 rfl (lv_room (Nat.le_of_ble_eq_true rfl)) dX5_define_58 ⟨Nat.le_of_ble_eq_true rfl, Nat.le_of_ble_eq_true rfl⟩) hD hS hA (fun H locs hP hD hS => ?_)
      have hP : va_P E.1 CL (MW E o (us (us (us sc 5 (k_cw (sc 6) (sc 5))) 7 0) 8 0) (ua ar 2 (k_kw (sc 6) (ar 2) (ar 1) (sc 5)))) H := hP
      have hD : va_D A (MW E o (us (us (us sc 5 (k_cw (sc 6) (sc 5))) 7 0) 8 0) (ua ar 2 (k_kw (sc 6) (ar 2) (ar 1) (sc 5)))) := hD
      obtain ⟨a_4, ea_4⟩ : ∃ zz : Int → Int, zz = k_kw (sc 6) (ar 2) (ar 1) (sc 5) := ⟨_, rfl⟩
      rw [← ea_4] at hP hD
      have hBa_4 := k_kw_b (w := (sc 6)) (c := (sc 5)) (hB 2) (hB 1)
      rw [← ea_4] at hBa_4
      refine lv_aload_n hx hb dX5_define_61 rfl (lv_at hl 0 rfl) ?_
      refine lv_iload_n hx hb dX5_define_62 rfl (lv_at hl 1 rfl) ?_
      refine lv_bipush (v := iI 97) hx hb dX5_define_63 (by decide) ?_
      refine n_isub hx hb dX5_define_65 ?_
      refine lv_iconst (v := iI 0) hx hb dX5_define_66 rfl ?_
      refine lv_iload_n hx hb dX5_define_67 rfl (lv_at hl 2 rfl) ?_
      refine n_cuv (va_runV (As := [iv (t - 97), iv 0, iv sp]) (rest := []) ⟨hx, hb, hml, hown, hts⟩ (mt_X5_lays l E o (us (us (us sc 5 (k_cw (sc 6) (sc 5))) 7 0) 8 0) (ua ar 2 a_4) (t - 97) 0 sp (by omega) _) (cwV 3 hts (lw_V q2135 q2137 qs52 q113 q2138) rfl rfl rfl (by decide +kernel) ⟨Nat.le_of_ble_eq_true rfl, Nat.le_of_ble_eq_true rfl⟩) (UW_V hP hK (hD) (va_recv hK.1 hP (ci := 0) (q0 := 0) rfl rfl)) rfl rfl hl.1 rfl (lv_room (Nat.le_of_ble_eq_true rfl)) dX5_define_68 ⟨Nat.le_of_ble_eq_true rfl, Nat.le_of_ble_eq_true rfl⟩) hD hS hA (fun H locs hP hD hS => ?_)
      have hP : va_P E.1 CL (MW E o (us (us (us sc 5 (k_cw (sc 6) (sc 5))) 7 0) 8 0) (ua (ua ar 1 (ui (ar 1) (5 + 7 * (t - 97) + 0) sp)) 2 a_4)) H := hP
      have hD : va_D A (MW E o (us (us (us sc 5 (k_cw (sc 6) (sc 5))) 7 0) 8 0) (ua (ua ar 1 (ui (ar 1) (5 + 7 * (t - 97) + 0) sp)) 2 a_4)) := hD
      obtain ⟨a_5, ea_5⟩ : ∃ zz : Int → Int, zz = ui (ar 1) (5 + 7 * (t - 97) + 0) sp := ⟨_, rfl⟩
      rw [← ea_5] at hP hD
      have hBa_5 := ui_b (i := (5 + 7 * (t - 97) + 0)) (v := sp) (hB 1) (by omega)
      rw [← ea_5] at hBa_5
      refine lv_aload_n hx hb dX5_define_71 rfl (lv_at hl 0 rfl) ?_
      refine lv_iload_n hx hb dX5_define_72 rfl (lv_at hl 1 rfl) ?_
      refine lv_bipush (v := iI 97) hx hb dX5_define_73 (by decide) ?_
      refine n_isub hx hb dX5_define_75 ?_
      refine lv_iconst (v := iI 1) hx hb dX5_define_76 rfl ?_
      refine lv_iload_n hx hb dX5_define_77 rfl (lv_at hl 3 rfl) ?_
      refine n_cuv (va_runV (As := [iv (t - 97), iv 1, iv mn]) (rest := []) ⟨hx, hb, hml, hown, hts⟩ (mt_X5_lays l E o (us (us (us sc 5 (k_cw (sc 6) (sc 5))) 7 0) 8 0) (ua (ua ar 1 a_5) 2 a_4) (t - 97) 1 mn (by omega) _) (cwV 3 hts (lw_V q2135 q2137 qs52 q113 q2138) rfl rfl rfl (by decide +kernel) ⟨Nat.le_of_ble_eq_true rfl, Nat.le_of_ble_eq_true rfl⟩) (UW_V hP hK (hD) (va_recv hK.1 hP (ci := 0) (q0 := 0) rfl rfl)) rfl rfl hl.1 rfl (lv_room (Nat.le_of_ble_eq_true rfl)) dX5_define_78 ⟨Nat.le_of_ble_eq_true rfl, Nat.le_of_ble_eq_true rfl⟩) hD hS hA (fun H locs hP hD hS => ?_)
      have hP : va_P E.1 CL (MW E o (us (us (us sc 5 (k_cw (sc 6) (sc 5))) 7 0) 8 0) (ua (ua ar 1 (ui a_5 (5 + 7 * (t - 97) + 1) mn)) 2 a_4)) H := hP
      have hD : va_D A (MW E o (us (us (us sc 5 (k_cw (sc 6) (sc 5))) 7 0) 8 0) (ua (ua ar 1 (ui a_5 (5 + 7 * (t - 97) + 1) mn)) 2 a_4)) := hD
      obtain ⟨a_6, ea_6⟩ : ∃ zz : Int → Int, zz = ui a_5 (5 + 7 * (t - 97) + 1) mn := ⟨_, rfl⟩
      rw [← ea_6] at hP hD
      have hBa_6 := ui_b (i := (5 + 7 * (t - 97) + 1)) (v := mn) hBa_5 (by omega)
      rw [← ea_6] at hBa_6
      refine lv_aload_n hx hb dX5_define_81 rfl (lv_at hl 0 rfl) ?_
      refine lv_iload_n hx hb dX5_define_82 rfl (lv_at hl 1 rfl) ?_
      refine lv_bipush (v := iI 97) hx hb dX5_define_83 (by decide) ?_
      refine n_isub hx hb dX5_define_85 ?_
      refine lv_iconst (v := iI 2) hx hb dX5_define_86 rfl ?_
      refine lv_iconst (v := iI 0) hx hb dX5_define_87 rfl ?_
      refine n_cuv (va_runV (As := [iv (t - 97), iv 2, iv 0]) (rest := []) ⟨hx, hb, hml, hown, hts⟩ (mt_X5_lays l E o (us (us (us sc 5 (k_cw (sc 6) (sc 5))) 7 0) 8 0) (ua (ua ar 1 a_6) 2 a_4) (t - 97) 2 0 (by omega) _) (cwV 3 hts (lw_V q2135 q2137 qs52 q113 q2138) rfl rfl rfl (by decide +kernel) ⟨Nat.le_of_ble_eq_true rfl, Nat.le_of_ble_eq_true rfl⟩) (UW_V hP hK (hD) (va_recv hK.1 hP (ci := 0) (q0 := 0) rfl rfl)) rfl rfl hl.1 rfl (lv_room (Nat.le_of_ble_eq_true rfl)) dX5_define_88 ⟨Nat.le_of_ble_eq_true rfl, Nat.le_of_ble_eq_true rfl⟩) hD hS hA (fun H locs hP hD hS => ?_)
      have hP : va_P E.1 CL (MW E o (us (us (us sc 5 (k_cw (sc 6) (sc 5))) 7 0) 8 0) (ua (ua ar 1 (ui a_6 (5 + 7 * (t - 97) + 2) 0)) 2 a_4)) H := hP
      have hD : va_D A (MW E o (us (us (us sc 5 (k_cw (sc 6) (sc 5))) 7 0) 8 0) (ua (ua ar 1 (ui a_6 (5 + 7 * (t - 97) + 2) 0)) 2 a_4)) := hD
      obtain ⟨a_7, ea_7⟩ : ∃ zz : Int → Int, zz = ui a_6 (5 + 7 * (t - 97) + 2) 0 := ⟨_, rfl⟩
      rw [← ea_7] at hP hD
      have hBa_7 := ui_b (i := (5 + 7 * (t - 97) + 2)) (v := 0) hBa_6 (by omega)
      rw [← ea_7] at hBa_7
      refine lv_aload_n hx hb dX5_define_91 rfl (lv_at hl 0 rfl) ?_
      refine n_csi (x := m_recipes a_7) (va_runV (As := []) (rest := []) ⟨hx, hb, hml, hown, hts⟩ (mt_X5_recipes l E o (us (us (us sc 5 (k_cw (sc 6) (sc 5))) 7 0) 8 0) (ua (ua ar 1 a_7) 2 a_4)  (ua_b 2 (ua_b 1 hB hBa_7) hBa_4)) (cwV 0 hts (lw_V q2139 q2141 qs53 q113 q2142) rfl rfl rfl (by decide +kernel) ⟨Nat.le_of_ble_eq_true rfl, Nat.le_of_ble_eq_true rfl⟩) (PW_V hP hK (va_recv hK.1 hP (ci := 0) (q0 := 0) rfl rfl)) rfl rfl hl.1 rfl (lv_room (Nat.le_of_ble_eq_true rfl)) dX5_define_92 ⟨Nat.le_of_ble_eq_true rfl, Nat.le_of_ble_eq_true rfl⟩) ?_
      have hA : A_def (ar 1) t sp mn = .inr (.inr (m_recipes a_7, a_7)) := by
        subst_vars
        unfold A_def
        rw [if_neg (by assumption)]
        rfl
      have hfin : m_recipes a_7 = rs_val 0 (A_def (ar 1) t sp mn) := by
        first | (rw [hA]; done) | (rw [hA]; rfl)
      have w_8 : k_cw (sc 6) (sc 5) = rs_cw (sc 6) (sc 5) (A_def (ar 1) t sp mn) := by
        first | (rw [hA]; done) | (rw [hA]; rfl) | (rw [hA]; exact if_pos hden) | (rw [hA]; exact if_neg hden) | (rw [hA]; exact rfl) | (rw [hA]; exact rfl)
      rw [show (us (us (us sc 5 (k_cw (sc 6) (sc 5))) 7 0) 8 0) = (us (us (us sc 5 (rs_cw (sc 6) (sc 5) (A_def (ar 1) t sp mn))) 7 0) 8 0) from congrArg (fun z0 : Int => (us (us (us sc 5 z0) 7 0) 8 0)) w_8] at hP hD
      have w_9 : 0 = rs_ref (A_def (ar 1) t sp mn) := by
        first | (rw [hA]; done) | (rw [hA]; rfl) | (rw [hA]; exact if_pos hden) | (rw [hA]; exact if_neg hden) | (rw [hA]; exact rfl) | (rw [hA]; exact rfl)
      rw [show (us (us (us sc 5 (rs_cw (sc 6) (sc 5) (A_def (ar 1) t sp mn))) 7 0) 8 0) = (us (us (us sc 5 (rs_cw (sc 6) (sc 5) (A_def (ar 1) t sp mn))) 7 (rs_ref (A_def (ar 1) t sp mn))) 8 0) from congrArg (fun z0 : Int => (us (us (us sc 5 (rs_cw (sc 6) (sc 5) (A_def (ar 1) t sp mn))) 7 z0) 8 0)) w_9] at hP hD
      have w_10 : 0 = rs_code 2 (A_def (ar 1) t sp mn) := by
        first | (rw [hA]; done) | (rw [hA]; rfl) | (rw [hA]; exact if_pos hden) | (rw [hA]; exact if_neg hden) | (rw [hA]; exact rfl) | (rw [hA]; exact rfl)
      rw [show (us (us (us sc 5 (rs_cw (sc 6) (sc 5) (A_def (ar 1) t sp mn))) 7 (rs_ref (A_def (ar 1) t sp mn))) 8 0) = (us (us (us sc 5 (rs_cw (sc 6) (sc 5) (A_def (ar 1) t sp mn))) 7 (rs_ref (A_def (ar 1) t sp mn))) 8 (rs_code 2 (A_def (ar 1) t sp mn))) from congrArg (fun z0 : Int => (us (us (us sc 5 (rs_cw (sc 6) (sc 5) (A_def (ar 1) t sp mn))) 7 (rs_ref (A_def (ar 1) t sp mn))) 8 z0)) w_10] at hP hD
      have hP : va_P E.1 CL (MW E o (us (us (us (us sc 5 (rs_cw (sc 6) (sc 5) (A_def (ar 1) t sp mn))) 7 (rs_ref (A_def (ar 1) t sp mn))) 8 (rs_code 2 (A_def (ar 1) t sp mn))) 9 (sc 9)) (ua (ua ar 1 a_7) 2 a_4)) H := hP
      have hD : va_D A (MW E o (us (us (us (us sc 5 (rs_cw (sc 6) (sc 5) (A_def (ar 1) t sp mn))) 7 (rs_ref (A_def (ar 1) t sp mn))) 8 (rs_code 2 (A_def (ar 1) t sp mn))) 9 (sc 9)) (ua (ua ar 1 a_7) 2 a_4)) := hD
      have w_11 : sc 9 = rs_why (sc 9) (A_def (ar 1) t sp mn) := by
        first | (rw [hA]; done) | (rw [hA]; rfl) | (rw [hA]; exact if_pos hden) | (rw [hA]; exact if_neg hden) | (rw [hA]; exact rfl) | (rw [hA]; exact rfl)
      rw [show (us (us (us (us sc 5 (rs_cw (sc 6) (sc 5) (A_def (ar 1) t sp mn))) 7 (rs_ref (A_def (ar 1) t sp mn))) 8 (rs_code 2 (A_def (ar 1) t sp mn))) 9 (sc 9)) = (us (us (us (us sc 5 (rs_cw (sc 6) (sc 5) (A_def (ar 1) t sp mn))) 7 (rs_ref (A_def (ar 1) t sp mn))) 8 (rs_code 2 (A_def (ar 1) t sp mn))) 9 (rs_why (sc 9) (A_def (ar 1) t sp mn))) from congrArg (fun z0 : Int => (us (us (us (us sc 5 (rs_cw (sc 6) (sc 5) (A_def (ar 1) t sp mn))) 7 (rs_ref (A_def (ar 1) t sp mn))) 8 (rs_code 2 (A_def (ar 1) t sp mn))) 9 z0)) w_11] at hP hD
      have hP : va_P E.1 CL (MW E o (us (us (us (us (us sc 5 (rs_cw (sc 6) (sc 5) (A_def (ar 1) t sp mn))) 7 (rs_ref (A_def (ar 1) t sp mn))) 8 (rs_code 2 (A_def (ar 1) t sp mn))) 9 (rs_why (sc 9) (A_def (ar 1) t sp mn))) 10 (sc 10)) (ua (ua ar 1 a_7) 2 a_4)) H := hP
      have hD : va_D A (MW E o (us (us (us (us (us sc 5 (rs_cw (sc 6) (sc 5) (A_def (ar 1) t sp mn))) 7 (rs_ref (A_def (ar 1) t sp mn))) 8 (rs_code 2 (A_def (ar 1) t sp mn))) 9 (rs_why (sc 9) (A_def (ar 1) t sp mn))) 10 (sc 10)) (ua (ua ar 1 a_7) 2 a_4)) := hD
      have w_12 : sc 10 = rs_det (sc 10) (A_def (ar 1) t sp mn) := by
        first | (rw [hA]; done) | (rw [hA]; rfl) | (rw [hA]; exact if_pos hden) | (rw [hA]; exact if_neg hden) | (rw [hA]; exact rfl) | (rw [hA]; exact rfl)
      rw [show (us (us (us (us (us sc 5 (rs_cw (sc 6) (sc 5) (A_def (ar 1) t sp mn))) 7 (rs_ref (A_def (ar 1) t sp mn))) 8 (rs_code 2 (A_def (ar 1) t sp mn))) 9 (rs_why (sc 9) (A_def (ar 1) t sp mn))) 10 (sc 10)) = (us (us (us (us (us sc 5 (rs_cw (sc 6) (sc 5) (A_def (ar 1) t sp mn))) 7 (rs_ref (A_def (ar 1) t sp mn))) 8 (rs_code 2 (A_def (ar 1) t sp mn))) 9 (rs_why (sc 9) (A_def (ar 1) t sp mn))) 10 (rs_det (sc 10) (A_def (ar 1) t sp mn))) from congrArg (fun z0 : Int => (us (us (us (us (us sc 5 (rs_cw (sc 6) (sc 5) (A_def (ar 1) t sp mn))) 7 (rs_ref (A_def (ar 1) t sp mn))) 8 (rs_code 2 (A_def (ar 1) t sp mn))) 9 (rs_why (sc 9) (A_def (ar 1) t sp mn))) 10 z0)) w_12] at hP hD
      have hP : va_P E.1 CL (MW E o (us (us (us (us (us (us sc 5 (rs_cw (sc 6) (sc 5) (A_def (ar 1) t sp mn))) 7 (rs_ref (A_def (ar 1) t sp mn))) 8 (rs_code 2 (A_def (ar 1) t sp mn))) 9 (rs_why (sc 9) (A_def (ar 1) t sp mn))) 10 (rs_det (sc 10) (A_def (ar 1) t sp mn))) 11 (sc 11)) (ua (ua ar 1 a_7) 2 a_4)) H := hP
      have hD : va_D A (MW E o (us (us (us (us (us (us sc 5 (rs_cw (sc 6) (sc 5) (A_def (ar 1) t sp mn))) 7 (rs_ref (A_def (ar 1) t sp mn))) 8 (rs_code 2 (A_def (ar 1) t sp mn))) 9 (rs_why (sc 9) (A_def (ar 1) t sp mn))) 10 (rs_det (sc 10) (A_def (ar 1) t sp mn))) 11 (sc 11)) (ua (ua ar 1 a_7) 2 a_4)) := hD
      have w_13 : sc 11 = rs_cau (sc 11) (A_def (ar 1) t sp mn) := by
        first | (rw [hA]; done) | (rw [hA]; rfl) | (rw [hA]; exact if_pos hden) | (rw [hA]; exact if_neg hden) | (rw [hA]; exact rfl) | (rw [hA]; exact rfl)
      rw [show (us (us (us (us (us (us sc 5 (rs_cw (sc 6) (sc 5) (A_def (ar 1) t sp mn))) 7 (rs_ref (A_def (ar 1) t sp mn))) 8 (rs_code 2 (A_def (ar 1) t sp mn))) 9 (rs_why (sc 9) (A_def (ar 1) t sp mn))) 10 (rs_det (sc 10) (A_def (ar 1) t sp mn))) 11 (sc 11)) = (us (us (us (us (us (us sc 5 (rs_cw (sc 6) (sc 5) (A_def (ar 1) t sp mn))) 7 (rs_ref (A_def (ar 1) t sp mn))) 8 (rs_code 2 (A_def (ar 1) t sp mn))) 9 (rs_why (sc 9) (A_def (ar 1) t sp mn))) 10 (rs_det (sc 10) (A_def (ar 1) t sp mn))) 11 (rs_cau (sc 11) (A_def (ar 1) t sp mn))) from congrArg (fun z0 : Int => (us (us (us (us (us (us sc 5 (rs_cw (sc 6) (sc 5) (A_def (ar 1) t sp mn))) 7 (rs_ref (A_def (ar 1) t sp mn))) 8 (rs_code 2 (A_def (ar 1) t sp mn))) 9 (rs_why (sc 9) (A_def (ar 1) t sp mn))) 10 (rs_det (sc 10) (A_def (ar 1) t sp mn))) 11 z0)) w_13] at hP hD
      have w_14 : a_7 = rs_g (ar 1) (A_def (ar 1) t sp mn) := by
        first | (rw [hA]; done) | (rw [hA]; rfl) | (rw [hA]; exact if_pos hden) | (rw [hA]; exact if_neg hden) | (rw [hA]; exact rfl) | (rw [hA]; exact rfl)
      rw [show (ua (ua ar 1 a_7) 2 a_4) = (ua (ua ar 1 (rs_g (ar 1) (A_def (ar 1) t sp mn))) 2 a_4) from congrArg (fun z0 : Int → Int => (ua (ua ar 1 z0) 2 a_4)) w_14] at hP hD
      have w_15 : a_4 = rs_kw (sc 6) (ar 2) (ar 1) (sc 5) (A_def (ar 1) t sp mn) := by
        rw [hA]
        first | rfl | exact ea_4
      rw [show (ua (ua ar 1 (rs_g (ar 1) (A_def (ar 1) t sp mn))) 2 a_4) = (ua (ua ar 1 (rs_g (ar 1) (A_def (ar 1) t sp mn))) 2 (rs_kw (sc 6) (ar 2) (ar 1) (sc 5) (A_def (ar 1) t sp mn))) from congrArg (fun z0 : Int → Int => (ua (ua ar 1 (rs_g (ar 1) (A_def (ar 1) t sp mn))) 2 z0)) w_15] at hP hD
      exact W.iret (v := iI (m_recipes a_7)) hx hb hr (fun tt_ ht_ hW_ => ⟨⟨iI (m_recipes a_7), (), rfl, (congrArg iI hfin), by rw [ht_]; exact hP, hD⟩, hS.F ht_⟩) hS.2.2 dX5_define_95
    · refine lv_iconst (v := iI 0) hx hb dX5_define_51 rfl ?_
      have hA : A_def (ar 1) t sp mn = .inl (c_def (ar 1) t sp mn) := by
        unfold A_def
        rw [if_pos (by assumption)]
      have hfin : 0 = rs_val 0 (A_def (ar 1) t sp mn) := by
        first | (rw [hA]; done) | (rw [hA]; rfl)
      have hP : va_P E.1 CL (MW E o (us (us (us sc 5 (sc 5)) 7 0) 8 (c_def (ar 1) t sp mn)) ar) H := hP
      have hD : va_D A (MW E o (us (us (us sc 5 (sc 5)) 7 0) 8 (c_def (ar 1) t sp mn)) ar) := hD
      have w_16 : sc 5 = rs_cw (sc 6) (sc 5) (A_def (ar 1) t sp mn) := by
        first | (rw [hA]; done) | (rw [hA]; rfl) | (rw [hA]; exact if_pos hden) | (rw [hA]; exact if_neg hden) | (rw [hA]; exact rfl) | (rw [hA]; exact rfl)
      rw [show (us (us (us sc 5 (sc 5)) 7 0) 8 (c_def (ar 1) t sp mn)) = (us (us (us sc 5 (rs_cw (sc 6) (sc 5) (A_def (ar 1) t sp mn))) 7 0) 8 (c_def (ar 1) t sp mn)) from congrArg (fun z0 : Int => (us (us (us sc 5 z0) 7 0) 8 (c_def (ar 1) t sp mn))) w_16] at hP hD
      have w_17 : 0 = rs_ref (A_def (ar 1) t sp mn) := by
        first | (rw [hA]; done) | (rw [hA]; rfl) | (rw [hA]; exact if_pos hden) | (rw [hA]; exact if_neg hden) | (rw [hA]; exact rfl) | (rw [hA]; exact rfl)
      rw [show (us (us (us sc 5 (rs_cw (sc 6) (sc 5) (A_def (ar 1) t sp mn))) 7 0) 8 (c_def (ar 1) t sp mn)) = (us (us (us sc 5 (rs_cw (sc 6) (sc 5) (A_def (ar 1) t sp mn))) 7 (rs_ref (A_def (ar 1) t sp mn))) 8 (c_def (ar 1) t sp mn)) from congrArg (fun z0 : Int => (us (us (us sc 5 (rs_cw (sc 6) (sc 5) (A_def (ar 1) t sp mn))) 7 z0) 8 (c_def (ar 1) t sp mn))) w_17] at hP hD
      have w_18 : (c_def (ar 1) t sp mn) = rs_code 2 (A_def (ar 1) t sp mn) := by
        first | (rw [hA]; done) | (rw [hA]; rfl) | (rw [hA]; exact if_pos hden) | (rw [hA]; exact if_neg hden) | (rw [hA]; exact rfl) | (rw [hA]; exact rfl)
      rw [show (us (us (us sc 5 (rs_cw (sc 6) (sc 5) (A_def (ar 1) t sp mn))) 7 (rs_ref (A_def (ar 1) t sp mn))) 8 (c_def (ar 1) t sp mn)) = (us (us (us sc 5 (rs_cw (sc 6) (sc 5) (A_def (ar 1) t sp mn))) 7 (rs_ref (A_def (ar 1) t sp mn))) 8 (rs_code 2 (A_def (ar 1) t sp mn))) from congrArg (fun z0 : Int => (us (us (us sc 5 (rs_cw (sc 6) (sc 5) (A_def (ar 1) t sp mn))) 7 (rs_ref (A_def (ar 1) t sp mn))) 8 z0)) w_18] at hP hD
      have hP : va_P E.1 CL (MW E o (us (us (us (us sc 5 (rs_cw (sc 6) (sc 5) (A_def (ar 1) t sp mn))) 7 (rs_ref (A_def (ar 1) t sp mn))) 8 (rs_code 2 (A_def (ar 1) t sp mn))) 9 (sc 9)) ar) H := hP
      have hD : va_D A (MW E o (us (us (us (us sc 5 (rs_cw (sc 6) (sc 5) (A_def (ar 1) t sp mn))) 7 (rs_ref (A_def (ar 1) t sp mn))) 8 (rs_code 2 (A_def (ar 1) t sp mn))) 9 (sc 9)) ar) := hD
      have w_19 : sc 9 = rs_why (sc 9) (A_def (ar 1) t sp mn) := by
        first | (rw [hA]; done) | (rw [hA]; rfl) | (rw [hA]; exact if_pos hden) | (rw [hA]; exact if_neg hden) | (rw [hA]; exact rfl) | (rw [hA]; exact rfl)
      rw [show (us (us (us (us sc 5 (rs_cw (sc 6) (sc 5) (A_def (ar 1) t sp mn))) 7 (rs_ref (A_def (ar 1) t sp mn))) 8 (rs_code 2 (A_def (ar 1) t sp mn))) 9 (sc 9)) = (us (us (us (us sc 5 (rs_cw (sc 6) (sc 5) (A_def (ar 1) t sp mn))) 7 (rs_ref (A_def (ar 1) t sp mn))) 8 (rs_code 2 (A_def (ar 1) t sp mn))) 9 (rs_why (sc 9) (A_def (ar 1) t sp mn))) from congrArg (fun z0 : Int => (us (us (us (us sc 5 (rs_cw (sc 6) (sc 5) (A_def (ar 1) t sp mn))) 7 (rs_ref (A_def (ar 1) t sp mn))) 8 (rs_code 2 (A_def (ar 1) t sp mn))) 9 z0)) w_19] at hP hD
      have hP : va_P E.1 CL (MW E o (us (us (us (us (us sc 5 (rs_cw (sc 6) (sc 5) (A_def (ar 1) t sp mn))) 7 (rs_ref (A_def (ar 1) t sp mn))) 8 (rs_code 2 (A_def (ar 1) t sp mn))) 9 (rs_why (sc 9) (A_def (ar 1) t sp mn))) 10 (sc 10)) ar) H := hP
      have hD : va_D A (MW E o (us (us (us (us (us sc 5 (rs_cw (sc 6) (sc 5) (A_def (ar 1) t sp mn))) 7 (rs_ref (A_def (ar 1) t sp mn))) 8 (rs_code 2 (A_def (ar 1) t sp mn))) 9 (rs_why (sc 9) (A_def (ar 1) t sp mn))) 10 (sc 10)) ar) := hD
      have w_20 : sc 10 = rs_det (sc 10) (A_def (ar 1) t sp mn) := by
        first | (rw [hA]; done) | (rw [hA]; rfl) | (rw [hA]; exact if_pos hden) | (rw [hA]; exact if_neg hden) | (rw [hA]; exact rfl) | (rw [hA]; exact rfl)
      rw [show (us (us (us (us (us sc 5 (rs_cw (sc 6) (sc 5) (A_def (ar 1) t sp mn))) 7 (rs_ref (A_def (ar 1) t sp mn))) 8 (rs_code 2 (A_def (ar 1) t sp mn))) 9 (rs_why (sc 9) (A_def (ar 1) t sp mn))) 10 (sc 10)) = (us (us (us (us (us sc 5 (rs_cw (sc 6) (sc 5) (A_def (ar 1) t sp mn))) 7 (rs_ref (A_def (ar 1) t sp mn))) 8 (rs_code 2 (A_def (ar 1) t sp mn))) 9 (rs_why (sc 9) (A_def (ar 1) t sp mn))) 10 (rs_det (sc 10) (A_def (ar 1) t sp mn))) from congrArg (fun z0 : Int => (us (us (us (us (us sc 5 (rs_cw (sc 6) (sc 5) (A_def (ar 1) t sp mn))) 7 (rs_ref (A_def (ar 1) t sp mn))) 8 (rs_code 2 (A_def (ar 1) t sp mn))) 9 (rs_why (sc 9) (A_def (ar 1) t sp mn))) 10 z0)) w_20] at hP hD
      have hP : va_P E.1 CL (MW E o (us (us (us (us (us (us sc 5 (rs_cw (sc 6) (sc 5) (A_def (ar 1) t sp mn))) 7 (rs_ref (A_def (ar 1) t sp mn))) 8 (rs_code 2 (A_def (ar 1) t sp mn))) 9 (rs_why (sc 9) (A_def (ar 1) t sp mn))) 10 (rs_det (sc 10) (A_def (ar 1) t sp mn))) 11 (sc 11)) ar) H := hP
      have hD : va_D A (MW E o (us (us (us (us (us (us sc 5 (rs_cw (sc 6) (sc 5) (A_def (ar 1) t sp mn))) 7 (rs_ref (A_def (ar 1) t sp mn))) 8 (rs_code 2 (A_def (ar 1) t sp mn))) 9 (rs_why (sc 9) (A_def (ar 1) t sp mn))) 10 (rs_det (sc 10) (A_def (ar 1) t sp mn))) 11 (sc 11)) ar) := hD
      have w_21 : sc 11 = rs_cau (sc 11) (A_def (ar 1) t sp mn) := by
        first | (rw [hA]; done) | (rw [hA]; rfl) | (rw [hA]; exact if_pos hden) | (rw [hA]; exact if_neg hden) | (rw [hA]; exact rfl) | (rw [hA]; exact rfl)
      rw [show (us (us (us (us (us (us sc 5 (rs_cw (sc 6) (sc 5) (A_def (ar 1) t sp mn))) 7 (rs_ref (A_def (ar 1) t sp mn))) 8 (rs_code 2 (A_def (ar 1) t sp mn))) 9 (rs_why (sc 9) (A_def (ar 1) t sp mn))) 10 (rs_det (sc 10) (A_def (ar 1) t sp mn))) 11 (sc 11)) = (us (us (us (us (us (us sc 5 (rs_cw (sc 6) (sc 5) (A_def (ar 1) t sp mn))) 7 (rs_ref (A_def (ar 1) t sp mn))) 8 (rs_code 2 (A_def (ar 1) t sp mn))) 9 (rs_why (sc 9) (A_def (ar 1) t sp mn))) 10 (rs_det (sc 10) (A_def (ar 1) t sp mn))) 11 (rs_cau (sc 11) (A_def (ar 1) t sp mn))) from congrArg (fun z0 : Int => (us (us (us (us (us (us sc 5 (rs_cw (sc 6) (sc 5) (A_def (ar 1) t sp mn))) 7 (rs_ref (A_def (ar 1) t sp mn))) 8 (rs_code 2 (A_def (ar 1) t sp mn))) 9 (rs_why (sc 9) (A_def (ar 1) t sp mn))) 10 (rs_det (sc 10) (A_def (ar 1) t sp mn))) 11 z0)) w_21] at hP hD
      have hP : va_P E.1 CL (MW E o (us (us (us (us (us (us sc 5 (rs_cw (sc 6) (sc 5) (A_def (ar 1) t sp mn))) 7 (rs_ref (A_def (ar 1) t sp mn))) 8 (rs_code 2 (A_def (ar 1) t sp mn))) 9 (rs_why (sc 9) (A_def (ar 1) t sp mn))) 10 (rs_det (sc 10) (A_def (ar 1) t sp mn))) 11 (rs_cau (sc 11) (A_def (ar 1) t sp mn))) (ua ar 1 (ar 1))) H := hP
      have hD : va_D A (MW E o (us (us (us (us (us (us sc 5 (rs_cw (sc 6) (sc 5) (A_def (ar 1) t sp mn))) 7 (rs_ref (A_def (ar 1) t sp mn))) 8 (rs_code 2 (A_def (ar 1) t sp mn))) 9 (rs_why (sc 9) (A_def (ar 1) t sp mn))) 10 (rs_det (sc 10) (A_def (ar 1) t sp mn))) 11 (rs_cau (sc 11) (A_def (ar 1) t sp mn))) (ua ar 1 (ar 1))) := hD
      have w_22 : ar 1 = rs_g (ar 1) (A_def (ar 1) t sp mn) := by
        first | (rw [hA]; done) | (rw [hA]; rfl) | (rw [hA]; exact if_pos hden) | (rw [hA]; exact if_neg hden) | (rw [hA]; exact rfl) | (rw [hA]; exact rfl)
      rw [show (ua ar 1 (ar 1)) = (ua ar 1 (rs_g (ar 1) (A_def (ar 1) t sp mn))) from congrArg (fun z0 : Int → Int => (ua ar 1 z0)) w_22] at hP hD
      have hP : va_P E.1 CL (MW E o (us (us (us (us (us (us sc 5 (rs_cw (sc 6) (sc 5) (A_def (ar 1) t sp mn))) 7 (rs_ref (A_def (ar 1) t sp mn))) 8 (rs_code 2 (A_def (ar 1) t sp mn))) 9 (rs_why (sc 9) (A_def (ar 1) t sp mn))) 10 (rs_det (sc 10) (A_def (ar 1) t sp mn))) 11 (rs_cau (sc 11) (A_def (ar 1) t sp mn))) (ua (ua ar 1 (rs_g (ar 1) (A_def (ar 1) t sp mn))) 2 (ar 2))) H := hP
      have hD : va_D A (MW E o (us (us (us (us (us (us sc 5 (rs_cw (sc 6) (sc 5) (A_def (ar 1) t sp mn))) 7 (rs_ref (A_def (ar 1) t sp mn))) 8 (rs_code 2 (A_def (ar 1) t sp mn))) 9 (rs_why (sc 9) (A_def (ar 1) t sp mn))) 10 (rs_det (sc 10) (A_def (ar 1) t sp mn))) 11 (rs_cau (sc 11) (A_def (ar 1) t sp mn))) (ua (ua ar 1 (rs_g (ar 1) (A_def (ar 1) t sp mn))) 2 (ar 2))) := hD
      have w_23 : ar 2 = rs_kw (sc 6) (ar 2) (ar 1) (sc 5) (A_def (ar 1) t sp mn) := by
        rw [hA]
        first | rfl | exact ear 2
      rw [show (ua (ua ar 1 (rs_g (ar 1) (A_def (ar 1) t sp mn))) 2 (ar 2)) = (ua (ua ar 1 (rs_g (ar 1) (A_def (ar 1) t sp mn))) 2 (rs_kw (sc 6) (ar 2) (ar 1) (sc 5) (A_def (ar 1) t sp mn))) from congrArg (fun z0 : Int → Int => (ua (ua ar 1 (rs_g (ar 1) (A_def (ar 1) t sp mn))) 2 z0)) w_23] at hP hD
      exact W.iret (v := iI 0) hx hb hr (fun tt_ ht_ hW_ => ⟨⟨iI 0, (), rfl, (congrArg iI hfin), by rw [ht_]; exact hP, hD⟩, hS.F ht_⟩) hS.2.2 dX5_define_52
  refine lv_iload_n hx hb dX5_define_1 rfl (lv_at hl 1 rfl) ?_
  refine n_csi (x := b2 (decide (97 ≤ t ∧ t ≤ 104))) (va_runS (As := [iv t]) (rest := [.ref (o 0)]) ⟨hx, hb, hml, hown, hts⟩ (mt_X5_isTool l E o sc ar t (by omega)) (va_cwS 1 hts (lw_S q2107 q2108 q113 q2109) rfl rfl rfl (by decide +kernel) ⟨Nat.le_of_ble_eq_true rfl, Nat.le_of_ble_eq_true rfl⟩) (PW_S hP hK) rfl rfl hl.1 rfl (lv_room (Nat.le_of_ble_eq_true rfl)) dX5_define_2 ⟨Nat.le_of_ble_eq_true rfl, Nat.le_of_ble_eq_true rfl⟩) ?_
  refine n_ifd_eq (tgt := 25) hx hb dX5_define_5 (by decide) (fun c_24 => ?_) (fun c_24 => ?_)
  · refine lv_iconst (v := iI 1) hx hb dX5_define_25 rfl ?_
    refine lv_goto (tgt := 45) hx hb dX5_define_26 (by decide) ?_
    refine n_top (y := c_def (ar 1) t sp mn) (by (try unfold c_def); (repeat' split) <;> first | rfl | omega | contradiction | (exfalso; omega) | (simp_all; done)) ?_
    exact j_1
  · refine lv_iload_n hx hb dX5_define_8 rfl (lv_at hl 2 rfl) ?_
    refine n_csi (x := b2 (decide (sp = 115 ∨ sp = 116 ∨ sp = 101))) (va_runS (As := [iv sp]) (rest := [.ref (o 0)]) ⟨hx, hb, hml, hown, hts⟩ (mt_X5_isScope l E o sc ar sp (by omega)) (va_cwS 1 hts (lw_S q2113 q2114 q113 q2115) rfl rfl rfl (by decide +kernel) ⟨Nat.le_of_ble_eq_true rfl, Nat.le_of_ble_eq_true rfl⟩) (PW_S hP hK) rfl rfl hl.1 rfl (lv_room (Nat.le_of_ble_eq_true rfl)) dX5_define_9 ⟨Nat.le_of_ble_eq_true rfl, Nat.le_of_ble_eq_true rfl⟩) ?_
    refine n_ifd_eq (tgt := 25) hx hb dX5_define_12 (by decide) (fun c_25 => ?_) (fun c_25 => ?_)
    · refine lv_iconst (v := iI 1) hx hb dX5_define_25 rfl ?_
      refine lv_goto (tgt := 45) hx hb dX5_define_26 (by decide) ?_
      refine n_top (y := c_def (ar 1) t sp mn) (by (try unfold c_def); (repeat' split) <;> first | rfl | omega | contradiction | (exfalso; omega) | (simp_all; done)) ?_
      exact j_1
    · refine lv_iload_n hx hb dX5_define_15 rfl (lv_at hl 3 rfl) ?_
      refine lv_iconst (v := iI 1) hx hb dX5_define_16 rfl ?_
      refine lv_bipush (v := iI 20) hx hb dX5_define_17 (by decide) ?_
      refine n_csi (x := b2 (decide (1 ≤ mn ∧ mn ≤ 20))) (va_runS (As := [iv mn, iv 1, iv 20]) (rest := [.ref (o 0)]) ⟨hx, hb, hml, hown, hts⟩ (mt_X5_in l E o sc ar mn 1 20 (by omega) (by omega) (by omega)) (va_cwS 3 hts (lw_S q2110 q2111 q113 q2112) rfl rfl rfl (by decide +kernel) ⟨Nat.le_of_ble_eq_true rfl, Nat.le_of_ble_eq_true rfl⟩) (PW_S hP hK) rfl rfl hl.1 rfl (lv_room (Nat.le_of_ble_eq_true rfl)) dX5_define_19 ⟨Nat.le_of_ble_eq_true rfl, Nat.le_of_ble_eq_true rfl⟩) ?_
      refine n_ifd_ne (tgt := 29) hx hb dX5_define_22 (by decide) (fun c_26 => ?_) (fun c_26 => ?_)
      · refine lv_aload_n hx hb dX5_define_29 rfl (lv_at hl 0 rfl) ?_
        refine lv_iload_n hx hb dX5_define_30 rfl (lv_at hl 1 rfl) ?_
        refine lv_bipush (v := iI 97) hx hb dX5_define_31 (by decide) ?_
        refine n_isub hx hb dX5_define_33 ?_
        refine n_csi (x := b2 (m_has (ar 1) (t - 97))) (va_runV (As := [iv (t - 97)]) (rest := [.ref (o 0)]) ⟨hx, hb, hml, hown, hts⟩ (mt_X5_has l E o sc ar (t - 97) hB (by omega)) (cwV 1 hts (lw_V q2116 q2118 qs48 q113 q2119) rfl rfl rfl (by decide +kernel) ⟨Nat.le_of_ble_eq_true rfl, Nat.le_of_ble_eq_true rfl⟩) (PW_V hP hK (va_recv hK.1 hP (ci := 0) (q0 := 0) rfl rfl)) rfl rfl hl.1 rfl (lv_room (Nat.le_of_ble_eq_true rfl)) dX5_define_34 ⟨Nat.le_of_ble_eq_true rfl, Nat.le_of_ble_eq_true rfl⟩) ?_
        refine n_ifb_eq (tgt := 44) hx hb dX5_define_37 (by decide) (fun c_27 => ?_) (fun c_27 => ?_)
        · refine lv_iconst (v := iI 0) hx hb dX5_define_44 rfl ?_
          refine n_top (y := c_def (ar 1) t sp mn) (by (try unfold c_def); (repeat' split) <;> first | rfl | omega | contradiction | (exfalso; omega) | (simp_all; done)) ?_
          exact j_1
        · refine lv_iconst (v := iI 2) hx hb dX5_define_40 rfl ?_
          refine lv_goto (tgt := 45) hx hb dX5_define_41 (by decide) ?_
          refine n_top (y := c_def (ar 1) t sp mn) (by (try unfold c_def); (repeat' split) <;> first | rfl | omega | contradiction | (exfalso; omega) | (simp_all; done)) ?_
          exact j_1
      · refine lv_iconst (v := iI 1) hx hb dX5_define_25 rfl ?_
        refine lv_goto (tgt := 45) hx hb dX5_define_26 (by decide) ?_
        refine n_top (y := c_def (ar 1) t sp mn) (by (try unfold c_def); (repeat' split) <;> first | rfl | omega | contradiction | (exfalso; omega) | (simp_all; done)) ?_
        exact j_1
