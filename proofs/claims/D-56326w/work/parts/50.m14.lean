set_option maxHeartbeats 4000000 in
set_option maxRecDepth 100000 in
theorem mt_X5_isText (l : Launch) (E : EE) (o : Nat → Nat) (sc : Nat → Int) (ar : Nat → Int → Int) (hI : ∀ x, 0 ≤ ar 5 x ∧ ar 5 x < 65536) (hln : 0 ≤ sc 13 ∧ sc 13 ≤ 60) (sz : Nat) : Met l yX5_isText (ws_ yX5_isText cX5_isText 1 (some .boolean)) { frames := 6, cells := 0, slots := 0, locals := 129 } (va_Pc [.ref (o 0)] (UX E (MW E o sc ar) sz)) (UQi E (b2 ((p_txt (ar 5) (sc 13) (ar 8)).1)) (MW E o (us (us sc 20 ((p_txt (ar 5) (sc 13) (ar 8)).2.2.1)) 22 ((p_txt (ar 5) (sc 13) (ar 8)).2.1)) (ua ar 8 ((p_txt (ar 5) (sc 13) (ar 8)).2.2.2))) (va_A (MW E o sc ar) sz)) 0 0 (va_A (MW E o sc ar) sz) := by
  refine Met.ofW (cc := cX5_isText) (maxL := 1) (ret := (some .boolean)) (by decide) rfl ?_
  intro p e s m args below meth c s₁ B hml hv
  obtain ⟨rfl, hsz, hP, hK, hD0, hE⟩ := hv
  have hx := B.exec
  have hb := B.bytes
  have hr := B.returns
  have hts := atoms_spec (ws := (ws_ yX5_isText cX5_isText 1 (some .boolean))) B.pre
  have hts : ∀ w ∈ lw_all, w.before _ s = true := fun w h => hts w (List.mem_cons_of_mem _ h)
  have hown : s.vm.findClass RX5 = some m.cls := findClass_of_methodNamed B.named
  have hlocks := B.notSynchronized
  subst hsz
  have hD := hD0.self (sz := s.heap.size)
  generalize hAe : va_A (MW E o sc ar) s.heap.size = A at hD hE ⊢
  have hA : ∀ q : Nat, s.heap.size ≤ q → A q := fun q h => by rw [← hAe]; exact Or.inr h
  have hS : va_S A s.heap s.heap [] := va_S.rf
  have hl := lv_entry ([.ref (o 0)]) (n := 1) (Nat.le_of_ble_eq_true rfl)
  rw [lg_entry_eq]
  generalize (lg_sl ([.ref (o 0)]) ++ List.replicate (1 - (lg_sl ([.ref (o 0)])).length) Slot.unset).toArray = ls at hl ⊢
  have hl : lv_has ls 1 [(0, .ref (o 0))] := hl
  refine lv_aload_n hx hb dX5_isText_0 rfl (lv_at hl 0 rfl) ?_
  refine lv_iconst (v := iI 0) hx hb dX5_isText_1 rfl ?_
  refine va_put (D := E.1) (ci := 0) (v := iv 0) (ty := .int) (C := RX5) (T := TX5) (N := 23) hx hb hts in_X5 tyX5 tyX5_ok nmX5 hown hK.1 hP hD hS 0 rfl rfl 20 (by decide) (hts _ q2049) (fun _ h9 => h9) rfl (by decide +kernel) rfl rfl (Nat.le_of_ble_eq_true rfl) dX5_isText_2 (fun H locs hP hD hS => ?_)
  have hP : va_P E.1 CL (MW E o (us sc 20 0) ar) H := hP
  have hD : va_D A (MW E o (us sc 20 0) ar) := hD
  refine lv_aload_n hx hb dX5_isText_5 rfl (lv_at hl 0 rfl) ?_
  refine lv_iconst (v := iI 0) hx hb dX5_isText_6 rfl ?_
  refine va_put (D := E.1) (ci := 0) (v := iv 0) (ty := .int) (C := RX5) (T := TX5) (N := 23) hx hb hts in_X5 tyX5 tyX5_ok nmX5 hown hK.1 hP hD hS 0 rfl rfl 22 (by decide) (hts _ q2051) (fun _ h9 => h9) rfl (by decide +kernel) rfl rfl (Nat.le_of_ble_eq_true rfl) dX5_isText_7 (fun H locs hP hD hS => ?_)
  have hP : va_P E.1 CL (MW E o (us (us sc 20 0) 22 0) ar) H := hP
  have hD : va_D A (MW E o (us (us sc 20 0) 22 0) ar) := hD
  have l10 : ∀ (fu : Nat) (xa : Int) (tm : Int) (tv : Int → Int) (z : Nat), (0 ≤ tm ∧ 4 * tm ≤ xa ∧ xa ≤ sc 13 ∧ (z : Int) + tm = 60) → (p_txN (ar 5) (sc 13) (z + 1) tm (xa, tv) = (p_txt (ar 5) (sc 13) (ar 8))) → ((z : Int) < (fu : Int)) → ∀ (H : Heap) (locs : List Loc), va_P E.1 CL (MW E o (us (us sc 20 xa) 22 tm) (ua ar 8 tv)) H → va_D A (MW E o (us (us sc 20 xa) 22 tm) (ua ar 8 tv)) → va_S A s.heap H locs → ∀ ls : Array Slot, lv_has ls 1 [(0, .ref (o 0))] → W p l e (headSpec (ws_ yX5_isText cX5_isText 1 (some .boolean)) { frames := 6, cells := 0, slots := 0, locals := 129 }).room s m ([.ref (o 0)] : List Value).toArray below meth c H locs 0 0 (MQ below (UQi E (b2 ((p_txt (ar 5) (sc 13) (ar 8)).1)) (MW E o (us (us sc 20 ((p_txt (ar 5) (sc 13) (ar 8)).2.2.1)) 22 ((p_txt (ar 5) (sc 13) (ar 8)).2.1)) (ua ar 8 ((p_txt (ar 5) (sc 13) (ar 8)).2.2.2))) A) ([.ref (o 0)] : List Value).toArray s 0 0 A) (F0 m 10 ls []) := by
    intro fu
    induction fu with
    | zero =>
      intro xa tm tv z il10_0 il10_1 hm
      exfalso; omega
    | succ fu ih =>
      intro xa tm tv z il10_0 il10_1 hm H locs hP hD hS ls hl
      have ihl10 := ih
      refine lv_aload_n hx hb dX5_isText_10 rfl (lv_at hl 0 rfl) ?_
      refine n_cui (x := b2 ((p_cmd (ar 5) (sc 13) tm (xa, tv)).1)) (va_runV (As := []) (rest := []) ⟨hx, hb, hml, hown, hts⟩ (mt_X5_commandHere l E o (us (us sc 20 xa) 22 tm) (ua ar 8 tv)  (xa, tv) (by exact hI) (by exact hln) (by show 0 ≤ xa ∧ xa ≤ sc 13; omega) (by show 0 ≤ tm ∧ tm ≤ 30; omega) _) (cwV 0 hts (lw_V q2452 q2454 qs83 q113 q2455) rfl rfl rfl (by decide +kernel) ⟨Nat.le_of_ble_eq_true rfl, Nat.le_of_ble_eq_true rfl⟩) (UX_V hP hK (hD) hE hS (va_A_in hD hS hA) (va_recv hK.1 hP (ci := 0) (q0 := 0) rfl rfl)) rfl rfl hl.1 rfl (lv_room (Nat.le_of_ble_eq_true rfl)) dX5_isText_11 ⟨Nat.le_of_ble_eq_true rfl, Nat.le_of_ble_eq_true rfl⟩) hD hS hA (fun H locs hP hD hS => ?_)
      have hP : va_P E.1 CL (MW E o (us (us sc 20 ((p_cmd (ar 5) (sc 13) tm (xa, tv)).2.1)) 22 tm) (ua ar 8 ((p_cmd (ar 5) (sc 13) tm (xa, tv)).2.2))) H := hP
      have hD : va_D A (MW E o (us (us sc 20 ((p_cmd (ar 5) (sc 13) tm (xa, tv)).2.1)) 22 tm) (ua ar 8 ((p_cmd (ar 5) (sc 13) tm (xa, tv)).2.2))) := hD
      have b_2 := p_cmd_r hI (sc 13) tm (xa, tv) (by first | omega | (simp only; omega))
      obtain ⟨q_1, eq_1⟩ : ∃ zz : PR, zz = p_cmd (ar 5) (sc 13) tm (xa, tv) := ⟨_, rfl⟩
      rw [← eq_1] at hP hD b_2 ⊢
      refine n_ifb_ne (tgt := 19) hx hb dX5_isText_14 (by decide) (fun c_3 => ?_) (fun c_3 => ?_)
      · have hb3 := b_2.2.2.2 (by assumption)
        refine lv_aload_n hx hb dX5_isText_19 rfl (lv_at hl 0 rfl) ?_
        refine lv_dup hx hb dX5_isText_20 rfl ?_
        refine va_get (D := E.1) (ci := 0) (v := iv tm) (C := RX5) (T := TX5) (N := 23) hx hb hts in_X5 hown hK.1 hP 0 rfl rfl 22 (by decide) (hts _ q2051) (fun _ h9 => h9) rfl dX5_isText_21 ?_
        refine lv_iconst (v := iI 1) hx hb dX5_isText_24 rfl ?_
        refine n_iadd hx hb dX5_isText_25 ?_
        refine va_put (D := E.1) (ci := 0) (v := iv (tm + 1)) (ty := .int) (C := RX5) (T := TX5) (N := 23) hx hb hts in_X5 tyX5 tyX5_ok nmX5 hown hK.1 hP hD hS 0 rfl rfl 22 (by decide) (hts _ q2051) (fun _ h9 => h9) rfl (by decide +kernel) rfl rfl (Nat.le_of_ble_eq_true rfl) dX5_isText_26 (fun H locs hP hD hS => ?_)
        have hP : va_P E.1 CL (MW E o (us (us sc 20 q_1.2.1) 22 (tm + 1)) (ua ar 8 q_1.2.2)) H := hP
        have hD : va_D A (MW E o (us (us sc 20 q_1.2.1) 22 (tm + 1)) (ua ar 8 q_1.2.2)) := hD
        refine lv_aload_n hx hb dX5_isText_29 rfl (lv_at hl 0 rfl) ?_
        refine lv_bipush (v := iI 59) hx hb dX5_isText_30 (by decide) ?_
        refine n_cui (x := b2 ((p_skip (ar 5) (sc 13) 59 q_1.2).1)) (va_runV (As := [iv 59]) (rest := []) ⟨hx, hb, hml, hown, hts⟩ (mt_X5_skips l E o (us (us sc 20 q_1.2.1) 22 (tm + 1)) (ua ar 8 q_1.2.2) 59 q_1.2 (by exact hI) (by exact hln) (by show 0 ≤ q_1.2.1 ∧ q_1.2.1 ≤ sc 13; omega) (by omega) _) (cwV 1 hts (lw_V q2456 q2458 qs84 q113 q2459) rfl rfl rfl (by decide +kernel) ⟨Nat.le_of_ble_eq_true rfl, Nat.le_of_ble_eq_true rfl⟩) (UW_V hP hK (hD) (va_recv hK.1 hP (ci := 0) (q0 := 0) rfl rfl)) rfl rfl hl.1 rfl (lv_room (Nat.le_of_ble_eq_true rfl)) dX5_isText_32 ⟨Nat.le_of_ble_eq_true rfl, Nat.le_of_ble_eq_true rfl⟩) hD hS hA (fun H locs hP hD hS => ?_)
        have hP : va_P E.1 CL (MW E o (us (us sc 20 ((p_skip (ar 5) (sc 13) 59 q_1.2).2.1)) 22 (tm + 1)) (ua ar 8 ((p_skip (ar 5) (sc 13) 59 q_1.2).2.2))) H := hP
        have hD : va_D A (MW E o (us (us sc 20 ((p_skip (ar 5) (sc 13) 59 q_1.2).2.1)) 22 (tm + 1)) (ua ar 8 ((p_skip (ar 5) (sc 13) 59 q_1.2).2.2))) := hD
        have b_5 := p_skip_r (len := sc 13) (v := 59) (x := q_1.2) hI (by omega) (by omega)
        obtain ⟨q_4, eq_4⟩ : ∃ zz : PR, zz = p_skip (ar 5) (sc 13) 59 q_1.2 := ⟨_, rfl⟩
        rw [← eq_4] at hP hD b_5 ⊢
        refine n_ifb_ne (tgt := 10) hx hb dX5_isText_35 (by decide) (fun c_6 => ?_) (fun c_6 => ?_)
        · have hb4 := b_5.2.2.2 (by assumption)
          (try simp only at hb3)
          obtain ⟨z, rfl⟩ : ∃ z2, z = z2 + 1 := ⟨z - 1, by omega⟩
          exact ihl10 q_4.2.1 (tm + 1) q_4.2.2 z (by first | omega | rfl) (by exact p_tx_1 il10_1 eq_1 (by assumption) eq_4 (by assumption)) (by omega) H locs hP hD hS ls (lv_sub hl [0] rfl)
        · have hfin0 := p_tx_2 il10_1 eq_1 (by assumption) eq_4 (by assumption)
          refine lv_aload_n hx hb dX5_isText_38 rfl (lv_at hl 0 rfl) ?_
          refine va_get (D := E.1) (ci := 0) (v := iv q_4.2.1) (C := RX5) (T := TX5) (N := 23) hx hb hts in_X5 hown hK.1 hP 0 rfl rfl 20 (by decide) (hts _ q2049) (fun _ h9 => h9) rfl dX5_isText_39 ?_
          refine lv_aload_n hx hb dX5_isText_42 rfl (lv_at hl 0 rfl) ?_
          refine va_get (D := E.1) (ci := 0) (v := iv (sc 13)) (C := RX5) (T := TX5) (N := 23) hx hb hts in_X5 hown hK.1 hP 0 rfl rfl 13 (by decide) (hts _ q2042) (fun _ h9 => h9) rfl dX5_isText_43 ?_
          refine n_icmp_ne (tgt := 53) hx hb dX5_isText_46 (by decide) (by omega) (by omega) (fun c_7 => ?_) (fun c_7 => ?_)
          · refine lv_iconst (v := iI 0) hx hb dX5_isText_53 rfl ?_
            have hfin : 0 = b2 ((p_txt (ar 5) (sc 13) (ar 8)).1) := by
              rw [hfin0]
              first | rfl | exact (b2_pos (by omega)).symm | exact (b2_neg (by omega)).symm
            have w_8 : q_4.2.1 = (p_txt (ar 5) (sc 13) (ar 8)).2.2.1 := by
              rw [hfin0]
            rw [show (us (us sc 20 q_4.2.1) 22 (tm + 1)) = (us (us sc 20 ((p_txt (ar 5) (sc 13) (ar 8)).2.2.1)) 22 (tm + 1)) from congrArg (fun z0 : Int => (us (us sc 20 z0) 22 (tm + 1))) w_8] at hP hD
            have w_9 : tm + 1 = (p_txt (ar 5) (sc 13) (ar 8)).2.1 := by
              rw [hfin0]
            rw [show (us (us sc 20 ((p_txt (ar 5) (sc 13) (ar 8)).2.2.1)) 22 (tm + 1)) = (us (us sc 20 ((p_txt (ar 5) (sc 13) (ar 8)).2.2.1)) 22 ((p_txt (ar 5) (sc 13) (ar 8)).2.1)) from congrArg (fun z0 : Int => (us (us sc 20 ((p_txt (ar 5) (sc 13) (ar 8)).2.2.1)) 22 z0)) w_9] at hP hD
            have w_10 : q_4.2.2 = (p_txt (ar 5) (sc 13) (ar 8)).2.2.2 := by
              rw [hfin0]
            rw [show (ua ar 8 q_4.2.2) = (ua ar 8 ((p_txt (ar 5) (sc 13) (ar 8)).2.2.2)) from congrArg (fun z0 : Int → Int => (ua ar 8 z0)) w_10] at hP hD
            exact W.zret (v := iI 0) hx hb hr (nr_b (by decide)) (fun tt_ ht_ hW_ => ⟨⟨iI 0, (), rfl, (congrArg iI hfin), by rw [ht_]; exact hP, hD⟩, hS.F ht_⟩) hS.2.2 dX5_isText_54
          · refine lv_iconst (v := iI 1) hx hb dX5_isText_49 rfl ?_
            refine lv_goto (tgt := 54) hx hb dX5_isText_50 (by decide) ?_
            have hfin : 1 = b2 ((p_txt (ar 5) (sc 13) (ar 8)).1) := by
              rw [hfin0]
              first | rfl | exact (b2_pos (by omega)).symm | exact (b2_neg (by omega)).symm
            have w_11 : q_4.2.1 = (p_txt (ar 5) (sc 13) (ar 8)).2.2.1 := by
              rw [hfin0]
            rw [show (us (us sc 20 q_4.2.1) 22 (tm + 1)) = (us (us sc 20 ((p_txt (ar 5) (sc 13) (ar 8)).2.2.1)) 22 (tm + 1)) from congrArg (fun z0 : Int => (us (us sc 20 z0) 22 (tm + 1))) w_11] at hP hD
            have w_12 : tm + 1 = (p_txt (ar 5) (sc 13) (ar 8)).2.1 := by
              rw [hfin0]
            rw [show (us (us sc 20 ((p_txt (ar 5) (sc 13) (ar 8)).2.2.1)) 22 (tm + 1)) = (us (us sc 20 ((p_txt (ar 5) (sc 13) (ar 8)).2.2.1)) 22 ((p_txt (ar 5) (sc 13) (ar 8)).2.1)) from congrArg (fun z0 : Int => (us (us sc 20 ((p_txt (ar 5) (sc 13) (ar 8)).2.2.1)) 22 z0)) w_12] at hP hD
            have w_13 : q_4.2.2 = (p_txt (ar 5) (sc 13) (ar 8)).2.2.2 := by
              rw [hfin0]
            rw [show (ua ar 8 q_4.2.2) = (ua ar 8 ((p_txt (ar 5) (sc 13) (ar 8)).2.2.2)) from congrArg (fun z0 : Int → Int => (ua ar 8 z0)) w_13] at hP hD
            exact W.zret (v := iI 1) hx hb hr (nr_b (by decide)) (fun tt_ ht_ hW_ => ⟨⟨iI 1, (), rfl, (congrArg iI hfin), by rw [ht_]; exact hP, hD⟩, hS.F ht_⟩) hS.2.2 dX5_isText_54
      · have hfin0 := p_tx_0 il10_1 eq_1 (by assumption)
        refine lv_iconst (v := iI 0) hx hb dX5_isText_17 rfl ?_
        have hfin : 0 = b2 ((p_txt (ar 5) (sc 13) (ar 8)).1) := by
          rw [hfin0]
          first | rfl | exact (b2_pos (by omega)).symm | exact (b2_neg (by omega)).symm
        have w_14 : q_1.2.1 = (p_txt (ar 5) (sc 13) (ar 8)).2.2.1 := by
          rw [hfin0]
        rw [show (us (us sc 20 q_1.2.1) 22 tm) = (us (us sc 20 ((p_txt (ar 5) (sc 13) (ar 8)).2.2.1)) 22 tm) from congrArg (fun z0 : Int => (us (us sc 20 z0) 22 tm)) w_14] at hP hD
        have w_15 : tm = (p_txt (ar 5) (sc 13) (ar 8)).2.1 := by
          rw [hfin0]
        rw [show (us (us sc 20 ((p_txt (ar 5) (sc 13) (ar 8)).2.2.1)) 22 tm) = (us (us sc 20 ((p_txt (ar 5) (sc 13) (ar 8)).2.2.1)) 22 ((p_txt (ar 5) (sc 13) (ar 8)).2.1)) from congrArg (fun z0 : Int => (us (us sc 20 ((p_txt (ar 5) (sc 13) (ar 8)).2.2.1)) 22 z0)) w_15] at hP hD
        have w_16 : q_1.2.2 = (p_txt (ar 5) (sc 13) (ar 8)).2.2.2 := by
          rw [hfin0]
        rw [show (ua ar 8 q_1.2.2) = (ua ar 8 ((p_txt (ar 5) (sc 13) (ar 8)).2.2.2)) from congrArg (fun z0 : Int → Int => (ua ar 8 z0)) w_16] at hP hD
        exact W.zret (v := iI 0) hx hb hr (nr_b (by decide)) (fun tt_ ht_ hW_ => ⟨⟨iI 0, (), rfl, (congrArg iI hfin), by rw [ht_]; exact hP, hD⟩, hS.F ht_⟩) hS.2.2 dX5_isText_18
  exact l10 61 0 0 (ar 8) 60 (by first | omega | rfl | trivial) (by rfl) (by omega) H locs hP hD hS ls hl
set_option maxHeartbeats 4000000 in
set_option maxRecDepth 100000 in
theorem mt_X5_refusesText (l : Launch) (E : EE) (o : Nat → Nat) (sc : Nat → Int) (ar : Nat → Int → Int) (v : Int) (hr01 : 0 ≤ sc 7 ∧ sc 7 ≤ 1) (sz : Nat) : Met l yX5_refusesText (ws_ yX5_refusesText cX5_refusesText 3 (some .int)) { frames := 1, cells := 0, slots := 0, locals := 23 } (va_Pc [.ref (o 0), iv v] (UW E (MW E o sc ar) sz)) (UQi E 0 (MW E o (us (us (us (us (us sc 7 1) 8 2) 9 8) 10 v) 11 (if sc 7 = 0 then 9 else sc 9)) ar) (va_A (MW E o sc ar) sz)) 0 0 (va_A (MW E o sc ar) sz) := by
  refine Met.ofW (cc := cX5_refusesText) (maxL := 3) (ret := (some .int)) (by decide) rfl ?_
  intro p e s m args below meth c s₁ B hml hv
  obtain ⟨rfl, hsz, hP, hK, hD0⟩ := hv
  have hx := B.exec
  have hb := B.bytes
  have hr := B.returns
  have hts := atoms_spec (ws := (ws_ yX5_refusesText cX5_refusesText 3 (some .int))) B.pre
  have hts : ∀ w ∈ lw_all, w.before _ s = true := fun w h => hts w (List.mem_cons_of_mem _ h)
  have hown : s.vm.findClass RX5 = some m.cls := findClass_of_methodNamed B.named
  have hlocks := B.notSynchronized
  subst hsz
  have hD := hD0.self (sz := s.heap.size)
  generalize hAe : va_A (MW E o sc ar) s.heap.size = A at hD ⊢
  have hA : ∀ q : Nat, s.heap.size ≤ q → A q := fun q h => by rw [← hAe]; exact Or.inr h
  have hS : va_S A s.heap s.heap [] := va_S.rf
  have hl := lv_entry ([.ref (o 0), iv v]) (n := 3) (Nat.le_of_ble_eq_true rfl)
  rw [lg_entry_eq]
  generalize (lg_sl ([.ref (o 0), iv v]) ++ List.replicate (3 - (lg_sl ([.ref (o 0), iv v])).length) Slot.unset).toArray = ls at hl ⊢
  have hl : lv_has ls 3 [(0, .ref (o 0)), (1, iv v)] := hl
  refine lv_aload_n hx hb dX5_refusesText_0 rfl (lv_at hl 0 rfl) ?_
  refine va_get (D := E.1) (ci := 0) (v := iv (sc 7)) (C := RX5) (T := TX5) (N := 23) hx hb hts in_X5 hown hK.1 hP 0 rfl rfl 7 (by decide) (hts _ q2036) (fun _ h9 => h9) rfl dX5_refusesText_1 ?_
  refine n_if_eq (tgt := 14) hx hb dX5_refusesText_4 (by decide) (by omega) (fun c_1 => ?_) (fun c_1 => ?_)
  · refine lv_bipush (v := iI 9) hx hb dX5_refusesText_14 (by decide) ?_
    refine lv_istore_n (lv' := [(2, iv 9), (0, .ref (o 0)), (1, iv v)]) hx hb dX5_refusesText_16 rfl hl (by decide) rfl (fun ls hl => ?_)
    refine lv_aload_n hx hb dX5_refusesText_17 rfl (lv_at hl 1 rfl) ?_
    refine lv_iconst (v := iI 2) hx hb dX5_refusesText_18 rfl ?_
    refine lv_bipush (v := iI 8) hx hb dX5_refusesText_19 (by decide) ?_
    refine lv_iload_n hx hb dX5_refusesText_21 rfl (lv_at hl 2 rfl) ?_
    refine n_cui (x := 0) (va_runV (As := [iv 2, iv 8, iv v]) (rest := []) ⟨hx, hb, hml, hown, hts⟩ (mt_X5_refuses l E o sc ar 2 8 v _) (cwV 3 hts (lw_V q2171 q2173 qs59 q113 q2174) rfl rfl rfl (by decide +kernel) ⟨Nat.le_of_ble_eq_true rfl, Nat.le_of_ble_eq_true rfl⟩) (UW_V hP hK (hD) (va_recv hK.1 hP (ci := 0) (q0 := 0) rfl rfl)) rfl rfl hl.1 rfl (lv_room (Nat.le_of_ble_eq_true rfl)) dX5_refusesText_22 ⟨Nat.le_of_ble_eq_true rfl, Nat.le_of_ble_eq_true rfl⟩) hD hS hA (fun H locs hP hD hS => ?_)
    have hP : va_P E.1 CL (MW E o (us (us (us (us (us sc 7 1) 8 2) 9 8) 10 v) 11 0) ar) H := hP
    have hD : va_D A (MW E o (us (us (us (us (us sc 7 1) 8 2) 9 8) 10 v) 11 0) ar) := hD
    refine lv_pop hx hb dX5_refusesText_25 rfl ?_
    refine lv_aload_n hx hb dX5_refusesText_26 rfl (lv_at hl 1 rfl) ?_
    refine lv_iload_n hx hb dX5_refusesText_27 rfl (lv_at hl 0 rfl) ?_
    refine va_put (D := E.1) (ci := 0) (v := iv 9) (ty := .int) (C := RX5) (T := TX5) (N := 23) hx hb hts in_X5 tyX5 tyX5_ok nmX5 hown hK.1 hP hD hS 0 rfl rfl 11 (by decide) (hts _ q2040) (fun _ h9 => h9) rfl (by decide +kernel) rfl rfl (Nat.le_of_ble_eq_true rfl) dX5_refusesText_28 (fun H locs hP hD hS => ?_)
    have hP : va_P E.1 CL (MW E o (us (us (us (us (us sc 7 1) 8 2) 9 8) 10 v) 11 9) ar) H := hP
    have hD : va_D A (MW E o (us (us (us (us (us sc 7 1) 8 2) 9 8) 10 v) 11 9) ar) := hD
    refine lv_iconst (v := iI 0) hx hb dX5_refusesText_31 rfl ?_
    have w_2 : 9 = (if sc 7 = 0 then 9 else sc 9) := by
      first | exact (if_pos (by assumption)).symm | exact (if_neg (by assumption)).symm
    rw [show (us (us (us (us (us sc 7 1) 8 2) 9 8) 10 v) 11 9) = (us (us (us (us (us sc 7 1) 8 2) 9 8) 10 v) 11 (if sc 7 = 0 then 9 else sc 9)) from congrArg (fun z0 : Int => (us (us (us (us (us sc 7 1) 8 2) 9 8) 10 v) 11 z0)) w_2] at hP hD
    exact W.iret (v := iI 0) hx hb hr (fun tt_ ht_ hW_ => ⟨⟨iI 0, (), rfl, rfl, by rw [ht_]; exact hP, hD⟩, hS.F ht_⟩) hS.2.2 dX5_refusesText_32
  · refine lv_aload_n hx hb dX5_refusesText_7 rfl (lv_at hl 0 rfl) ?_
    refine va_get (D := E.1) (ci := 0) (v := iv (sc 9)) (C := RX5) (T := TX5) (N := 23) hx hb hts in_X5 hown hK.1 hP 0 rfl rfl 9 (by decide) (hts _ q2038) (fun _ h9 => h9) rfl dX5_refusesText_8 ?_
    refine lv_goto (tgt := 16) hx hb dX5_refusesText_11 (by decide) ?_
    refine lv_istore_n (lv' := [(2, iv (sc 9)), (0, .ref (o 0)), (1, iv v)]) hx hb dX5_refusesText_16 rfl hl (by decide) rfl (fun ls hl => ?_)
    refine lv_aload_n hx hb dX5_refusesText_17 rfl (lv_at hl 1 rfl) ?_
    refine lv_iconst (v := iI 2) hx hb dX5_refusesText_18 rfl ?_
    refine lv_bipush (v := iI 8) hx hb dX5_refusesText_19 (by decide) ?_
    refine lv_iload_n hx hb dX5_refusesText_21 rfl (lv_at hl 2 rfl) ?_
    refine n_cui (x := 0) (va_runV (As := [iv 2, iv 8, iv v]) (rest := []) ⟨hx, hb, hml, hown, hts⟩ (mt_X5_refuses l E o sc ar 2 8 v _) (cwV 3 hts (lw_V q2171 q2173 qs59 q113 q2174) rfl rfl rfl (by decide +kernel) ⟨Nat.le_of_ble_eq_true rfl, Nat.le_of_ble_eq_true rfl⟩) (UW_V hP hK (hD) (va_recv hK.1 hP (ci := 0) (q0 := 0) rfl rfl)) rfl rfl hl.1 rfl (lv_room (Nat.le_of_ble_eq_true rfl)) dX5_refusesText_22 ⟨Nat.le_of_ble_eq_true rfl, Nat.le_of_ble_eq_true rfl⟩) hD hS hA (fun H locs hP hD hS => ?_)
    have hP : va_P E.1 CL (MW E o (us (us (us (us (us sc 7 1) 8 2) 9 8) 10 v) 11 0) ar) H := hP
    have hD : va_D A (MW E o (us (us (us (us (us sc 7 1) 8 2) 9 8) 10 v) 11 0) ar) := hD
    refine lv_pop hx hb dX5_refusesText_25 rfl ?_
    refine lv_aload_n hx hb dX5_refusesText_26 rfl (lv_at hl 1 rfl) ?_
    refine lv_iload_n hx hb dX5_refusesText_27 rfl (lv_at hl 0 rfl) ?_
    refine va_put (D := E.1) (ci := 0) (v := iv (sc 9)) (ty := .int) (C := RX5) (T := TX5) (N := 23) hx hb hts in_X5 tyX5 tyX5_ok nmX5 hown hK.1 hP hD hS 0 rfl rfl 11 (by decide) (hts _ q2040) (fun _ h9 => h9) rfl (by decide +kernel) rfl rfl (Nat.le_of_ble_eq_true rfl) dX5_refusesText_28 (fun H locs hP hD hS => ?_)
    have hP : va_P E.1 CL (MW E o (us (us (us (us (us sc 7 1) 8 2) 9 8) 10 v) 11 (sc 9)) ar) H := hP
    have hD : va_D A (MW E o (us (us (us (us (us sc 7 1) 8 2) 9 8) 10 v) 11 (sc 9)) ar) := hD
    refine lv_iconst (v := iI 0) hx hb dX5_refusesText_31 rfl ?_
    have w_3 : sc 9 = (if sc 7 = 0 then 9 else sc 9) := by
      first | exact (if_pos (by assumption)).symm | exact (if_neg (by assumption)).symm
    rw [show (us (us (us (us (us sc 7 1) 8 2) 9 8) 10 v) 11 (sc 9)) = (us (us (us (us (us sc 7 1) 8 2) 9 8) 10 v) 11 (if sc 7 = 0 then 9 else sc 9)) from congrArg (fun z0 : Int => (us (us (us (us (us sc 7 1) 8 2) 9 8) 10 v) 11 z0)) w_3] at hP hD
    exact W.iret (v := iI 0) hx hb hr (fun tt_ ht_ hW_ => ⟨⟨iI 0, (), rfl, rfl, by rw [ht_]; exact hP, hD⟩, hS.F ht_⟩) hS.2.2 dX5_refusesText_32
