set_option maxHeartbeats 4000000 in
set_option maxRecDepth 100000 in
theorem mt_X5_here (l : Launch) (E : EE) (o : Nat → Nat) (sc : Nat → Int) (ar : Nat → Int → Int) (hI : ∀ x, 0 ≤ ar 5 x ∧ ar 5 x < 65536) (hln : 0 ≤ sc 13 ∧ sc 13 ≤ 60) (hat : 0 ≤ sc 20 ∧ sc 20 ≤ 60) : Met l yX5_here (ws_ yX5_here cX5_here 1 (some .int)) { frames := 0, cells := 0, slots := 0, locals := 0 } (va_Pc [.ref (o 0)] (PW E (MW E o sc ar))) (NP (p_here (ar 5) (sc 13) (sc 20))) 0 0 (fun _ => False) := by
  refine Met.ofW (cc := cX5_here) (maxL := 1) (ret := (some .int)) (by decide) rfl ?_
  intro p e s m args below meth c s₁ B hml hv
  obtain ⟨rfl, hP, hK⟩ := hv
  have hx := B.exec
  have hb := B.bytes
  have hr := B.returns
  have hts := atoms_spec (ws := (ws_ yX5_here cX5_here 1 (some .int))) B.pre
  have hts : ∀ w ∈ lw_all, w.before _ s = true := fun w h => hts w (List.mem_cons_of_mem _ h)
  have hown : s.vm.findClass RX5 = some m.cls := findClass_of_methodNamed B.named
  have hlocks := B.notSynchronized
  have hl := lv_entry ([.ref (o 0)]) (n := 1) (Nat.le_of_ble_eq_true rfl)
  rw [lg_entry_eq]
  generalize (lg_sl ([.ref (o 0)]) ++ List.replicate (1 - (lg_sl ([.ref (o 0)])).length) Slot.unset).toArray = ls at hl ⊢
  have hl : lv_has ls 1 [(0, .ref (o 0))] := hl
  have hq := hI (sc 20)
  refine lv_aload_n hx hb dX5_here_0 rfl (lv_at hl 0 rfl) ?_
  refine va_get (D := E.1) (ci := 0) (v := iv (sc 20)) (C := RX5) (T := TX5) (N := 23) hx hb hts in_X5 hown hK.1 hP 0 rfl rfl 20 (by decide) (hts _ q2049) (fun _ h9 => h9) rfl dX5_here_1 ?_
  refine lv_aload_n hx hb dX5_here_4 rfl (lv_at hl 0 rfl) ?_
  refine va_get (D := E.1) (ci := 0) (v := iv (sc 13)) (C := RX5) (T := TX5) (N := 23) hx hb hts in_X5 hown hK.1 hP 0 rfl rfl 13 (by decide) (hts _ q2042) (fun _ h9 => h9) rfl dX5_here_5 ?_
  refine n_icmp_ge (tgt := 23) hx hb dX5_here_8 (by decide) (by omega) (by omega) (fun c_1 => ?_) (fun c_1 => ?_)
  · refine lv_iconst (v := iI (-1)) hx hb dX5_here_23 rfl ?_
    have hfin : (-1) = p_here (ar 5) (sc 13) (sc 20) := by
      unfold p_here
      first | (rw [if_pos (by omega)]; done) | (rw [if_neg (by omega)]; done)
    exact W.iret (v := iI (-1)) hx hb hr (fun tt_ ht_ hW_ => ⟨iI (-1), rfl, (congrArg iI hfin), ht_⟩) (fun q h => by cases h) dX5_here_24
  · refine lv_aload_n hx hb dX5_here_11 rfl (lv_at hl 0 rfl) ?_
    refine va_get (D := E.1) (ci := 0) (v := .ref (o 5)) (C := RX5) (T := TX5) (N := 23) hx hb hts in_X5 hown hK.1 hP 0 rfl rfl 12 (by decide) (hts _ q2041) (fun _ h9 => h9) rfl dX5_here_12 ?_
    refine lv_aload_n hx hb dX5_here_15 rfl (lv_at hl 0 rfl) ?_
    refine va_get (D := E.1) (ci := 0) (v := iv (sc 20)) (C := RX5) (T := TX5) (N := 23) hx hb hts in_X5 hown hK.1 hP 0 rfl rfl 20 (by decide) (hts _ q2049) (fun _ h9 => h9) rfl dX5_here_16 ?_
    refine n_iald (f := ar 5) hx hb hK.1 hP 5 0 rfl rfl (by omega) (by decide) dX5_here_19 ?_
    refine lv_goto (tgt := 24) hx hb dX5_here_20 (by decide) ?_
    have hfin : ar 5 (sc 20) = p_here (ar 5) (sc 13) (sc 20) := by
      unfold p_here
      first | (rw [if_pos (by omega)]; done) | (rw [if_neg (by omega)]; done)
    exact W.iret (v := iI (ar 5 (sc 20))) hx hb hr (fun tt_ ht_ hW_ => ⟨iI (ar 5 (sc 20)), rfl, (congrArg iI hfin), ht_⟩) (fun q h => by cases h) dX5_here_24
set_option maxHeartbeats 4000000 in
set_option maxRecDepth 100000 in
theorem mt_X5_skips (l : Launch) (E : EE) (o : Nat → Nat) (sc : Nat → Int) (ar : Nat → Int → Int) (v : Int) (ps : PS) (hI : ∀ x, 0 ≤ ar 5 x ∧ ar 5 x < 65536) (hln : 0 ≤ sc 13 ∧ sc 13 ≤ 60) (hat : 0 ≤ ps.1 ∧ ps.1 ≤ sc 13) (hv : 0 ≤ v ∧ v < 65536) (sz : Nat) : Met l yX5_skips (ws_ yX5_skips cX5_skips 2 (some .boolean)) { frames := 1, cells := 0, slots := 0, locals := 20 } (va_Pc [.ref (o 0), iv v] (UW E (MW E o (us sc 20 ps.1) (ua ar 8 ps.2)) sz)) (UQi E (b2 ((p_skip (ar 5) (sc 13) v ps).1)) (MW E o (us sc 20 ((p_skip (ar 5) (sc 13) v ps).2.1)) (ua ar 8 ((p_skip (ar 5) (sc 13) v ps).2.2))) (va_A (MW E o (us sc 20 ps.1) (ua ar 8 ps.2)) sz)) 0 0 (va_A (MW E o (us sc 20 ps.1) (ua ar 8 ps.2)) sz) := by
  refine Met.ofW (cc := cX5_skips) (maxL := 2) (ret := (some .boolean)) (by decide) rfl ?_
  intro p e s m args below meth c s₁ B hml hv
  obtain ⟨rfl, hsz, hP, hK, hD0⟩ := hv
  have hx := B.exec
  have hb := B.bytes
  have hr := B.returns
  have hts := atoms_spec (ws := (ws_ yX5_skips cX5_skips 2 (some .boolean))) B.pre
  have hts : ∀ w ∈ lw_all, w.before _ s = true := fun w h => hts w (List.mem_cons_of_mem _ h)
  have hown : s.vm.findClass RX5 = some m.cls := findClass_of_methodNamed B.named
  have hlocks := B.notSynchronized
  subst hsz
  have hD := hD0.self (sz := s.heap.size)
  generalize hAe : va_A (MW E o (us sc 20 ps.1) (ua ar 8 ps.2)) s.heap.size = A at hD ⊢
  have hA : ∀ q : Nat, s.heap.size ≤ q → A q := fun q h => by rw [← hAe]; exact Or.inr h
  have hS : va_S A s.heap s.heap [] := va_S.rf
  have hl := lv_entry ([.ref (o 0), iv v]) (n := 2) (Nat.le_of_ble_eq_true rfl)
  rw [lg_entry_eq]
  generalize (lg_sl ([.ref (o 0), iv v]) ++ List.replicate (2 - (lg_sl ([.ref (o 0), iv v])).length) Slot.unset).toArray = ls at hl ⊢
  have hl : lv_has ls 2 [(0, .ref (o 0)), (1, iv v)] := hl
  refine lv_aload_n hx hb dX5_skips_0 rfl (lv_at hl 0 rfl) ?_
  refine n_csi (x := p_here (ar 5) (sc 13) ps.1) (va_runV (As := []) (rest := []) ⟨hx, hb, hml, hown, hts⟩ (mt_X5_here l E o (us sc 20 ps.1) (ua ar 8 ps.2)  (by exact hI) (by exact hln) (by show 0 ≤ ps.1 ∧ ps.1 ≤ 60; omega)) (cwV 0 hts (lw_V q2460 q2462 qs85 q113 q2463) rfl rfl rfl (by decide +kernel) ⟨Nat.le_of_ble_eq_true rfl, Nat.le_of_ble_eq_true rfl⟩) (PW_V hP hK (va_recv hK.1 hP (ci := 0) (q0 := 0) rfl rfl)) rfl rfl hl.1 rfl (lv_room (Nat.le_of_ble_eq_true rfl)) dX5_skips_1 ⟨Nat.le_of_ble_eq_true rfl, Nat.le_of_ble_eq_true rfl⟩) ?_
  refine lv_iload_n hx hb dX5_skips_4 rfl (lv_at hl 1 rfl) ?_
  have b_1 := p_here_r hI (sc 13) ps.1
  refine n_icmp_eq (tgt := 10) hx hb dX5_skips_5 (by decide) (by omega) (by omega) (fun c_2 => ?_) (fun c_2 => ?_)
  · refine lv_aload_n hx hb dX5_skips_10 rfl (lv_at hl 0 rfl) ?_
    refine lv_dup hx hb dX5_skips_11 rfl ?_
    refine va_get (D := E.1) (ci := 0) (v := iv ps.1) (C := RX5) (T := TX5) (N := 23) hx hb hts in_X5 hown hK.1 hP 0 rfl rfl 20 (by decide) (hts _ q2049) (fun _ h9 => h9) rfl dX5_skips_12 ?_
    refine lv_iconst (v := iI 1) hx hb dX5_skips_15 rfl ?_
    refine n_iadd hx hb dX5_skips_16 ?_
    refine va_put (D := E.1) (ci := 0) (v := iv (ps.1 + 1)) (ty := .int) (C := RX5) (T := TX5) (N := 23) hx hb hts in_X5 tyX5 tyX5_ok nmX5 hown hK.1 hP hD hS 0 rfl rfl 20 (by decide) (hts _ q2049) (fun _ h9 => h9) rfl (by decide +kernel) rfl rfl (Nat.le_of_ble_eq_true rfl) dX5_skips_17 (fun H locs hP hD hS => ?_)
    have hP : va_P E.1 CL (MW E o (us sc 20 (ps.1 + 1)) (ua ar 8 ps.2)) H := hP
    have hD : va_D A (MW E o (us sc 20 (ps.1 + 1)) (ua ar 8 ps.2)) := hD
    refine lv_iconst (v := iI 1) hx hb dX5_skips_20 rfl ?_
    have hfin : 1 = b2 ((p_skip (ar 5) (sc 13) v ps).1) := by
      unfold p_skip
      first | (rw [if_pos (by omega)]; done) | (rw [if_neg (by omega)]; done) | (rw [if_pos (by omega)]; rfl) | (rw [if_neg (by omega)]; rfl)
    have w_3 : ps.1 + 1 = (p_skip (ar 5) (sc 13) v ps).2.1 := by
      unfold p_skip
      first | (rw [if_pos (by omega)]; done) | (rw [if_neg (by omega)]; done) | (rw [if_pos (by omega)]; rfl) | (rw [if_neg (by omega)]; rfl)
    rw [show (us sc 20 (ps.1 + 1)) = (us sc 20 ((p_skip (ar 5) (sc 13) v ps).2.1)) from congrArg (fun z0 : Int => (us sc 20 z0)) w_3] at hP hD
    have w_4 : ps.2 = (p_skip (ar 5) (sc 13) v ps).2.2 := by
      unfold p_skip
      first | (rw [if_pos (by omega)]; done) | (rw [if_neg (by omega)]; done) | (rw [if_pos (by omega)]; rfl) | (rw [if_neg (by omega)]; rfl)
    rw [show (ua ar 8 ps.2) = (ua ar 8 ((p_skip (ar 5) (sc 13) v ps).2.2)) from congrArg (fun z0 : Int → Int => (ua ar 8 z0)) w_4] at hP hD
    exact W.zret (v := iI 1) hx hb hr (nr_b (by decide)) (fun tt_ ht_ hW_ => ⟨⟨iI 1, (), rfl, (congrArg iI hfin), by rw [ht_]; exact hP, hD⟩, hS.F ht_⟩) hS.2.2 dX5_skips_21
  · refine lv_iconst (v := iI 0) hx hb dX5_skips_8 rfl ?_
    have hfin : 0 = b2 ((p_skip (ar 5) (sc 13) v ps).1) := by
      unfold p_skip
      first | (rw [if_pos (by omega)]; done) | (rw [if_neg (by omega)]; done) | (rw [if_pos (by omega)]; rfl) | (rw [if_neg (by omega)]; rfl)
    have w_5 : ps.1 = (p_skip (ar 5) (sc 13) v ps).2.1 := by
      unfold p_skip
      first | (rw [if_pos (by omega)]; done) | (rw [if_neg (by omega)]; done) | (rw [if_pos (by omega)]; rfl) | (rw [if_neg (by omega)]; rfl)
    rw [show (us sc 20 ps.1) = (us sc 20 ((p_skip (ar 5) (sc 13) v ps).2.1)) from congrArg (fun z0 : Int => (us sc 20 z0)) w_5] at hP hD
    have w_6 : ps.2 = (p_skip (ar 5) (sc 13) v ps).2.2 := by
      unfold p_skip
      first | (rw [if_pos (by omega)]; done) | (rw [if_neg (by omega)]; done) | (rw [if_pos (by omega)]; rfl) | (rw [if_neg (by omega)]; rfl)
    rw [show (ua ar 8 ps.2) = (ua ar 8 ((p_skip (ar 5) (sc 13) v ps).2.2)) from congrArg (fun z0 : Int → Int => (ua ar 8 z0)) w_6] at hP hD
    exact W.zret (v := iI 0) hx hb hr (nr_b (by decide)) (fun tt_ ht_ hW_ => ⟨⟨iI 0, (), rfl, (congrArg iI hfin), by rw [ht_]; exact hP, hD⟩, hS.F ht_⟩) hS.2.2 dX5_skips_9
set_option maxHeartbeats 4000000 in
set_option maxRecDepth 100000 in
theorem mt_X5_toolHere (l : Launch) (E : EE) (o : Nat → Nat) (sc : Nat → Int) (ar : Nat → Int → Int) (pl : Int) (ps : PS) (hI : ∀ x, 0 ≤ ar 5 x ∧ ar 5 x < 65536) (hln : 0 ≤ sc 13 ∧ sc 13 ≤ 60) (hat : 0 ≤ ps.1 ∧ ps.1 ≤ sc 13) (hpl : 0 ≤ pl ∧ pl < 124) (sz : Nat) : Met l yX5_toolHere (ws_ yX5_toolHere cX5_toolHere 2 (some .boolean)) { frames := 2, cells := 0, slots := 0, locals := 42 } (va_Pc [.ref (o 0), iv pl] (UW E (MW E o (us sc 20 ps.1) (ua ar 8 ps.2)) sz)) (UQi E (b2 ((p_one p_tl (ar 5) (sc 13) pl ps).1)) (MW E o (us sc 20 ((p_one p_tl (ar 5) (sc 13) pl ps).2.1)) (ua ar 8 ((p_one p_tl (ar 5) (sc 13) pl ps).2.2))) (va_A (MW E o (us sc 20 ps.1) (ua ar 8 ps.2)) sz)) 0 0 (va_A (MW E o (us sc 20 ps.1) (ua ar 8 ps.2)) sz) := by
  refine Met.ofW (cc := cX5_toolHere) (maxL := 2) (ret := (some .boolean)) (by decide) rfl ?_
  intro p e s m args below meth c s₁ B hml hv
  obtain ⟨rfl, hsz, hP, hK, hD0⟩ := hv
  have hx := B.exec
  have hb := B.bytes
  have hr := B.returns
  have hts := atoms_spec (ws := (ws_ yX5_toolHere cX5_toolHere 2 (some .boolean))) B.pre
  have hts : ∀ w ∈ lw_all, w.before _ s = true := fun w h => hts w (List.mem_cons_of_mem _ h)
  have hown : s.vm.findClass RX5 = some m.cls := findClass_of_methodNamed B.named
  have hlocks := B.notSynchronized
  subst hsz
  have hD := hD0.self (sz := s.heap.size)
  generalize hAe : va_A (MW E o (us sc 20 ps.1) (ua ar 8 ps.2)) s.heap.size = A at hD ⊢
  have hA : ∀ q : Nat, s.heap.size ≤ q → A q := fun q h => by rw [← hAe]; exact Or.inr h
  have hS : va_S A s.heap s.heap [] := va_S.rf
  have hl := lv_entry ([.ref (o 0), iv pl]) (n := 2) (Nat.le_of_ble_eq_true rfl)
  rw [lg_entry_eq]
  generalize (lg_sl ([.ref (o 0), iv pl]) ++ List.replicate (2 - (lg_sl ([.ref (o 0), iv pl])).length) Slot.unset).toArray = ls at hl ⊢
  have hl : lv_has ls 2 [(0, .ref (o 0)), (1, iv pl)] := hl
  refine lv_aload_n hx hb dX5_toolHere_0 rfl (lv_at hl 0 rfl) ?_
  refine lv_bipush (v := iI 32) hx hb dX5_toolHere_1 (by decide) ?_
  refine n_cui (x := b2 ((p_skip (ar 5) (sc 13) 32 ps).1)) (va_runV (As := [iv 32]) (rest := []) ⟨hx, hb, hml, hown, hts⟩ (mt_X5_skips l E o (us sc 20 ps.1) (ua ar 8 ps.2) 32 ps (by exact hI) (by exact hln) (by show 0 ≤ ps.1 ∧ ps.1 ≤ sc 13; omega) (by omega) _) (cwV 1 hts (lw_V q2456 q2458 qs84 q113 q2459) rfl rfl rfl (by decide +kernel) ⟨Nat.le_of_ble_eq_true rfl, Nat.le_of_ble_eq_true rfl⟩) (UW_V hP hK (hD) (va_recv hK.1 hP (ci := 0) (q0 := 0) rfl rfl)) rfl rfl hl.1 rfl (lv_room (Nat.le_of_ble_eq_true rfl)) dX5_toolHere_3 ⟨Nat.le_of_ble_eq_true rfl, Nat.le_of_ble_eq_true rfl⟩) hD hS hA (fun H locs hP hD hS => ?_)
  have hP : va_P E.1 CL (MW E o (us sc 20 ((p_skip (ar 5) (sc 13) 32 ps).2.1)) (ua ar 8 ((p_skip (ar 5) (sc 13) 32 ps).2.2))) H := hP
  have hD : va_D A (MW E o (us sc 20 ((p_skip (ar 5) (sc 13) 32 ps).2.1)) (ua ar 8 ((p_skip (ar 5) (sc 13) 32 ps).2.2))) := hD
  have b_2 := p_skip_r (len := sc 13) (v := 32) (x := ps) hI (by omega) (by omega)
  obtain ⟨q_1, eq_1⟩ : ∃ zz : PR, zz = p_skip (ar 5) (sc 13) 32 ps := ⟨_, rfl⟩
  rw [← eq_1] at hP hD b_2 ⊢
  refine n_ifb_eq (tgt := 19) hx hb dX5_toolHere_6 (by decide) (fun c_3 => ?_) (fun c_3 => ?_)
  · refine lv_iconst (v := iI 0) hx hb dX5_toolHere_19 rfl ?_
    have hfin : 0 = b2 ((p_one p_tl (ar 5) (sc 13) pl ps).1) := by
      simp only [p_one, p_tl, ← eq_1, c_3, b2_t, decide_eq_true_eq, Bool.false_eq_true, if_true, if_false, and_self, b2_f]
    have w_4 : q_1.2.1 = (p_one p_tl (ar 5) (sc 13) pl ps).2.1 := by
      simp only [p_one, p_tl, ← eq_1, c_3, b2_t, decide_eq_true_eq, Bool.false_eq_true, if_true, if_false, and_self, b2_f]
    rw [show (us sc 20 q_1.2.1) = (us sc 20 ((p_one p_tl (ar 5) (sc 13) pl ps).2.1)) from congrArg (fun z0 : Int => (us sc 20 z0)) w_4] at hP hD
    have w_5 : q_1.2.2 = (p_one p_tl (ar 5) (sc 13) pl ps).2.2 := by
      simp only [p_one, p_tl, ← eq_1, c_3, b2_t, decide_eq_true_eq, Bool.false_eq_true, if_true, if_false, and_self, b2_f]
    rw [show (ua ar 8 q_1.2.2) = (ua ar 8 ((p_one p_tl (ar 5) (sc 13) pl ps).2.2)) from congrArg (fun z0 : Int → Int => (ua ar 8 z0)) w_5] at hP hD
    exact W.zret (v := iI 0) hx hb hr (nr_b (by decide)) (fun tt_ ht_ hW_ => ⟨⟨iI 0, (), rfl, (congrArg iI hfin), by rw [ht_]; exact hP, hD⟩, hS.F ht_⟩) hS.2.2 dX5_toolHere_20
  · refine lv_aload_n hx hb dX5_toolHere_9 rfl (lv_at hl 0 rfl) ?_
    refine n_csi (x := p_here (ar 5) (sc 13) q_1.2.1) (va_runV (As := []) (rest := []) ⟨hx, hb, hml, hown, hts⟩ (mt_X5_here l E o (us sc 20 q_1.2.1) (ua ar 8 q_1.2.2)  (by exact hI) (by exact hln) (by show 0 ≤ q_1.2.1 ∧ q_1.2.1 ≤ 60; omega)) (cwV 0 hts (lw_V q2460 q2462 qs85 q113 q2463) rfl rfl rfl (by decide +kernel) ⟨Nat.le_of_ble_eq_true rfl, Nat.le_of_ble_eq_true rfl⟩) (PW_V hP hK (va_recv hK.1 hP (ci := 0) (q0 := 0) rfl rfl)) rfl rfl hl.1 rfl (lv_room (Nat.le_of_ble_eq_true rfl)) dX5_toolHere_10 ⟨Nat.le_of_ble_eq_true rfl, Nat.le_of_ble_eq_true rfl⟩) ?_
    have b_6 := p_here_r hI (sc 13) q_1.2.1
    refine n_csi (x := b2 (decide (97 ≤ (p_here (ar 5) (sc 13) q_1.2.1) ∧ (p_here (ar 5) (sc 13) q_1.2.1) ≤ 104))) (va_runS (As := [iv (p_here (ar 5) (sc 13) q_1.2.1)]) (rest := []) ⟨hx, hb, hml, hown, hts⟩ (mt_X5_isTool l E o (us sc 20 q_1.2.1) (ua ar 8 q_1.2.2) (p_here (ar 5) (sc 13) q_1.2.1) (by omega)) (va_cwS 1 hts (lw_S q2107 q2108 q113 q2109) rfl rfl rfl (by decide +kernel) ⟨Nat.le_of_ble_eq_true rfl, Nat.le_of_ble_eq_true rfl⟩) (PW_S hP hK) rfl rfl hl.1 rfl (lv_room (Nat.le_of_ble_eq_true rfl)) dX5_toolHere_13 ⟨Nat.le_of_ble_eq_true rfl, Nat.le_of_ble_eq_true rfl⟩) ?_
    refine n_ifd_ne (tgt := 21) hx hb dX5_toolHere_16 (by decide) (fun c_7 => ?_) (fun c_7 => ?_)
    · refine lv_aload_n hx hb dX5_toolHere_21 rfl (lv_at hl 0 rfl) ?_
      refine va_get (D := E.1) (ci := 0) (v := .ref (o 8)) (C := RX5) (T := TX5) (N := 23) hx hb hts in_X5 hown hK.1 hP 0 rfl rfl 21 (by decide) (hts _ q2050) (fun _ h9 => h9) rfl dX5_toolHere_22 ?_
      refine lv_iload_n hx hb dX5_toolHere_25 rfl (lv_at hl 1 rfl) ?_
      refine lv_aload_n hx hb dX5_toolHere_26 rfl (lv_at hl 0 rfl) ?_
      refine n_csi (x := p_here (ar 5) (sc 13) q_1.2.1) (va_runV (As := []) (rest := [iv pl, .ref (o 8)]) ⟨hx, hb, hml, hown, hts⟩ (mt_X5_here l E o (us sc 20 q_1.2.1) (ua ar 8 q_1.2.2)  (by exact hI) (by exact hln) (by show 0 ≤ q_1.2.1 ∧ q_1.2.1 ≤ 60; omega)) (cwV 0 hts (lw_V q2460 q2462 qs85 q113 q2463) rfl rfl rfl (by decide +kernel) ⟨Nat.le_of_ble_eq_true rfl, Nat.le_of_ble_eq_true rfl⟩) (PW_V hP hK (va_recv hK.1 hP (ci := 0) (q0 := 0) rfl rfl)) rfl rfl hl.1 rfl (lv_room (Nat.le_of_ble_eq_true rfl)) dX5_toolHere_27 ⟨Nat.le_of_ble_eq_true rfl, Nat.le_of_ble_eq_true rfl⟩) ?_
      refine n_iast (f := q_1.2.2) hx hb hK.1 hP hD hS 8 0 rfl rfl (by omega) (by decide) dX5_toolHere_30 (ws2 := MW E o (us sc 20 q_1.2.1) (ua ar 8 (ui q_1.2.2 pl (p_here (ar 5) (sc 13) q_1.2.1)))) rfl (fun H locs hP hD hS => ?_)
      refine lv_aload_n hx hb dX5_toolHere_31 rfl (lv_at hl 0 rfl) ?_
      refine lv_dup hx hb dX5_toolHere_32 rfl ?_
      refine va_get (D := E.1) (ci := 0) (v := iv q_1.2.1) (C := RX5) (T := TX5) (N := 23) hx hb hts in_X5 hown hK.1 hP 0 rfl rfl 20 (by decide) (hts _ q2049) (fun _ h9 => h9) rfl dX5_toolHere_33 ?_
      refine lv_iconst (v := iI 1) hx hb dX5_toolHere_36 rfl ?_
      refine n_iadd hx hb dX5_toolHere_37 ?_
      refine va_put (D := E.1) (ci := 0) (v := iv (q_1.2.1 + 1)) (ty := .int) (C := RX5) (T := TX5) (N := 23) hx hb hts in_X5 tyX5 tyX5_ok nmX5 hown hK.1 hP hD hS 0 rfl rfl 20 (by decide) (hts _ q2049) (fun _ h9 => h9) rfl (by decide +kernel) rfl rfl (Nat.le_of_ble_eq_true rfl) dX5_toolHere_38 (fun H locs hP hD hS => ?_)
      have hP : va_P E.1 CL (MW E o (us sc 20 (q_1.2.1 + 1)) (ua ar 8 (ui q_1.2.2 pl (p_here (ar 5) (sc 13) q_1.2.1)))) H := hP
      have hD : va_D A (MW E o (us sc 20 (q_1.2.1 + 1)) (ua ar 8 (ui q_1.2.2 pl (p_here (ar 5) (sc 13) q_1.2.1)))) := hD
      refine lv_iconst (v := iI 1) hx hb dX5_toolHere_41 rfl ?_
      have hfin : 1 = b2 ((p_one p_tl (ar 5) (sc 13) pl ps).1) := by
        simp only [p_one, p_tl, ← eq_1, c_3, c_7, b2_t, decide_eq_true_eq, Bool.false_eq_true, if_true, if_false, and_self, b2_f]
      have w_8 : q_1.2.1 + 1 = (p_one p_tl (ar 5) (sc 13) pl ps).2.1 := by
        simp only [p_one, p_tl, ← eq_1, c_3, c_7, b2_t, decide_eq_true_eq, Bool.false_eq_true, if_true, if_false, and_self, b2_f]
      rw [show (us sc 20 (q_1.2.1 + 1)) = (us sc 20 ((p_one p_tl (ar 5) (sc 13) pl ps).2.1)) from congrArg (fun z0 : Int => (us sc 20 z0)) w_8] at hP hD
      have w_9 : ui q_1.2.2 pl (p_here (ar 5) (sc 13) q_1.2.1) = (p_one p_tl (ar 5) (sc 13) pl ps).2.2 := by
        simp only [p_one, p_tl, ← eq_1, c_3, c_7, b2_t, decide_eq_true_eq, Bool.false_eq_true, if_true, if_false, and_self, b2_f]
      rw [show (ua ar 8 (ui q_1.2.2 pl (p_here (ar 5) (sc 13) q_1.2.1))) = (ua ar 8 ((p_one p_tl (ar 5) (sc 13) pl ps).2.2)) from congrArg (fun z0 : Int → Int => (ua ar 8 z0)) w_9] at hP hD
      exact W.zret (v := iI 1) hx hb hr (nr_b (by decide)) (fun tt_ ht_ hW_ => ⟨⟨iI 1, (), rfl, (congrArg iI hfin), by rw [ht_]; exact hP, hD⟩, hS.F ht_⟩) hS.2.2 dX5_toolHere_42
    · refine lv_iconst (v := iI 0) hx hb dX5_toolHere_19 rfl ?_
      have hfin : 0 = b2 ((p_one p_tl (ar 5) (sc 13) pl ps).1) := by
        simp only [p_one, p_tl, ← eq_1, c_3, c_7, b2_t, decide_eq_true_eq, Bool.false_eq_true, if_true, if_false, and_self, b2_f]
      have w_10 : q_1.2.1 = (p_one p_tl (ar 5) (sc 13) pl ps).2.1 := by
        simp only [p_one, p_tl, ← eq_1, c_3, c_7, b2_t, decide_eq_true_eq, Bool.false_eq_true, if_true, if_false, and_self, b2_f]
      rw [show (us sc 20 q_1.2.1) = (us sc 20 ((p_one p_tl (ar 5) (sc 13) pl ps).2.1)) from congrArg (fun z0 : Int => (us sc 20 z0)) w_10] at hP hD
      have w_11 : q_1.2.2 = (p_one p_tl (ar 5) (sc 13) pl ps).2.2 := by
        simp only [p_one, p_tl, ← eq_1, c_3, c_7, b2_t, decide_eq_true_eq, Bool.false_eq_true, if_true, if_false, and_self, b2_f]
      rw [show (ua ar 8 q_1.2.2) = (ua ar 8 ((p_one p_tl (ar 5) (sc 13) pl ps).2.2)) from congrArg (fun z0 : Int → Int => (ua ar 8 z0)) w_11] at hP hD
      exact W.zret (v := iI 0) hx hb hr (nr_b (by decide)) (fun tt_ ht_ hW_ => ⟨⟨iI 0, (), rfl, (congrArg iI hfin), by rw [ht_]; exact hP, hD⟩, hS.F ht_⟩) hS.2.2 dX5_toolHere_20
set_option maxHeartbeats 4000000 in
set_option maxRecDepth 100000 in
theorem mt_X5_scopeHere (l : Launch) (E : EE) (o : Nat → Nat) (sc : Nat → Int) (ar : Nat → Int → Int) (pl : Int) (ps : PS) (hI : ∀ x, 0 ≤ ar 5 x ∧ ar 5 x < 65536) (hln : 0 ≤ sc 13 ∧ sc 13 ≤ 60) (hat : 0 ≤ ps.1 ∧ ps.1 ≤ sc 13) (hpl : 0 ≤ pl ∧ pl < 124) (sz : Nat) : Met l yX5_scopeHere (ws_ yX5_scopeHere cX5_scopeHere 2 (some .boolean)) { frames := 2, cells := 0, slots := 0, locals := 41 } (va_Pc [.ref (o 0), iv pl] (UW E (MW E o (us sc 20 ps.1) (ua ar 8 ps.2)) sz)) (UQi E (b2 ((p_one p_sc (ar 5) (sc 13) pl ps).1)) (MW E o (us sc 20 ((p_one p_sc (ar 5) (sc 13) pl ps).2.1)) (ua ar 8 ((p_one p_sc (ar 5) (sc 13) pl ps).2.2))) (va_A (MW E o (us sc 20 ps.1) (ua ar 8 ps.2)) sz)) 0 0 (va_A (MW E o (us sc 20 ps.1) (ua ar 8 ps.2)) sz) := by
  refine Met.ofW (cc := cX5_scopeHere) (maxL := 2) (ret := (some .boolean)) (by decide) rfl ?_
  intro p e s m args below meth c s₁ B hml hv
  obtain ⟨rfl, hsz, hP, hK, hD0⟩ := hv
  have hx := B.exec
  have hb := B.bytes
  have hr := B.returns
  have hts := atoms_spec (ws := (ws_ yX5_scopeHere cX5_scopeHere 2 (some .boolean))) B.pre
  have hts : ∀ w ∈ lw_all, w.before _ s = true := fun w h => hts w (List.mem_cons_of_mem _ h)
  have hown : s.vm.findClass RX5 = some m.cls := findClass_of_methodNamed B.named
  have hlocks := B.notSynchronized
  subst hsz
  have hD := hD0.self (sz := s.heap.size)
  generalize hAe : va_A (MW E o (us sc 20 ps.1) (ua ar 8 ps.2)) s.heap.size = A at hD ⊢
  have hA : ∀ q : Nat, s.heap.size ≤ q → A q := fun q h => by rw [← hAe]; exact Or.inr h
  have hS : va_S A s.heap s.heap [] := va_S.rf
  have hl := lv_entry ([.ref (o 0), iv pl]) (n := 2) (Nat.le_of_ble_eq_true rfl)
  rw [lg_entry_eq]
  generalize (lg_sl ([.ref (o 0), iv pl]) ++ List.replicate (2 - (lg_sl ([.ref (o 0), iv pl])).length) Slot.unset).toArray = ls at hl ⊢
  have hl : lv_has ls 2 [(0, .ref (o 0)), (1, iv pl)] := hl
  refine lv_aload_n hx hb dX5_scopeHere_0 rfl (lv_at hl 0 rfl) ?_
  refine lv_bipush (v := iI 32) hx hb dX5_scopeHere_1 (by decide) ?_
  refine n_cui (x := b2 ((p_skip (ar 5) (sc 13) 32 ps).1)) (va_runV (As := [iv 32]) (rest := []) ⟨hx, hb, hml, hown, hts⟩ (mt_X5_skips l E o (us sc 20 ps.1) (ua ar 8 ps.2) 32 ps (by exact hI) (by exact hln) (by show 0 ≤ ps.1 ∧ ps.1 ≤ sc 13; omega) (by omega) _) (cwV 1 hts (lw_V q2456 q2458 qs84 q113 q2459) rfl rfl rfl (by decide +kernel) ⟨Nat.le_of_ble_eq_true rfl, Nat.le_of_ble_eq_true rfl⟩) (UW_V hP hK (hD) (va_recv hK.1 hP (ci := 0) (q0 := 0) rfl rfl)) rfl rfl hl.1 rfl (lv_room (Nat.le_of_ble_eq_true rfl)) dX5_scopeHere_3 ⟨Nat.le_of_ble_eq_true rfl, Nat.le_of_ble_eq_true rfl⟩) hD hS hA (fun H locs hP hD hS => ?_)
  have hP : va_P E.1 CL (MW E o (us sc 20 ((p_skip (ar 5) (sc 13) 32 ps).2.1)) (ua ar 8 ((p_skip (ar 5) (sc 13) 32 ps).2.2))) H := hP
  have hD : va_D A (MW E o (us sc 20 ((p_skip (ar 5) (sc 13) 32 ps).2.1)) (ua ar 8 ((p_skip (ar 5) (sc 13) 32 ps).2.2))) := hD
  have b_2 := p_skip_r (len := sc 13) (v := 32) (x := ps) hI (by omega) (by omega)
  obtain ⟨q_1, eq_1⟩ : ∃ zz : PR, zz = p_skip (ar 5) (sc 13) 32 ps := ⟨_, rfl⟩
  rw [← eq_1] at hP hD b_2 ⊢
  refine n_ifb_eq (tgt := 19) hx hb dX5_scopeHere_6 (by decide) (fun c_3 => ?_) (fun c_3 => ?_)
  · refine lv_iconst (v := iI 0) hx hb dX5_scopeHere_19 rfl ?_
    have hfin : 0 = b2 ((p_one p_sc (ar 5) (sc 13) pl ps).1) := by
      simp only [p_one, p_sc, ← eq_1, c_3, b2_t, decide_eq_true_eq, Bool.false_eq_true, if_true, if_false, and_self, b2_f]
    have w_4 : q_1.2.1 = (p_one p_sc (ar 5) (sc 13) pl ps).2.1 := by
      simp only [p_one, p_sc, ← eq_1, c_3, b2_t, decide_eq_true_eq, Bool.false_eq_true, if_true, if_false, and_self, b2_f]
    rw [show (us sc 20 q_1.2.1) = (us sc 20 ((p_one p_sc (ar 5) (sc 13) pl ps).2.1)) from congrArg (fun z0 : Int => (us sc 20 z0)) w_4] at hP hD
    have w_5 : q_1.2.2 = (p_one p_sc (ar 5) (sc 13) pl ps).2.2 := by
      simp only [p_one, p_sc, ← eq_1, c_3, b2_t, decide_eq_true_eq, Bool.false_eq_true, if_true, if_false, and_self, b2_f]
    rw [show (ua ar 8 q_1.2.2) = (ua ar 8 ((p_one p_sc (ar 5) (sc 13) pl ps).2.2)) from congrArg (fun z0 : Int → Int => (ua ar 8 z0)) w_5] at hP hD
    exact W.zret (v := iI 0) hx hb hr (nr_b (by decide)) (fun tt_ ht_ hW_ => ⟨⟨iI 0, (), rfl, (congrArg iI hfin), by rw [ht_]; exact hP, hD⟩, hS.F ht_⟩) hS.2.2 dX5_scopeHere_20
  · refine lv_aload_n hx hb dX5_scopeHere_9 rfl (lv_at hl 0 rfl) ?_
    refine n_csi (x := p_here (ar 5) (sc 13) q_1.2.1) (va_runV (As := []) (rest := []) ⟨hx, hb, hml, hown, hts⟩ (mt_X5_here l E o (us sc 20 q_1.2.1) (ua ar 8 q_1.2.2)  (by exact hI) (by exact hln) (by show 0 ≤ q_1.2.1 ∧ q_1.2.1 ≤ 60; omega)) (cwV 0 hts (lw_V q2460 q2462 qs85 q113 q2463) rfl rfl rfl (by decide +kernel) ⟨Nat.le_of_ble_eq_true rfl, Nat.le_of_ble_eq_true rfl⟩) (PW_V hP hK (va_recv hK.1 hP (ci := 0) (q0 := 0) rfl rfl)) rfl rfl hl.1 rfl (lv_room (Nat.le_of_ble_eq_true rfl)) dX5_scopeHere_10 ⟨Nat.le_of_ble_eq_true rfl, Nat.le_of_ble_eq_true rfl⟩) ?_
    have b_6 := p_here_r hI (sc 13) q_1.2.1
    refine n_csi (x := b2 (decide ((p_here (ar 5) (sc 13) q_1.2.1) = 115 ∨ (p_here (ar 5) (sc 13) q_1.2.1) = 116 ∨ (p_here (ar 5) (sc 13) q_1.2.1) = 101))) (va_runS (As := [iv (p_here (ar 5) (sc 13) q_1.2.1)]) (rest := []) ⟨hx, hb, hml, hown, hts⟩ (mt_X5_isScope l E o (us sc 20 q_1.2.1) (ua ar 8 q_1.2.2) (p_here (ar 5) (sc 13) q_1.2.1) (by omega)) (va_cwS 1 hts (lw_S q2113 q2114 q113 q2115) rfl rfl rfl (by decide +kernel) ⟨Nat.le_of_ble_eq_true rfl, Nat.le_of_ble_eq_true rfl⟩) (PW_S hP hK) rfl rfl hl.1 rfl (lv_room (Nat.le_of_ble_eq_true rfl)) dX5_scopeHere_13 ⟨Nat.le_of_ble_eq_true rfl, Nat.le_of_ble_eq_true rfl⟩) ?_
    refine n_ifd_ne (tgt := 21) hx hb dX5_scopeHere_16 (by decide) (fun c_7 => ?_) (fun c_7 => ?_)
    · refine lv_aload_n hx hb dX5_scopeHere_21 rfl (lv_at hl 0 rfl) ?_
      refine va_get (D := E.1) (ci := 0) (v := .ref (o 8)) (C := RX5) (T := TX5) (N := 23) hx hb hts in_X5 hown hK.1 hP 0 rfl rfl 21 (by decide) (hts _ q2050) (fun _ h9 => h9) rfl dX5_scopeHere_22 ?_
      refine lv_iload_n hx hb dX5_scopeHere_25 rfl (lv_at hl 1 rfl) ?_
      refine lv_aload_n hx hb dX5_scopeHere_26 rfl (lv_at hl 0 rfl) ?_
      refine n_csi (x := p_here (ar 5) (sc 13) q_1.2.1) (va_runV (As := []) (rest := [iv pl, .ref (o 8)]) ⟨hx, hb, hml, hown, hts⟩ (mt_X5_here l E o (us sc 20 q_1.2.1) (ua ar 8 q_1.2.2)  (by exact hI) (by exact hln) (by show 0 ≤ q_1.2.1 ∧ q_1.2.1 ≤ 60; omega)) (cwV 0 hts (lw_V q2460 q2462 qs85 q113 q2463) rfl rfl rfl (by decide +kernel) ⟨Nat.le_of_ble_eq_true rfl, Nat.le_of_ble_eq_true rfl⟩) (PW_V hP hK (va_recv hK.1 hP (ci := 0) (q0 := 0) rfl rfl)) rfl rfl hl.1 rfl (lv_room (Nat.le_of_ble_eq_true rfl)) dX5_scopeHere_27 ⟨Nat.le_of_ble_eq_true rfl, Nat.le_of_ble_eq_true rfl⟩) ?_
      refine n_iast (f := q_1.2.2) hx hb hK.1 hP hD hS 8 0 rfl rfl (by omega) (by decide) dX5_scopeHere_30 (ws2 := MW E o (us sc 20 q_1.2.1) (ua ar 8 (ui q_1.2.2 pl (p_here (ar 5) (sc 13) q_1.2.1)))) rfl (fun H locs hP hD hS => ?_)
      refine lv_aload_n hx hb dX5_scopeHere_31 rfl (lv_at hl 0 rfl) ?_
      refine lv_dup hx hb dX5_scopeHere_32 rfl ?_
      refine va_get (D := E.1) (ci := 0) (v := iv q_1.2.1) (C := RX5) (T := TX5) (N := 23) hx hb hts in_X5 hown hK.1 hP 0 rfl rfl 20 (by decide) (hts _ q2049) (fun _ h9 => h9) rfl dX5_scopeHere_33 ?_
      refine lv_iconst (v := iI 1) hx hb dX5_scopeHere_36 rfl ?_
      refine n_iadd hx hb dX5_scopeHere_37 ?_
      refine va_put (D := E.1) (ci := 0) (v := iv (q_1.2.1 + 1)) (ty := .int) (C := RX5) (T := TX5) (N := 23) hx hb hts in_X5 tyX5 tyX5_ok nmX5 hown hK.1 hP hD hS 0 rfl rfl 20 (by decide) (hts _ q2049) (fun _ h9 => h9) rfl (by decide +kernel) rfl rfl (Nat.le_of_ble_eq_true rfl) dX5_scopeHere_38 (fun H locs hP hD hS => ?_)
      have hP : va_P E.1 CL (MW E o (us sc 20 (q_1.2.1 + 1)) (ua ar 8 (ui q_1.2.2 pl (p_here (ar 5) (sc 13) q_1.2.1)))) H := hP
      have hD : va_D A (MW E o (us sc 20 (q_1.2.1 + 1)) (ua ar 8 (ui q_1.2.2 pl (p_here (ar 5) (sc 13) q_1.2.1)))) := hD
      refine lv_iconst (v := iI 1) hx hb dX5_scopeHere_41 rfl ?_
      have hfin : 1 = b2 ((p_one p_sc (ar 5) (sc 13) pl ps).1) := by
        simp only [p_one, p_sc, ← eq_1, c_3, c_7, b2_t, decide_eq_true_eq, Bool.false_eq_true, if_true, if_false, and_self, b2_f]
      have w_8 : q_1.2.1 + 1 = (p_one p_sc (ar 5) (sc 13) pl ps).2.1 := by
        simp only [p_one, p_sc, ← eq_1, c_3, c_7, b2_t, decide_eq_true_eq, Bool.false_eq_true, if_true, if_false, and_self, b2_f]
      rw [show (us sc 20 (q_1.2.1 + 1)) = (us sc 20 ((p_one p_sc (ar 5) (sc 13) pl ps).2.1)) from congrArg (fun z0 : Int => (us sc 20 z0)) w_8] at hP hD
      have w_9 : ui q_1.2.2 pl (p_here (ar 5) (sc 13) q_1.2.1) = (p_one p_sc (ar 5) (sc 13) pl ps).2.2 := by
        simp only [p_one, p_sc, ← eq_1, c_3, c_7, b2_t, decide_eq_true_eq, Bool.false_eq_true, if_true, if_false, and_self, b2_f]
      rw [show (ua ar 8 (ui q_1.2.2 pl (p_here (ar 5) (sc 13) q_1.2.1))) = (ua ar 8 ((p_one p_sc (ar 5) (sc 13) pl ps).2.2)) from congrArg (fun z0 : Int → Int => (ua ar 8 z0)) w_9] at hP hD
      exact W.zret (v := iI 1) hx hb hr (nr_b (by decide)) (fun tt_ ht_ hW_ => ⟨⟨iI 1, (), rfl, (congrArg iI hfin), by rw [ht_]; exact hP, hD⟩, hS.F ht_⟩) hS.2.2 dX5_scopeHere_42
    · refine lv_iconst (v := iI 0) hx hb dX5_scopeHere_19 rfl ?_
      have hfin : 0 = b2 ((p_one p_sc (ar 5) (sc 13) pl ps).1) := by
        simp only [p_one, p_sc, ← eq_1, c_3, c_7, b2_t, decide_eq_true_eq, Bool.false_eq_true, if_true, if_false, and_self, b2_f]
      have w_10 : q_1.2.1 = (p_one p_sc (ar 5) (sc 13) pl ps).2.1 := by
        simp only [p_one, p_sc, ← eq_1, c_3, c_7, b2_t, decide_eq_true_eq, Bool.false_eq_true, if_true, if_false, and_self, b2_f]
      rw [show (us sc 20 q_1.2.1) = (us sc 20 ((p_one p_sc (ar 5) (sc 13) pl ps).2.1)) from congrArg (fun z0 : Int => (us sc 20 z0)) w_10] at hP hD
      have w_11 : q_1.2.2 = (p_one p_sc (ar 5) (sc 13) pl ps).2.2 := by
        simp only [p_one, p_sc, ← eq_1, c_3, c_7, b2_t, decide_eq_true_eq, Bool.false_eq_true, if_true, if_false, and_self, b2_f]
      rw [show (ua ar 8 q_1.2.2) = (ua ar 8 ((p_one p_sc (ar 5) (sc 13) pl ps).2.2)) from congrArg (fun z0 : Int → Int => (ua ar 8 z0)) w_11] at hP hD
      exact W.zret (v := iI 0) hx hb hr (nr_b (by decide)) (fun tt_ ht_ hW_ => ⟨⟨iI 0, (), rfl, (congrArg iI hfin), by rw [ht_]; exact hP, hD⟩, hS.F ht_⟩) hS.2.2 dX5_scopeHere_20
set_option maxHeartbeats 4000000 in
set_option maxRecDepth 100000 in
theorem mt_X5_toolsHere (l : Launch) (E : EE) (o : Nat → Nat) (sc : Nat → Int) (ar : Nat → Int → Int) (pl : Int) (ps : PS) (hI : ∀ x, 0 ≤ ar 5 x ∧ ar 5 x < 65536) (hln : 0 ≤ sc 13 ∧ sc 13 ≤ 60) (hat : 0 ≤ ps.1 ∧ ps.1 ≤ sc 13) (hpl : 0 ≤ pl ∧ pl < 123) (sz : Nat) : Met l yX5_toolsHere (ws_ yX5_toolsHere cX5_toolsHere 2 (some .boolean)) { frames := 3, cells := 0, slots := 0, locals := 63 } (va_Pc [.ref (o 0), iv pl] (UW E (MW E o (us sc 20 ps.1) (ua ar 8 ps.2)) sz)) (UQi E (b2 ((p_tools (ar 5) (sc 13) pl ps).1)) (MW E o (us sc 20 ((p_tools (ar 5) (sc 13) pl ps).2.1)) (ua ar 8 ((p_tools (ar 5) (sc 13) pl ps).2.2))) (va_A (MW E o (us sc 20 ps.1) (ua ar 8 ps.2)) sz)) 0 0 (va_A (MW E o (us sc 20 ps.1) (ua ar 8 ps.2)) sz) := by
  refine Met.ofW (cc := cX5_toolsHere) (maxL := 2) (ret := (some .boolean)) (by decide) rfl ?_
  intro p e s m args below meth c s₁ B hml hv
  obtain ⟨rfl, hsz, hP, hK, hD0⟩ := hv
  have hx := B.exec
  have hb := B.bytes
  have hr := B.returns
  have hts := atoms_spec (ws := (ws_ yX5_toolsHere cX5_toolsHere 2 (some .boolean))) B.pre
  have hts : ∀ w ∈ lw_all, w.before _ s = true := fun w h => hts w (List.mem_cons_of_mem _ h)
  have hown : s.vm.findClass RX5 = some m.cls := findClass_of_methodNamed B.named
  have hlocks := B.notSynchronized
  subst hsz
  have hD := hD0.self (sz := s.heap.size)
  generalize hAe : va_A (MW E o (us sc 20 ps.1) (ua ar 8 ps.2)) s.heap.size = A at hD ⊢
  have hA : ∀ q : Nat, s.heap.size ≤ q → A q := fun q h => by rw [← hAe]; exact Or.inr h
  have hS : va_S A s.heap s.heap [] := va_S.rf
  have hl := lv_entry ([.ref (o 0), iv pl]) (n := 2) (Nat.le_of_ble_eq_true rfl)
  rw [lg_entry_eq]
  generalize (lg_sl ([.ref (o 0), iv pl]) ++ List.replicate (2 - (lg_sl ([.ref (o 0), iv pl])).length) Slot.unset).toArray = ls at hl ⊢
  have hl : lv_has ls 2 [(0, .ref (o 0)), (1, iv pl)] := hl
  refine lv_aload_n hx hb dX5_toolsHere_0 rfl (lv_at hl 0 rfl) ?_
  refine lv_iload_n hx hb dX5_toolsHere_1 rfl (lv_at hl 1 rfl) ?_
  refine n_cui (x := b2 ((p_one p_tl (ar 5) (sc 13) pl ps).1)) (va_runV (As := [iv pl]) (rest := []) ⟨hx, hb, hml, hown, hts⟩ (mt_X5_toolHere l E o (us sc 20 ps.1) (ua ar 8 ps.2) pl ps (by exact hI) (by exact hln) (by show 0 ≤ ps.1 ∧ ps.1 ≤ sc 13; omega) (by omega) _) (cwV 1 hts (lw_V q2471 q2473 qs87 q113 q2474) rfl rfl rfl (by decide +kernel) ⟨Nat.le_of_ble_eq_true rfl, Nat.le_of_ble_eq_true rfl⟩) (UW_V hP hK (hD) (va_recv hK.1 hP (ci := 0) (q0 := 0) rfl rfl)) rfl rfl hl.1 rfl (lv_room (Nat.le_of_ble_eq_true rfl)) dX5_toolsHere_2 ⟨Nat.le_of_ble_eq_true rfl, Nat.le_of_ble_eq_true rfl⟩) hD hS hA (fun H locs hP hD hS => ?_)
  have hP : va_P E.1 CL (MW E o (us sc 20 ((p_one p_tl (ar 5) (sc 13) pl ps).2.1)) (ua ar 8 ((p_one p_tl (ar 5) (sc 13) pl ps).2.2))) H := hP
  have hD : va_D A (MW E o (us sc 20 ((p_one p_tl (ar 5) (sc 13) pl ps).2.1)) (ua ar 8 ((p_one p_tl (ar 5) (sc 13) pl ps).2.2))) := hD
  have b_2 := p_one_r p_tl_0 (len := sc 13) (pl := pl) (x := ps) hI (by omega)
  obtain ⟨q_1, eq_1⟩ : ∃ zz : PR, zz = p_one p_tl (ar 5) (sc 13) pl ps := ⟨_, rfl⟩
  rw [← eq_1] at hP hD b_2 ⊢
  refine n_ifb_eq (tgt := 22) hx hb dX5_toolsHere_5 (by decide) (fun c_3 => ?_) (fun c_3 => ?_)
  · refine lv_iconst (v := iI 0) hx hb dX5_toolsHere_22 rfl ?_
    have hfin : 0 = b2 ((p_tools (ar 5) (sc 13) pl ps).1) := by
      simp only [p_tools, p_and, ← eq_1, c_3, b2_t, Bool.false_eq_true, if_true, if_false, b2_f]
    have w_4 : q_1.2.1 = (p_tools (ar 5) (sc 13) pl ps).2.1 := by
      simp only [p_tools, p_and, ← eq_1, c_3, b2_t, Bool.false_eq_true, if_true, if_false, b2_f]
    rw [show (us sc 20 q_1.2.1) = (us sc 20 ((p_tools (ar 5) (sc 13) pl ps).2.1)) from congrArg (fun z0 : Int => (us sc 20 z0)) w_4] at hP hD
    have w_5 : q_1.2.2 = (p_tools (ar 5) (sc 13) pl ps).2.2 := by
      simp only [p_tools, p_and, ← eq_1, c_3, b2_t, Bool.false_eq_true, if_true, if_false, b2_f]
    rw [show (ua ar 8 q_1.2.2) = (ua ar 8 ((p_tools (ar 5) (sc 13) pl ps).2.2)) from congrArg (fun z0 : Int → Int => (ua ar 8 z0)) w_5] at hP hD
    exact W.zret (v := iI 0) hx hb hr (nr_b (by decide)) (fun tt_ ht_ hW_ => ⟨⟨iI 0, (), rfl, (congrArg iI hfin), by rw [ht_]; exact hP, hD⟩, hS.F ht_⟩) hS.2.2 dX5_toolsHere_23
  · refine lv_aload_n hx hb dX5_toolsHere_8 rfl (lv_at hl 0 rfl) ?_
    refine lv_iload_n hx hb dX5_toolsHere_9 rfl (lv_at hl 1 rfl) ?_
    refine lv_iconst (v := iI 1) hx hb dX5_toolsHere_10 rfl ?_
    refine n_iadd hx hb dX5_toolsHere_11 ?_
    refine n_cui (x := b2 ((p_one p_tl (ar 5) (sc 13) (pl + 1) q_1.2).1)) (va_runV (As := [iv (pl + 1)]) (rest := []) ⟨hx, hb, hml, hown, hts⟩ (mt_X5_toolHere l E o (us sc 20 q_1.2.1) (ua ar 8 q_1.2.2) (pl + 1) q_1.2 (by exact hI) (by exact hln) (by show 0 ≤ q_1.2.1 ∧ q_1.2.1 ≤ sc 13; omega) (by omega) _) (cwV 1 hts (lw_V q2471 q2473 qs87 q113 q2474) rfl rfl rfl (by decide +kernel) ⟨Nat.le_of_ble_eq_true rfl, Nat.le_of_ble_eq_true rfl⟩) (UW_V hP hK (hD) (va_recv hK.1 hP (ci := 0) (q0 := 0) rfl rfl)) rfl rfl hl.1 rfl (lv_room (Nat.le_of_ble_eq_true rfl)) dX5_toolsHere_12 ⟨Nat.le_of_ble_eq_true rfl, Nat.le_of_ble_eq_true rfl⟩) hD hS hA (fun H locs hP hD hS => ?_)
    have hP : va_P E.1 CL (MW E o (us sc 20 ((p_one p_tl (ar 5) (sc 13) (pl + 1) q_1.2).2.1)) (ua ar 8 ((p_one p_tl (ar 5) (sc 13) (pl + 1) q_1.2).2.2))) H := hP
    have hD : va_D A (MW E o (us sc 20 ((p_one p_tl (ar 5) (sc 13) (pl + 1) q_1.2).2.1)) (ua ar 8 ((p_one p_tl (ar 5) (sc 13) (pl + 1) q_1.2).2.2))) := hD
    have b_7 := p_one_r p_tl_0 (len := sc 13) (pl := (pl + 1)) (x := q_1.2) hI (by omega)
    obtain ⟨q_6, eq_6⟩ : ∃ zz : PR, zz = p_one p_tl (ar 5) (sc 13) (pl + 1) q_1.2 := ⟨_, rfl⟩
    rw [← eq_6] at hP hD b_7 ⊢
    refine n_ifb_eq (tgt := 22) hx hb dX5_toolsHere_15 (by decide) (fun c_8 => ?_) (fun c_8 => ?_)
    · refine lv_iconst (v := iI 0) hx hb dX5_toolsHere_22 rfl ?_
      have hfin : 0 = b2 ((p_tools (ar 5) (sc 13) pl ps).1) := by
        simp only [p_tools, p_and, ← eq_1, ← eq_6, c_3, c_8, b2_t, Bool.false_eq_true, if_true, if_false, b2_f]
      have w_9 : q_6.2.1 = (p_tools (ar 5) (sc 13) pl ps).2.1 := by
        simp only [p_tools, p_and, ← eq_1, ← eq_6, c_3, c_8, b2_t, Bool.false_eq_true, if_true, if_false, b2_f]
      rw [show (us sc 20 q_6.2.1) = (us sc 20 ((p_tools (ar 5) (sc 13) pl ps).2.1)) from congrArg (fun z0 : Int => (us sc 20 z0)) w_9] at hP hD
      have w_10 : q_6.2.2 = (p_tools (ar 5) (sc 13) pl ps).2.2 := by
        simp only [p_tools, p_and, ← eq_1, ← eq_6, c_3, c_8, b2_t, Bool.false_eq_true, if_true, if_false, b2_f]
      rw [show (ua ar 8 q_6.2.2) = (ua ar 8 ((p_tools (ar 5) (sc 13) pl ps).2.2)) from congrArg (fun z0 : Int → Int => (ua ar 8 z0)) w_10] at hP hD
      exact W.zret (v := iI 0) hx hb hr (nr_b (by decide)) (fun tt_ ht_ hW_ => ⟨⟨iI 0, (), rfl, (congrArg iI hfin), by rw [ht_]; exact hP, hD⟩, hS.F ht_⟩) hS.2.2 dX5_toolsHere_23
    · refine lv_iconst (v := iI 1) hx hb dX5_toolsHere_18 rfl ?_
      refine lv_goto (tgt := 23) hx hb dX5_toolsHere_19 (by decide) ?_
      have hfin : 1 = b2 ((p_tools (ar 5) (sc 13) pl ps).1) := by
        simp only [p_tools, p_and, ← eq_1, ← eq_6, c_3, c_8, b2_t, Bool.false_eq_true, if_true, if_false, b2_f]
      have w_11 : q_6.2.1 = (p_tools (ar 5) (sc 13) pl ps).2.1 := by
        simp only [p_tools, p_and, ← eq_1, ← eq_6, c_3, c_8, b2_t, Bool.false_eq_true, if_true, if_false, b2_f]
      rw [show (us sc 20 q_6.2.1) = (us sc 20 ((p_tools (ar 5) (sc 13) pl ps).2.1)) from congrArg (fun z0 : Int => (us sc 20 z0)) w_11] at hP hD
      have w_12 : q_6.2.2 = (p_tools (ar 5) (sc 13) pl ps).2.2 := by
        simp only [p_tools, p_and, ← eq_1, ← eq_6, c_3, c_8, b2_t, Bool.false_eq_true, if_true, if_false, b2_f]
      rw [show (ua ar 8 q_6.2.2) = (ua ar 8 ((p_tools (ar 5) (sc 13) pl ps).2.2)) from congrArg (fun z0 : Int → Int => (ua ar 8 z0)) w_12] at hP hD
      exact W.zret (v := iI 1) hx hb hr (nr_b (by decide)) (fun tt_ ht_ hW_ => ⟨⟨iI 1, (), rfl, (congrArg iI hfin), by rw [ht_]; exact hP, hD⟩, hS.F ht_⟩) hS.2.2 dX5_toolsHere_23
set_option maxHeartbeats 4000000 in
set_option maxRecDepth 100000 in
theorem mt_X5_figures (l : Launch) (E : EE) (o : Nat → Nat) (sc : Nat → Int) (ar : Nat → Int → Int) (pl : Int) (dg : Int) (ps : PS) (hI : ∀ x, 0 ≤ ar 5 x ∧ ar 5 x < 65536) (hln : 0 ≤ sc 13 ∧ sc 13 ≤ 60) (hat : 0 ≤ ps.1 ∧ ps.1 ≤ sc 13) (hpl : 0 ≤ pl ∧ pl < 124) (hdg : 0 ≤ dg ∧ dg ≤ 2) (sz : Nat) : Met l yX5_figures (ws_ yX5_figures cX5_figures 4 (some .boolean)) { frames := 2, cells := 0, slots := 0, locals := 41 } (va_Pc [.ref (o 0), iv pl, iv dg] (UW E (MW E o (us sc 20 ps.1) (ua ar 8 ps.2)) sz)) (UQi E (b2 ((p_fig (ar 5) (sc 13) pl dg ps).1)) (MW E o (us sc 20 ((p_fig (ar 5) (sc 13) pl dg ps).2.1)) (ua ar 8 ((p_fig (ar 5) (sc 13) pl dg ps).2.2))) (va_A (MW E o (us sc 20 ps.1) (ua ar 8 ps.2)) sz)) 0 0 (va_A (MW E o (us sc 20 ps.1) (ua ar 8 ps.2)) sz) := by
  refine Met.ofW (cc := cX5_figures) (maxL := 4) (ret := (some .boolean)) (by decide) rfl ?_
  intro p e s m args below meth c s₁ B hml hv
  obtain ⟨rfl, hsz, hP, hK, hD0⟩ := hv
  have hx := B.exec
  have hb := B.bytes
  have hr := B.returns
  have hts := atoms_spec (ws := (ws_ yX5_figures cX5_figures 4 (some .boolean))) B.pre
  have hts : ∀ w ∈ lw_all, w.before _ s = true := fun w h => hts w (List.mem_cons_of_mem _ h)
  have hown : s.vm.findClass RX5 = some m.cls := findClass_of_methodNamed B.named
  have hlocks := B.notSynchronized
  subst hsz
  have hD := hD0.self (sz := s.heap.size)
  generalize hAe : va_A (MW E o (us sc 20 ps.1) (ua ar 8 ps.2)) s.heap.size = A at hD ⊢
  have hA : ∀ q : Nat, s.heap.size ≤ q → A q := fun q h => by rw [← hAe]; exact Or.inr h
  have hS : va_S A s.heap s.heap [] := va_S.rf
  have hl := lv_entry ([.ref (o 0), iv pl, iv dg]) (n := 4) (Nat.le_of_ble_eq_true rfl)
  rw [lg_entry_eq]
  generalize (lg_sl ([.ref (o 0), iv pl, iv dg]) ++ List.replicate (4 - (lg_sl ([.ref (o 0), iv pl, iv dg])).length) Slot.unset).toArray = ls at hl ⊢
  have hl : lv_has ls 4 [(0, .ref (o 0)), (1, iv pl), (2, iv dg)] := hl
  refine lv_aload_n hx hb dX5_figures_0 rfl (lv_at hl 0 rfl) ?_
  refine lv_bipush (v := iI 32) hx hb dX5_figures_1 (by decide) ?_
  refine n_cui (x := b2 ((p_skip (ar 5) (sc 13) 32 ps).1)) (va_runV (As := [iv 32]) (rest := []) ⟨hx, hb, hml, hown, hts⟩ (mt_X5_skips l E o (us sc 20 ps.1) (ua ar 8 ps.2) 32 ps (by exact hI) (by exact hln) (by show 0 ≤ ps.1 ∧ ps.1 ≤ sc 13; omega) (by omega) _) (cwV 1 hts (lw_V q2456 q2458 qs84 q113 q2459) rfl rfl rfl (by decide +kernel) ⟨Nat.le_of_ble_eq_true rfl, Nat.le_of_ble_eq_true rfl⟩) (UW_V hP hK (hD) (va_recv hK.1 hP (ci := 0) (q0 := 0) rfl rfl)) rfl rfl hl.1 rfl (lv_room (Nat.le_of_ble_eq_true rfl)) dX5_figures_3 ⟨Nat.le_of_ble_eq_true rfl, Nat.le_of_ble_eq_true rfl⟩) hD hS hA (fun H locs hP hD hS => ?_)
  have hP : va_P E.1 CL (MW E o (us sc 20 ((p_skip (ar 5) (sc 13) 32 ps).2.1)) (ua ar 8 ((p_skip (ar 5) (sc 13) 32 ps).2.2))) H := hP
  have hD : va_D A (MW E o (us sc 20 ((p_skip (ar 5) (sc 13) 32 ps).2.1)) (ua ar 8 ((p_skip (ar 5) (sc 13) 32 ps).2.2))) := hD
  have b_2 := p_skip_r (len := sc 13) (v := 32) (x := ps) hI (by omega) (by omega)
  obtain ⟨q_1, eq_1⟩ : ∃ zz : PR, zz = p_skip (ar 5) (sc 13) 32 ps := ⟨_, rfl⟩
  rw [← eq_1] at hP hD b_2 ⊢
  refine n_ifb_eq (tgt := 23) hx hb dX5_figures_6 (by decide) (fun c_3 => ?_) (fun c_3 => ?_)
  · refine lv_iconst (v := iI 0) hx hb dX5_figures_23 rfl ?_
    have hfin : 0 = b2 ((p_fig (ar 5) (sc 13) pl dg ps).1) := by
      simp only [p_fig, p_dg, ← eq_1, c_3, b2_t, decide_eq_true_eq, Bool.false_eq_true, if_true, if_false, and_self, b2_f]
    have w_4 : q_1.2.1 = (p_fig (ar 5) (sc 13) pl dg ps).2.1 := by
      simp only [p_fig, p_dg, ← eq_1, c_3, b2_t, decide_eq_true_eq, Bool.false_eq_true, if_true, if_false, and_self, b2_f]
    rw [show (us sc 20 q_1.2.1) = (us sc 20 ((p_fig (ar 5) (sc 13) pl dg ps).2.1)) from congrArg (fun z0 : Int => (us sc 20 z0)) w_4] at hP hD
    have w_5 : q_1.2.2 = (p_fig (ar 5) (sc 13) pl dg ps).2.2 := by
      simp only [p_fig, p_dg, ← eq_1, c_3, b2_t, decide_eq_true_eq, Bool.false_eq_true, if_true, if_false, and_self, b2_f]
    rw [show (ua ar 8 q_1.2.2) = (ua ar 8 ((p_fig (ar 5) (sc 13) pl dg ps).2.2)) from congrArg (fun z0 : Int → Int => (ua ar 8 z0)) w_5] at hP hD
    exact W.zret (v := iI 0) hx hb hr (nr_b (by decide)) (fun tt_ ht_ hW_ => ⟨⟨iI 0, (), rfl, (congrArg iI hfin), by rw [ht_]; exact hP, hD⟩, hS.F ht_⟩) hS.2.2 dX5_figures_24
  · refine lv_aload_n hx hb dX5_figures_9 rfl (lv_at hl 0 rfl) ?_
    refine n_csi (x := p_here (ar 5) (sc 13) q_1.2.1) (va_runV (As := []) (rest := []) ⟨hx, hb, hml, hown, hts⟩ (mt_X5_here l E o (us sc 20 q_1.2.1) (ua ar 8 q_1.2.2)  (by exact hI) (by exact hln) (by show 0 ≤ q_1.2.1 ∧ q_1.2.1 ≤ 60; omega)) (cwV 0 hts (lw_V q2460 q2462 qs85 q113 q2463) rfl rfl rfl (by decide +kernel) ⟨Nat.le_of_ble_eq_true rfl, Nat.le_of_ble_eq_true rfl⟩) (PW_V hP hK (va_recv hK.1 hP (ci := 0) (q0 := 0) rfl rfl)) rfl rfl hl.1 rfl (lv_room (Nat.le_of_ble_eq_true rfl)) dX5_figures_10 ⟨Nat.le_of_ble_eq_true rfl, Nat.le_of_ble_eq_true rfl⟩) ?_
    refine lv_bipush (v := iI 48) hx hb dX5_figures_13 (by decide) ?_
    refine lv_bipush (v := iI 57) hx hb dX5_figures_15 (by decide) ?_
    have b_6 := p_here_r hI (sc 13) q_1.2.1
    refine n_csi (x := b2 (decide (48 ≤ (p_here (ar 5) (sc 13) q_1.2.1) ∧ (p_here (ar 5) (sc 13) q_1.2.1) ≤ 57))) (va_runS (As := [iv (p_here (ar 5) (sc 13) q_1.2.1), iv 48, iv 57]) (rest := []) ⟨hx, hb, hml, hown, hts⟩ (mt_X5_in l E o (us sc 20 q_1.2.1) (ua ar 8 q_1.2.2) (p_here (ar 5) (sc 13) q_1.2.1) 48 57 (by omega) (by omega) (by omega)) (va_cwS 3 hts (lw_S q2110 q2111 q113 q2112) rfl rfl rfl (by decide +kernel) ⟨Nat.le_of_ble_eq_true rfl, Nat.le_of_ble_eq_true rfl⟩) (PW_S hP hK) rfl rfl hl.1 rfl (lv_room (Nat.le_of_ble_eq_true rfl)) dX5_figures_17 ⟨Nat.le_of_ble_eq_true rfl, Nat.le_of_ble_eq_true rfl⟩) ?_
    refine n_ifd_ne (tgt := 25) hx hb dX5_figures_20 (by decide) (fun c_7 => ?_) (fun c_7 => ?_)
    · refine lv_aload_n hx hb dX5_figures_25 rfl (lv_at hl 0 rfl) ?_
      refine va_get (D := E.1) (ci := 0) (v := .ref (o 8)) (C := RX5) (T := TX5) (N := 23) hx hb hts in_X5 hown hK.1 hP 0 rfl rfl 21 (by decide) (hts _ q2050) (fun _ h9 => h9) rfl dX5_figures_26 ?_
      refine lv_iload_n hx hb dX5_figures_29 rfl (lv_at hl 1 rfl) ?_
      refine lv_iconst (v := iI 0) hx hb dX5_figures_30 rfl ?_
      refine n_iast (f := q_1.2.2) hx hb hK.1 hP hD hS 8 0 rfl rfl (by omega) (by decide) dX5_figures_31 (ws2 := MW E o (us sc 20 q_1.2.1) (ua ar 8 (ui q_1.2.2 pl 0))) rfl (fun H locs hP hD hS => ?_)
      obtain ⟨a_8, ea_8⟩ : ∃ zz : Int → Int, zz = ui q_1.2.2 pl 0 := ⟨_, rfl⟩
      rw [← ea_8] at hP hD
      refine lv_iconst (v := iI 0) hx hb dX5_figures_32 rfl ?_
      refine lv_istore_n (lv' := [(3, iv 0), (0, .ref (o 0)), (1, iv pl), (2, iv dg)]) hx hb dX5_figures_33 rfl hl (by decide) rfl (fun ls hl => ?_)
      have l34 : ∀ (fu : Nat) (x3 : Int) (xa : Int) (tv : Int → Int) (xv : Int) (z : Nat), (0 ≤ x3 ∧ 0 ≤ xa ∧ xa ≤ sc 13 ∧ x3 + (z : Int) = dg ∧ 0 ≤ xv ∧ (x3 = 0 → xv < 1) ∧ (x3 = 1 → xv < 10)) → (tv = ui q_1.2.2 pl xv) → (p_figN (ar 5) (sc 13) z xv xa = p_figN (ar 5) (sc 13) dg.toNat 0 q_1.2.1) → ((z : Int) < (fu : Int)) → ∀ (H : Heap) (locs : List Loc), va_P E.1 CL (MW E o (us sc 20 xa) (ua ar 8 tv)) H → va_D A (MW E o (us sc 20 xa) (ua ar 8 tv)) → va_S A s.heap H locs → ∀ ls : Array Slot, lv_has ls 4 [(3, iv x3), (0, .ref (o 0)), (1, iv pl), (2, iv dg)] → W p l e (headSpec (ws_ yX5_figures cX5_figures 4 (some .boolean)) { frames := 2, cells := 0, slots := 0, locals := 41 }).room s m ([.ref (o 0), iv pl, iv dg] : List Value).toArray below meth c H locs 0 0 (MQ below (UQi E (b2 ((p_fig (ar 5) (sc 13) pl dg ps).1)) (MW E o (us sc 20 ((p_fig (ar 5) (sc 13) pl dg ps).2.1)) (ua ar 8 ((p_fig (ar 5) (sc 13) pl dg ps).2.2))) A) ([.ref (o 0), iv pl, iv dg] : List Value).toArray s 0 0 A) (F0 m 34 ls []) := by
        intro fu
        induction fu with
        | zero =>
          intro x3 xa tv xv z il34_0 il34_1 il34_2 hm
          exfalso; omega
        | succ fu ih =>
          intro x3 xa tv xv z il34_0 il34_1 il34_2 hm H locs hP hD hS ls hl
          have ihl34 := ih
          refine lv_iload_n hx hb dX5_figures_34 rfl (lv_at hl 0 rfl) ?_
          refine lv_iload_n hx hb dX5_figures_35 rfl (lv_at hl 3 rfl) ?_
          refine n_icmp_ge (tgt := 92) hx hb dX5_figures_36 (by decide) (by omega) (by omega) (fun c_9 => ?_) (fun c_9 => ?_)
          · have hfe := p_figN_e (inp := ar 5) (len := sc 13) (n := z) (v := xv) (a := xa) (by first | exact Or.inr (by assumption) | (left; omega))
            rw [il34_2] at hfe
            refine lv_iconst (v := iI 1) hx hb dX5_figures_92 rfl ?_
            have hfin : 1 = b2 ((p_fig (ar 5) (sc 13) pl dg ps).1) := by
              simp only [p_fig, p_dg, ← eq_1, c_3, c_7, c_9, b2_t, decide_eq_true_eq, Bool.false_eq_true, if_true, if_false, and_self, b2_f]
            have w_10 : xa = (p_fig (ar 5) (sc 13) pl dg ps).2.1 := by
              simp only [p_fig, p_dg, ← eq_1, c_3, c_7, c_9, b2_t, decide_eq_true_eq, Bool.false_eq_true, if_true, if_false, and_self, b2_f]
              rw [hfe]
            rw [show (us sc 20 xa) = (us sc 20 ((p_fig (ar 5) (sc 13) pl dg ps).2.1)) from congrArg (fun z0 : Int => (us sc 20 z0)) w_10] at hP hD
            have w_11 : tv = (p_fig (ar 5) (sc 13) pl dg ps).2.2 := by
              simp only [p_fig, p_dg, ← eq_1, c_3, c_7, c_9, b2_t, decide_eq_true_eq, Bool.false_eq_true, if_true, if_false, and_self, b2_f]
              rw [hfe]
              exact il34_1
            rw [show (ua ar 8 tv) = (ua ar 8 ((p_fig (ar 5) (sc 13) pl dg ps).2.2)) from congrArg (fun z0 : Int → Int => (ua ar 8 z0)) w_11] at hP hD
            exact W.zret (v := iI 1) hx hb hr (nr_b (by decide)) (fun tt_ ht_ hW_ => ⟨⟨iI 1, (), rfl, (congrArg iI hfin), by rw [ht_]; exact hP, hD⟩, hS.F ht_⟩) hS.2.2 dX5_figures_93
          · refine lv_aload_n hx hb dX5_figures_39 rfl (lv_at hl 1 rfl) ?_
            refine n_csi (x := p_here (ar 5) (sc 13) xa) (va_runV (As := []) (rest := []) ⟨hx, hb, hml, hown, hts⟩ (mt_X5_here l E o (us sc 20 xa) (ua ar 8 tv)  (by exact hI) (by exact hln) (by show 0 ≤ xa ∧ xa ≤ 60; omega)) (cwV 0 hts (lw_V q2460 q2462 qs85 q113 q2463) rfl rfl rfl (by decide +kernel) ⟨Nat.le_of_ble_eq_true rfl, Nat.le_of_ble_eq_true rfl⟩) (PW_V hP hK (va_recv hK.1 hP (ci := 0) (q0 := 0) rfl rfl)) rfl rfl hl.1 rfl (lv_room (Nat.le_of_ble_eq_true rfl)) dX5_figures_40 ⟨Nat.le_of_ble_eq_true rfl, Nat.le_of_ble_eq_true rfl⟩) ?_
            refine lv_bipush (v := iI 48) hx hb dX5_figures_43 (by decide) ?_
            refine lv_bipush (v := iI 57) hx hb dX5_figures_45 (by decide) ?_
            have b_12 := p_here_r hI (sc 13) xa
            refine n_csi (x := b2 (decide (48 ≤ (p_here (ar 5) (sc 13) xa) ∧ (p_here (ar 5) (sc 13) xa) ≤ 57))) (va_runS (As := [iv (p_here (ar 5) (sc 13) xa), iv 48, iv 57]) (rest := []) ⟨hx, hb, hml, hown, hts⟩ (mt_X5_in l E o (us sc 20 xa) (ua ar 8 tv) (p_here (ar 5) (sc 13) xa) 48 57 (by omega) (by omega) (by omega)) (va_cwS 3 hts (lw_S q2110 q2111 q113 q2112) rfl rfl rfl (by decide +kernel) ⟨Nat.le_of_ble_eq_true rfl, Nat.le_of_ble_eq_true rfl⟩) (PW_S hP hK) rfl rfl hl.1 rfl (lv_room (Nat.le_of_ble_eq_true rfl)) dX5_figures_47 ⟨Nat.le_of_ble_eq_true rfl, Nat.le_of_ble_eq_true rfl⟩) ?_
            refine n_ifd_eq (tgt := 92) hx hb dX5_figures_50 (by decide) (fun c_13 => ?_) (fun c_13 => ?_)
            · have hfe := p_figN_e (inp := ar 5) (len := sc 13) (n := z) (v := xv) (a := xa) (by first | exact Or.inr (by assumption) | (left; omega))
              rw [il34_2] at hfe
              refine lv_iconst (v := iI 1) hx hb dX5_figures_92 rfl ?_
              have hfin : 1 = b2 ((p_fig (ar 5) (sc 13) pl dg ps).1) := by
                simp only [p_fig, p_dg, ← eq_1, c_3, c_7, c_9, c_13, b2_t, decide_eq_true_eq, Bool.false_eq_true, if_true, if_false, and_self, b2_f]
              have w_14 : xa = (p_fig (ar 5) (sc 13) pl dg ps).2.1 := by
                simp only [p_fig, p_dg, ← eq_1, c_3, c_7, c_9, c_13, b2_t, decide_eq_true_eq, Bool.false_eq_true, if_true, if_false, and_self, b2_f]
                rw [hfe]
              rw [show (us sc 20 xa) = (us sc 20 ((p_fig (ar 5) (sc 13) pl dg ps).2.1)) from congrArg (fun z0 : Int => (us sc 20 z0)) w_14] at hP hD
              have w_15 : tv = (p_fig (ar 5) (sc 13) pl dg ps).2.2 := by
                simp only [p_fig, p_dg, ← eq_1, c_3, c_7, c_9, c_13, b2_t, decide_eq_true_eq, Bool.false_eq_true, if_true, if_false, and_self, b2_f]
                rw [hfe]
                exact il34_1
              rw [show (ua ar 8 tv) = (ua ar 8 ((p_fig (ar 5) (sc 13) pl dg ps).2.2)) from congrArg (fun z0 : Int → Int => (ua ar 8 z0)) w_15] at hP hD
              exact W.zret (v := iI 1) hx hb hr (nr_b (by decide)) (fun tt_ ht_ hW_ => ⟨⟨iI 1, (), rfl, (congrArg iI hfin), by rw [ht_]; exact hP, hD⟩, hS.F ht_⟩) hS.2.2 dX5_figures_93
            · refine lv_aload_n hx hb dX5_figures_53 rfl (lv_at hl 1 rfl) ?_
              refine va_get (D := E.1) (ci := 0) (v := .ref (o 8)) (C := RX5) (T := TX5) (N := 23) hx hb hts in_X5 hown hK.1 hP 0 rfl rfl 21 (by decide) (hts _ q2050) (fun _ h9 => h9) rfl dX5_figures_54 ?_
              refine lv_iload_n hx hb dX5_figures_57 rfl (lv_at hl 2 rfl) ?_
              refine lv_bipush (v := iI 10) hx hb dX5_figures_58 (by decide) ?_
              refine lv_aload_n hx hb dX5_figures_60 rfl (lv_at hl 1 rfl) ?_
              refine va_get (D := E.1) (ci := 0) (v := .ref (o 8)) (C := RX5) (T := TX5) (N := 23) hx hb hts in_X5 hown hK.1 hP 0 rfl rfl 21 (by decide) (hts _ q2050) (fun _ h9 => h9) rfl dX5_figures_61 ?_
              refine lv_iload_n hx hb dX5_figures_64 rfl (lv_at hl 2 rfl) ?_
              refine n_iald (f := tv) hx hb hK.1 hP 8 0 rfl rfl (by omega) (by decide) dX5_figures_65 ?_
              refine n_imul hx hb dX5_figures_66 ?_
              refine lv_aload_n hx hb dX5_figures_67 rfl (lv_at hl 1 rfl) ?_
              refine n_csi (x := p_here (ar 5) (sc 13) xa) (va_runV (As := []) (rest := [iv (10 * (tv pl)), iv pl, .ref (o 8)]) ⟨hx, hb, hml, hown, hts⟩ (mt_X5_here l E o (us sc 20 xa) (ua ar 8 tv)  (by exact hI) (by exact hln) (by show 0 ≤ xa ∧ xa ≤ 60; omega)) (cwV 0 hts (lw_V q2460 q2462 qs85 q113 q2463) rfl rfl rfl (by decide +kernel) ⟨Nat.le_of_ble_eq_true rfl, Nat.le_of_ble_eq_true rfl⟩) (PW_V hP hK (va_recv hK.1 hP (ci := 0) (q0 := 0) rfl rfl)) rfl rfl hl.1 rfl (lv_room (Nat.le_of_ble_eq_true rfl)) dX5_figures_68 ⟨Nat.le_of_ble_eq_true rfl, Nat.le_of_ble_eq_true rfl⟩) ?_
              refine n_iadd hx hb dX5_figures_71 ?_
              refine lv_bipush (v := iI 48) hx hb dX5_figures_72 (by decide) ?_
              refine n_isub hx hb dX5_figures_74 ?_
              refine n_iast (f := tv) hx hb hK.1 hP hD hS 8 0 rfl rfl (by omega) (by decide) dX5_figures_75 (ws2 := MW E o (us sc 20 xa) (ua ar 8 (ui tv pl (((10 * (tv pl)) + (p_here (ar 5) (sc 13) xa)) - 48)))) rfl (fun H locs hP hD hS => ?_)
              obtain ⟨a_16, ea_16⟩ : ∃ zz : Int → Int, zz = ui tv pl (((10 * (tv pl)) + (p_here (ar 5) (sc 13) xa)) - 48) := ⟨_, rfl⟩
              rw [← ea_16] at hP hD
              refine lv_aload_n hx hb dX5_figures_76 rfl (lv_at hl 1 rfl) ?_
              refine lv_dup hx hb dX5_figures_77 rfl ?_
              refine va_get (D := E.1) (ci := 0) (v := iv xa) (C := RX5) (T := TX5) (N := 23) hx hb hts in_X5 hown hK.1 hP 0 rfl rfl 20 (by decide) (hts _ q2049) (fun _ h9 => h9) rfl dX5_figures_78 ?_
              refine lv_iconst (v := iI 1) hx hb dX5_figures_81 rfl ?_
              refine n_iadd hx hb dX5_figures_82 ?_
              refine va_put (D := E.1) (ci := 0) (v := iv (xa + 1)) (ty := .int) (C := RX5) (T := TX5) (N := 23) hx hb hts in_X5 tyX5 tyX5_ok nmX5 hown hK.1 hP hD hS 0 rfl rfl 20 (by decide) (hts _ q2049) (fun _ h9 => h9) rfl (by decide +kernel) rfl rfl (Nat.le_of_ble_eq_true rfl) dX5_figures_83 (fun H locs hP hD hS => ?_)
              have hP : va_P E.1 CL (MW E o (us sc 20 (xa + 1)) (ua ar 8 a_16)) H := hP
              have hD : va_D A (MW E o (us sc 20 (xa + 1)) (ua ar 8 a_16)) := hD
              refine lv_iinc (v := iI (x3 + 1)) (lv' := [(3, iv (x3 + 1)), (0, .ref (o 0)), (1, iv pl), (2, iv dg)]) hx hb dX5_figures_86 hl (k := 0) rfl (iI_add _ _) (by decide) rfl (fun ls hl => ?_)
              refine lv_goto (tgt := 34) hx hb dX5_figures_89 (by decide) ?_
              obtain ⟨z, rfl⟩ : ∃ z2, z = z2 + 1 := ⟨z - 1, by omega⟩
              exact ihl34 (x3 + 1) (xa + 1) a_16 (10 * xv + p_here (ar 5) (sc 13) xa - 48) z (by first | omega | rfl) (by rw [ea_16, il34_1, ui_ui, ui_s]) (by exact p_fig_s il34_2 (by assumption)) (by omega) H locs hP hD hS ls (lv_sub hl [0, 1, 2, 3] rfl)
      exact l34 (dg.toNat + 1) 0 q_1.2.1 a_8 0 dg.toNat (by first | omega | rfl | trivial) (by exact ea_8) (by rfl) (by omega) H locs hP hD hS ls hl
    · refine lv_iconst (v := iI 0) hx hb dX5_figures_23 rfl ?_
      have hfin : 0 = b2 ((p_fig (ar 5) (sc 13) pl dg ps).1) := by
        simp only [p_fig, p_dg, ← eq_1, c_3, c_7, b2_t, decide_eq_true_eq, Bool.false_eq_true, if_true, if_false, and_self, b2_f]
      have w_17 : q_1.2.1 = (p_fig (ar 5) (sc 13) pl dg ps).2.1 := by
        simp only [p_fig, p_dg, ← eq_1, c_3, c_7, b2_t, decide_eq_true_eq, Bool.false_eq_true, if_true, if_false, and_self, b2_f]
      rw [show (us sc 20 q_1.2.1) = (us sc 20 ((p_fig (ar 5) (sc 13) pl dg ps).2.1)) from congrArg (fun z0 : Int => (us sc 20 z0)) w_17] at hP hD
      have w_18 : q_1.2.2 = (p_fig (ar 5) (sc 13) pl dg ps).2.2 := by
        simp only [p_fig, p_dg, ← eq_1, c_3, c_7, b2_t, decide_eq_true_eq, Bool.false_eq_true, if_true, if_false, and_self, b2_f]
      rw [show (ua ar 8 q_1.2.2) = (ua ar 8 ((p_fig (ar 5) (sc 13) pl dg ps).2.2)) from congrArg (fun z0 : Int → Int => (ua ar 8 z0)) w_18] at hP hD
      exact W.zret (v := iI 0) hx hb hr (nr_b (by decide)) (fun tt_ ht_ hW_ => ⟨⟨iI 0, (), rfl, (congrArg iI hfin), by rw [ht_]; exact hP, hD⟩, hS.F ht_⟩) hS.2.2 dX5_figures_24
