set_option maxHeartbeats 4000000 in
set_option maxRecDepth 100000 in
theorem mt_X5_isWord (l : Launch) (E : EE) (o : Nat → Nat) (sc : Nat → Int) (ar : Nat → Int → Int) (w : Int) (k : Nat) (ps : PS) (hI : ∀ x, 0 ≤ ar 5 x ∧ ar 5 x < 65536) (hln : 0 ≤ sc 13 ∧ sc 13 ≤ 60) (hat : 0 ≤ ps.1 ∧ ps.1 ≤ sc 13) (hw : 0 ≤ w ∧ w < 65536) (hk : k < 32) (htm : 0 ≤ sc 22 ∧ sc 22 ≤ 30) (sz : Nat) : Met l yX5_isWord (ws_ yX5_isWord cX5_isWord 4 (some .boolean)) { frames := 4, cells := 0, slots := 0, locals := 85 } (va_Pc [.ref (o 0), iv w, .ref (EX E (2 * k))] (UX E (MW E o (us sc 20 ps.1) (ua ar 8 ps.2)) sz)) (UQi E (b2 ((p_word (ar 5) (sc 13) (4 * sc 22) w (TX.getD k []) ps).1)) (MW E o (us sc 20 ((p_word (ar 5) (sc 13) (4 * sc 22) w (TX.getD k []) ps).2.1)) (ua ar 8 ((p_word (ar 5) (sc 13) (4 * sc 22) w (TX.getD k []) ps).2.2))) (va_A (MW E o (us sc 20 ps.1) (ua ar 8 ps.2)) sz)) 0 0 (va_A (MW E o (us sc 20 ps.1) (ua ar 8 ps.2)) sz) := by
  refine Met.ofW (cc := cX5_isWord) (maxL := 4) (ret := (some .boolean)) (by decide) rfl ?_
  intro p e s m args below meth c s₁ B hml hv
  obtain ⟨rfl, hsz, hP, hK, hD0, hE⟩ := hv
  have hx := B.exec
  have hb := B.bytes
  have hr := B.returns
  have hts := atoms_spec (ws := (ws_ yX5_isWord cX5_isWord 4 (some .boolean))) B.pre
  have hts : ∀ w ∈ lw_all, w.before _ s = true := fun w h => hts w (List.mem_cons_of_mem _ h)
  have hown : s.vm.findClass RX5 = some m.cls := findClass_of_methodNamed B.named
  have hlocks := B.notSynchronized
  subst hsz
  have hD := hD0.self (sz := s.heap.size)
  generalize hAe : va_A (MW E o (us sc 20 ps.1) (ua ar 8 ps.2)) s.heap.size = A at hD hE ⊢
  have hA : ∀ q : Nat, s.heap.size ≤ q → A q := fun q h => by rw [← hAe]; exact Or.inr h
  have hS : va_S A s.heap s.heap [] := va_S.rf
  have hl := lv_entry ([.ref (o 0), iv w, .ref (EX E (2 * k))]) (n := 4) (Nat.le_of_ble_eq_true rfl)
  rw [lg_entry_eq]
  generalize (lg_sl ([.ref (o 0), iv w, .ref (EX E (2 * k))]) ++ List.replicate (4 - (lg_sl ([.ref (o 0), iv w, .ref (EX E (2 * k))])).length) Slot.unset).toArray = ls at hl ⊢
  have hl : lv_has ls 4 [(0, .ref (o 0)), (1, iv w), (2, .ref (EX E (2 * k)))] := hl
  have htl := tx_l k
  refine lv_aload_n hx hb dX5_isWord_0 rfl (lv_at hl 0 rfl) ?_
  refine va_get (D := E.1) (ci := 0) (v := .ref (o 8)) (C := RX5) (T := TX5) (N := 23) hx hb hts in_X5 hown hK.1 hP 0 rfl rfl 21 (by decide) (hts _ q2050) (fun _ h9 => h9) rfl dX5_isWord_1 ?_
  refine lv_iconst (v := iI 4) hx hb dX5_isWord_4 rfl ?_
  refine lv_aload_n hx hb dX5_isWord_5 rfl (lv_at hl 0 rfl) ?_
  refine va_get (D := E.1) (ci := 0) (v := iv (sc 22)) (C := RX5) (T := TX5) (N := 23) hx hb hts in_X5 hown hK.1 hP 0 rfl rfl 22 (by decide) (hts _ q2051) (fun _ h9 => h9) rfl dX5_isWord_6 ?_
  refine n_imul hx hb dX5_isWord_9 ?_
  refine lv_iload_n hx hb dX5_isWord_10 rfl (lv_at hl 1 rfl) ?_
  refine n_iast (f := ps.2) hx hb hK.1 hP hD hS 8 0 rfl rfl (by omega) (by decide) dX5_isWord_11 (ws2 := MW E o (us sc 20 ps.1) (ua ar 8 (ui ps.2 (4 * (sc 22)) w))) rfl (fun H locs hP hD hS => ?_)
  obtain ⟨a_1, ea_1⟩ : ∃ zz : Int → Int, zz = ui ps.2 (4 * (sc 22)) w := ⟨_, rfl⟩
  rw [← ea_1] at hP hD
  refine lv_iconst (v := iI 0) hx hb dX5_isWord_12 rfl ?_
  refine lv_istore_n (lv' := [(3, iv 0), (0, .ref (o 0)), (1, iv w), (2, .ref (EX E (2 * k)))]) hx hb dX5_isWord_13 rfl hl (by decide) rfl (fun ls hl => ?_)
  have l14 : ∀ (fu : Nat) (x3 : Int) (xa : Int) (tv : Int → Int), (0 ≤ x3 ∧ x3 ≤ ((TX.getD k []).length : Int)) → (0 ≤ xa ∧ xa ≤ sc 13) → (p_wd (ar 5) (sc 13) ((TX.getD k []).drop x3.toNat) (xa, tv) = (p_word (ar 5) (sc 13) (4 * sc 22) w (TX.getD k []) ps)) → (((TX.getD k []).length : Int) - x3 < (fu : Int)) → ∀ (H : Heap) (locs : List Loc), va_P E.1 CL (MW E o (us sc 20 xa) (ua ar 8 tv)) H → va_D A (MW E o (us sc 20 xa) (ua ar 8 tv)) → va_S A s.heap H locs → ∀ ls : Array Slot, lv_has ls 4 [(3, iv x3), (0, .ref (o 0)), (1, iv w), (2, .ref (EX E (2 * k)))] → W p l e (headSpec (ws_ yX5_isWord cX5_isWord 4 (some .boolean)) { frames := 4, cells := 0, slots := 0, locals := 85 }).room s m ([.ref (o 0), iv w, .ref (EX E (2 * k))] : List Value).toArray below meth c H locs 0 0 (MQ below (UQi E (b2 ((p_word (ar 5) (sc 13) (4 * sc 22) w (TX.getD k []) ps).1)) (MW E o (us sc 20 ((p_word (ar 5) (sc 13) (4 * sc 22) w (TX.getD k []) ps).2.1)) (ua ar 8 ((p_word (ar 5) (sc 13) (4 * sc 22) w (TX.getD k []) ps).2.2))) A) ([.ref (o 0), iv w, .ref (EX E (2 * k))] : List Value).toArray s 0 0 A) (F0 m 14 ls []) := by
    intro fu
    induction fu with
    | zero =>
      intro x3 xa tv il14_0 il14_1 il14_2 hm
      exfalso; omega
    | succ fu ih =>
      intro x3 xa tv il14_0 il14_1 il14_2 hm H locs hP hD hS ls hl
      have ihl14 := ih
      have htl := tx_l k
      refine lv_iload_n hx hb dX5_isWord_14 rfl (lv_at hl 0 rfl) ?_
      refine lv_aload_n hx hb dX5_isWord_15 rfl (lv_at hl 3 rfl) ?_
      refine n_csi (x := ((TX.getD k []).length : Int)) (va_runV (As := []) (rest := [iv x3]) ⟨hx, hb, hml, hown, hts⟩ (mt_J4_length l E k (by exact hk)) (cwV 0 hts (lw_V q2469 q1497 q1498 q101 q1499) rfl rfl rfl (by decide +kernel) ⟨Nat.le_of_ble_eq_true rfl, Nat.le_of_ble_eq_true rfl⟩) (PX_V (hP.sub (ws' := []) [] rfl) hK hE hS (SQ.recv (hE.hs k hk) hS)) rfl rfl hl.1 rfl (lv_room (Nat.le_of_ble_eq_true rfl)) dX5_isWord_16 ⟨Nat.le_of_ble_eq_true rfl, Nat.le_of_ble_eq_true rfl⟩) ?_
      have b_2 := tx_l k
      refine n_icmp_ge (tgt := 42) hx hb dX5_isWord_19 (by decide) (by omega) (by omega) (fun c_3 => ?_) (fun c_3 => ?_)
      · have hfin1 := p_wd_e (by omega) il14_2
        refine lv_iconst (v := iI 1) hx hb dX5_isWord_42 rfl ?_
        have hfin : 1 = b2 ((p_word (ar 5) (sc 13) (4 * sc 22) w (TX.getD k []) ps).1) := by
          rw [hfin1]
          rfl
        have w_4 : xa = (p_word (ar 5) (sc 13) (4 * sc 22) w (TX.getD k []) ps).2.1 := by
          rw [hfin1]
        rw [show (us sc 20 xa) = (us sc 20 ((p_word (ar 5) (sc 13) (4 * sc 22) w (TX.getD k []) ps).2.1)) from congrArg (fun z0 : Int => (us sc 20 z0)) w_4] at hP hD
        have w_5 : tv = (p_word (ar 5) (sc 13) (4 * sc 22) w (TX.getD k []) ps).2.2 := by
          rw [hfin1]
        rw [show (ua ar 8 tv) = (ua ar 8 ((p_word (ar 5) (sc 13) (4 * sc 22) w (TX.getD k []) ps).2.2)) from congrArg (fun z0 : Int → Int => (ua ar 8 z0)) w_5] at hP hD
        exact W.zret (v := iI 1) hx hb hr (nr_b (by decide)) (fun tt_ ht_ hW_ => ⟨⟨iI 1, (), rfl, (congrArg iI hfin), by rw [ht_]; exact hP, hD⟩, hS.F ht_⟩) hS.2.2 dX5_isWord_43
      · refine lv_aload_n hx hb dX5_isWord_22 rfl (lv_at hl 1 rfl) ?_
        refine lv_aload_n hx hb dX5_isWord_23 rfl (lv_at hl 3 rfl) ?_
        refine lv_iload_n hx hb dX5_isWord_24 rfl (lv_at hl 0 rfl) ?_
        refine n_csi (x := (TX.getD k []).getD (x3).toNat 0) (va_runV (As := [iv x3]) (rest := [.ref (o 0)]) ⟨hx, hb, hml, hown, hts⟩ (mt_J4_charAt l E k x3 (by exact hk) (by omega)) (cwV 1 hts (lw_V q2470 q1782 q1783 q101 q1784) rfl rfl rfl (by decide +kernel) ⟨Nat.le_of_ble_eq_true rfl, Nat.le_of_ble_eq_true rfl⟩) (PX_V (hP.sub (ws' := []) [] rfl) hK hE hS (SQ.recv (hE.hs k hk) hS)) rfl rfl hl.1 rfl (lv_room (Nat.le_of_ble_eq_true rfl)) dX5_isWord_25 ⟨Nat.le_of_ble_eq_true rfl, Nat.le_of_ble_eq_true rfl⟩) ?_
        have b_6 := tx_b k (x3).toNat
        refine n_cui (x := b2 ((p_skip (ar 5) (sc 13) ((TX.getD k []).getD (x3).toNat 0) (xa, tv)).1)) (va_runV (As := [iv ((TX.getD k []).getD (x3).toNat 0)]) (rest := []) ⟨hx, hb, hml, hown, hts⟩ (mt_X5_skips l E o (us sc 20 xa) (ua ar 8 tv) ((TX.getD k []).getD (x3).toNat 0) (xa, tv) (by exact hI) (by exact hln) (by show 0 ≤ xa ∧ xa ≤ sc 13; omega) (by omega) _) (cwV 1 hts (lw_V q2456 q2458 qs84 q113 q2459) rfl rfl rfl (by decide +kernel) ⟨Nat.le_of_ble_eq_true rfl, Nat.le_of_ble_eq_true rfl⟩) (UW_V hP hK (hD) (va_recv hK.1 hP (ci := 0) (q0 := 0) rfl rfl)) rfl rfl hl.1 rfl (lv_room (Nat.le_of_ble_eq_true rfl)) dX5_isWord_28 ⟨Nat.le_of_ble_eq_true rfl, Nat.le_of_ble_eq_true rfl⟩) hD hS hA (fun H locs hP hD hS => ?_)
        have hP : va_P E.1 CL (MW E o (us sc 20 ((p_skip (ar 5) (sc 13) ((TX.getD k []).getD (x3).toNat 0) (xa, tv)).2.1)) (ua ar 8 ((p_skip (ar 5) (sc 13) ((TX.getD k []).getD (x3).toNat 0) (xa, tv)).2.2))) H := hP
        have hD : va_D A (MW E o (us sc 20 ((p_skip (ar 5) (sc 13) ((TX.getD k []).getD (x3).toNat 0) (xa, tv)).2.1)) (ua ar 8 ((p_skip (ar 5) (sc 13) ((TX.getD k []).getD (x3).toNat 0) (xa, tv)).2.2))) := hD
        have b_8 := p_skip_r (len := sc 13) (v := ((TX.getD k []).getD (x3).toNat 0)) (x := (xa, tv)) hI (by omega) (by omega)
        obtain ⟨q_7, eq_7⟩ : ∃ zz : PR, zz = p_skip (ar 5) (sc 13) ((TX.getD k []).getD (x3).toNat 0) (xa, tv) := ⟨_, rfl⟩
        rw [← eq_7] at hP hD b_8 ⊢
        refine n_ifb_ne (tgt := 36) hx hb dX5_isWord_31 (by decide) (fun c_9 => ?_) (fun c_9 => ?_)
        · refine lv_iinc (v := iI (x3 + 1)) (lv' := [(3, iv (x3 + 1)), (0, .ref (o 0)), (1, iv w), (2, .ref (EX E (2 * k)))]) hx hb dX5_isWord_36 hl (k := 0) rfl (iI_add _ _) (by decide) rfl (fun ls hl => ?_)
          refine lv_goto (tgt := 14) hx hb dX5_isWord_39 (by decide) ?_
          exact ihl14 (x3 + 1) q_7.2.1 q_7.2.2 (by first | omega | rfl) (by first | omega | rfl) (by exact p_wd_1 (by omega) (by omega) il14_2 eq_7 (by assumption)) (by omega) H locs hP hD hS ls (lv_sub hl [0, 1, 2, 3] rfl)
        · have hfin0 := p_wd_0 (by omega) (by omega) il14_2 eq_7 (by assumption)
          refine lv_iconst (v := iI 0) hx hb dX5_isWord_34 rfl ?_
          have hfin : 0 = b2 ((p_word (ar 5) (sc 13) (4 * sc 22) w (TX.getD k []) ps).1) := by
            rw [hfin0]
            rfl
          have w_10 : q_7.2.1 = (p_word (ar 5) (sc 13) (4 * sc 22) w (TX.getD k []) ps).2.1 := by
            rw [hfin0]
          rw [show (us sc 20 q_7.2.1) = (us sc 20 ((p_word (ar 5) (sc 13) (4 * sc 22) w (TX.getD k []) ps).2.1)) from congrArg (fun z0 : Int => (us sc 20 z0)) w_10] at hP hD
          have w_11 : q_7.2.2 = (p_word (ar 5) (sc 13) (4 * sc 22) w (TX.getD k []) ps).2.2 := by
            rw [hfin0]
          rw [show (ua ar 8 q_7.2.2) = (ua ar 8 ((p_word (ar 5) (sc 13) (4 * sc 22) w (TX.getD k []) ps).2.2)) from congrArg (fun z0 : Int → Int => (ua ar 8 z0)) w_11] at hP hD
          exact W.zret (v := iI 0) hx hb hr (nr_b (by decide)) (fun tt_ ht_ hW_ => ⟨⟨iI 0, (), rfl, (congrArg iI hfin), by rw [ht_]; exact hP, hD⟩, hS.F ht_⟩) hS.2.2 dX5_isWord_35
  exact l14 31 0 ps.1 a_1 (by first | omega | rfl | trivial) (by first | omega | rfl | trivial) (by rw [ea_1]; rfl) (by omega) H locs hP hD hS ls hl
set_option maxHeartbeats 4000000 in
set_option maxRecDepth 100000 in
theorem mt_X5_commandHere (l : Launch) (E : EE) (o : Nat → Nat) (sc : Nat → Int) (ar : Nat → Int → Int)  (ps : PS) (hI : ∀ x, 0 ≤ ar 5 x ∧ ar 5 x < 65536) (hln : 0 ≤ sc 13 ∧ sc 13 ≤ 60) (hat : 0 ≤ ps.1 ∧ ps.1 ≤ sc 13) (htm : 0 ≤ sc 22 ∧ sc 22 ≤ 30) (sz : Nat) : Met l yX5_commandHere (ws_ yX5_commandHere cX5_commandHere 2 (some .boolean)) { frames := 5, cells := 0, slots := 0, locals := 108 } (va_Pc [.ref (o 0)] (UX E (MW E o (us sc 20 ps.1) (ua ar 8 ps.2)) sz)) (UQi E (b2 ((p_cmd (ar 5) (sc 13) (sc 22) ps).1)) (MW E o (us sc 20 ((p_cmd (ar 5) (sc 13) (sc 22) ps).2.1)) (ua ar 8 ((p_cmd (ar 5) (sc 13) (sc 22) ps).2.2))) (va_A (MW E o (us sc 20 ps.1) (ua ar 8 ps.2)) sz)) 0 0 (va_A (MW E o (us sc 20 ps.1) (ua ar 8 ps.2)) sz) := by
  refine Met.ofW (cc := cX5_commandHere) (maxL := 2) (ret := (some .boolean)) (by decide) rfl ?_
  intro p e s m args below meth c s₁ B hml hv
  obtain ⟨rfl, hsz, hP, hK, hD0, hE⟩ := hv
  have hx := B.exec
  have hb := B.bytes
  have hr := B.returns
  have hts := atoms_spec (ws := (ws_ yX5_commandHere cX5_commandHere 2 (some .boolean))) B.pre
  have hts : ∀ w ∈ lw_all, w.before _ s = true := fun w h => hts w (List.mem_cons_of_mem _ h)
  have hown : s.vm.findClass RX5 = some m.cls := findClass_of_methodNamed B.named
  have hlocks := B.notSynchronized
  subst hsz
  have hD := hD0.self (sz := s.heap.size)
  generalize hAe : va_A (MW E o (us sc 20 ps.1) (ua ar 8 ps.2)) s.heap.size = A at hD hE ⊢
  have hA : ∀ q : Nat, s.heap.size ≤ q → A q := fun q h => by rw [← hAe]; exact Or.inr h
  have hS : va_S A s.heap s.heap [] := va_S.rf
  have hl := lv_entry ([.ref (o 0)]) (n := 2) (Nat.le_of_ble_eq_true rfl)
  rw [lg_entry_eq]
  generalize (lg_sl ([.ref (o 0)]) ++ List.replicate (2 - (lg_sl ([.ref (o 0)])).length) Slot.unset).toArray = ls at hl ⊢
  have hl : lv_has ls 2 [(0, .ref (o 0))] := hl
  refine lv_iconst (v := iI 4) hx hb dX5_commandHere_0 rfl ?_
  refine lv_aload_n hx hb dX5_commandHere_1 rfl (lv_at hl 0 rfl) ?_
  refine va_get (D := E.1) (ci := 0) (v := iv (sc 22)) (C := RX5) (T := TX5) (N := 23) hx hb hts in_X5 hown hK.1 hP 0 rfl rfl 22 (by decide) (hts _ q2051) (fun _ h9 => h9) rfl dX5_commandHere_2 ?_
  refine n_imul hx hb dX5_commandHere_5 ?_
  refine lv_iconst (v := iI 1) hx hb dX5_commandHere_6 rfl ?_
  refine n_iadd hx hb dX5_commandHere_7 ?_
  refine lv_istore_n (lv' := [(1, iv ((4 * (sc 22)) + 1)), (0, .ref (o 0))]) hx hb dX5_commandHere_8 rfl hl (by decide) rfl (fun ls hl => ?_)
  refine lv_aload_n hx hb dX5_commandHere_9 rfl (lv_at hl 1 rfl) ?_
  refine lv_bipush (v := iI 114) hx hb dX5_commandHere_10 (by decide) ?_
  refine n_cui (x := b2 ((p_skip (ar 5) (sc 13) 114 ps).1)) (va_runV (As := [iv 114]) (rest := []) ⟨hx, hb, hml, hown, hts⟩ (mt_X5_skips l E o (us sc 20 ps.1) (ua ar 8 ps.2) 114 ps (by exact hI) (by exact hln) (by show 0 ≤ ps.1 ∧ ps.1 ≤ sc 13; omega) (by omega) _) (cwV 1 hts (lw_V q2456 q2458 qs84 q113 q2459) rfl rfl rfl (by decide +kernel) ⟨Nat.le_of_ble_eq_true rfl, Nat.le_of_ble_eq_true rfl⟩) (UW_V hP hK (hD) (va_recv hK.1 hP (ci := 0) (q0 := 0) rfl rfl)) rfl rfl hl.1 rfl (lv_room (Nat.le_of_ble_eq_true rfl)) dX5_commandHere_12 ⟨Nat.le_of_ble_eq_true rfl, Nat.le_of_ble_eq_true rfl⟩) hD hS hA (fun H locs hP hD hS => ?_)
  have hP : va_P E.1 CL (MW E o (us sc 20 ((p_skip (ar 5) (sc 13) 114 ps).2.1)) (ua ar 8 ((p_skip (ar 5) (sc 13) 114 ps).2.2))) H := hP
  have hD : va_D A (MW E o (us sc 20 ((p_skip (ar 5) (sc 13) 114 ps).2.1)) (ua ar 8 ((p_skip (ar 5) (sc 13) 114 ps).2.2))) := hD
  have b_2 := p_skip_r (len := sc 13) (v := 114) (x := ps) hI (by omega) (by omega)
  obtain ⟨q_1, eq_1⟩ : ∃ zz : PR, zz = p_skip (ar 5) (sc 13) 114 ps := ⟨_, rfl⟩
  rw [← eq_1] at hP hD b_2 ⊢
  refine n_ifb_eq (tgt := 63) hx hb dX5_commandHere_15 (by decide) (fun c_3 => ?_) (fun c_3 => ?_)
  · refine lv_aload_n hx hb dX5_commandHere_63 rfl (lv_at hl 1 rfl) ?_
    refine lv_bipush (v := iI 100) hx hb dX5_commandHere_64 (by decide) ?_
    refine n_cui (x := b2 ((p_skip (ar 5) (sc 13) 100 q_1.2).1)) (va_runV (As := [iv 100]) (rest := []) ⟨hx, hb, hml, hown, hts⟩ (mt_X5_skips l E o (us sc 20 q_1.2.1) (ua ar 8 q_1.2.2) 100 q_1.2 (by exact hI) (by exact hln) (by show 0 ≤ q_1.2.1 ∧ q_1.2.1 ≤ sc 13; omega) (by omega) _) (cwV 1 hts (lw_V q2456 q2458 qs84 q113 q2459) rfl rfl rfl (by decide +kernel) ⟨Nat.le_of_ble_eq_true rfl, Nat.le_of_ble_eq_true rfl⟩) (UW_V hP hK (hD) (va_recv hK.1 hP (ci := 0) (q0 := 0) rfl rfl)) rfl rfl hl.1 rfl (lv_room (Nat.le_of_ble_eq_true rfl)) dX5_commandHere_66 ⟨Nat.le_of_ble_eq_true rfl, Nat.le_of_ble_eq_true rfl⟩) hD hS hA (fun H locs hP hD hS => ?_)
    have hP : va_P E.1 CL (MW E o (us sc 20 ((p_skip (ar 5) (sc 13) 100 q_1.2).2.1)) (ua ar 8 ((p_skip (ar 5) (sc 13) 100 q_1.2).2.2))) H := hP
    have hD : va_D A (MW E o (us sc 20 ((p_skip (ar 5) (sc 13) 100 q_1.2).2.1)) (ua ar 8 ((p_skip (ar 5) (sc 13) 100 q_1.2).2.2))) := hD
    have b_5 := p_skip_r (len := sc 13) (v := 100) (x := q_1.2) hI (by omega) (by omega)
    obtain ⟨q_4, eq_4⟩ : ∃ zz : PR, zz = p_skip (ar 5) (sc 13) 100 q_1.2 := ⟨_, rfl⟩
    rw [← eq_4] at hP hD b_5 ⊢
    refine n_ifb_eq (tgt := 96) hx hb dX5_commandHere_69 (by decide) (fun c_6 => ?_) (fun c_6 => ?_)
    · refine lv_aload_n hx hb dX5_commandHere_96 rfl (lv_at hl 1 rfl) ?_
      refine lv_bipush (v := iI 110) hx hb dX5_commandHere_97 (by decide) ?_
      refine n_cui (x := b2 ((p_skip (ar 5) (sc 13) 110 q_4.2).1)) (va_runV (As := [iv 110]) (rest := []) ⟨hx, hb, hml, hown, hts⟩ (mt_X5_skips l E o (us sc 20 q_4.2.1) (ua ar 8 q_4.2.2) 110 q_4.2 (by exact hI) (by exact hln) (by show 0 ≤ q_4.2.1 ∧ q_4.2.1 ≤ sc 13; omega) (by omega) _) (cwV 1 hts (lw_V q2456 q2458 qs84 q113 q2459) rfl rfl rfl (by decide +kernel) ⟨Nat.le_of_ble_eq_true rfl, Nat.le_of_ble_eq_true rfl⟩) (UW_V hP hK (hD) (va_recv hK.1 hP (ci := 0) (q0 := 0) rfl rfl)) rfl rfl hl.1 rfl (lv_room (Nat.le_of_ble_eq_true rfl)) dX5_commandHere_99 ⟨Nat.le_of_ble_eq_true rfl, Nat.le_of_ble_eq_true rfl⟩) hD hS hA (fun H locs hP hD hS => ?_)
      have hP : va_P E.1 CL (MW E o (us sc 20 ((p_skip (ar 5) (sc 13) 110 q_4.2).2.1)) (ua ar 8 ((p_skip (ar 5) (sc 13) 110 q_4.2).2.2))) H := hP
      have hD : va_D A (MW E o (us sc 20 ((p_skip (ar 5) (sc 13) 110 q_4.2).2.1)) (ua ar 8 ((p_skip (ar 5) (sc 13) 110 q_4.2).2.2))) := hD
      have b_8 := p_skip_r (len := sc 13) (v := 110) (x := q_4.2) hI (by omega) (by omega)
      obtain ⟨q_7, eq_7⟩ : ∃ zz : PR, zz = p_skip (ar 5) (sc 13) 110 q_4.2 := ⟨_, rfl⟩
      rw [← eq_7] at hP hD b_8 ⊢
      refine n_ifb_eq (tgt := 129) hx hb dX5_commandHere_102 (by decide) (fun c_9 => ?_) (fun c_9 => ?_)
      · refine lv_aload_n hx hb dX5_commandHere_129 rfl (lv_at hl 1 rfl) ?_
        refine lv_bipush (v := iI 108) hx hb dX5_commandHere_130 (by decide) ?_
        refine n_cui (x := b2 ((p_skip (ar 5) (sc 13) 108 q_7.2).1)) (va_runV (As := [iv 108]) (rest := []) ⟨hx, hb, hml, hown, hts⟩ (mt_X5_skips l E o (us sc 20 q_7.2.1) (ua ar 8 q_7.2.2) 108 q_7.2 (by exact hI) (by exact hln) (by show 0 ≤ q_7.2.1 ∧ q_7.2.1 ≤ sc 13; omega) (by omega) _) (cwV 1 hts (lw_V q2456 q2458 qs84 q113 q2459) rfl rfl rfl (by decide +kernel) ⟨Nat.le_of_ble_eq_true rfl, Nat.le_of_ble_eq_true rfl⟩) (UW_V hP hK (hD) (va_recv hK.1 hP (ci := 0) (q0 := 0) rfl rfl)) rfl rfl hl.1 rfl (lv_room (Nat.le_of_ble_eq_true rfl)) dX5_commandHere_132 ⟨Nat.le_of_ble_eq_true rfl, Nat.le_of_ble_eq_true rfl⟩) hD hS hA (fun H locs hP hD hS => ?_)
        have hP : va_P E.1 CL (MW E o (us sc 20 ((p_skip (ar 5) (sc 13) 108 q_7.2).2.1)) (ua ar 8 ((p_skip (ar 5) (sc 13) 108 q_7.2).2.2))) H := hP
        have hD : va_D A (MW E o (us sc 20 ((p_skip (ar 5) (sc 13) 108 q_7.2).2.1)) (ua ar 8 ((p_skip (ar 5) (sc 13) 108 q_7.2).2.2))) := hD
        have b_11 := p_skip_r (len := sc 13) (v := 108) (x := q_7.2) hI (by omega) (by omega)
        obtain ⟨q_10, eq_10⟩ : ∃ zz : PR, zz = p_skip (ar 5) (sc 13) 108 q_7.2 := ⟨_, rfl⟩
        rw [← eq_10] at hP hD b_11 ⊢
        refine n_ifb_eq (tgt := 162) hx hb dX5_commandHere_135 (by decide) (fun c_12 => ?_) (fun c_12 => ?_)
        · refine lv_aload_n hx hb dX5_commandHere_162 rfl (lv_at hl 1 rfl) ?_
          refine lv_bipush (v := iI 99) hx hb dX5_commandHere_163 (by decide) ?_
          refine n_cui (x := b2 ((p_skip (ar 5) (sc 13) 99 q_10.2).1)) (va_runV (As := [iv 99]) (rest := []) ⟨hx, hb, hml, hown, hts⟩ (mt_X5_skips l E o (us sc 20 q_10.2.1) (ua ar 8 q_10.2.2) 99 q_10.2 (by exact hI) (by exact hln) (by show 0 ≤ q_10.2.1 ∧ q_10.2.1 ≤ sc 13; omega) (by omega) _) (cwV 1 hts (lw_V q2456 q2458 qs84 q113 q2459) rfl rfl rfl (by decide +kernel) ⟨Nat.le_of_ble_eq_true rfl, Nat.le_of_ble_eq_true rfl⟩) (UW_V hP hK (hD) (va_recv hK.1 hP (ci := 0) (q0 := 0) rfl rfl)) rfl rfl hl.1 rfl (lv_room (Nat.le_of_ble_eq_true rfl)) dX5_commandHere_165 ⟨Nat.le_of_ble_eq_true rfl, Nat.le_of_ble_eq_true rfl⟩) hD hS hA (fun H locs hP hD hS => ?_)
          have hP : va_P E.1 CL (MW E o (us sc 20 ((p_skip (ar 5) (sc 13) 99 q_10.2).2.1)) (ua ar 8 ((p_skip (ar 5) (sc 13) 99 q_10.2).2.2))) H := hP
          have hD : va_D A (MW E o (us sc 20 ((p_skip (ar 5) (sc 13) 99 q_10.2).2.1)) (ua ar 8 ((p_skip (ar 5) (sc 13) 99 q_10.2).2.2))) := hD
          have b_14 := p_skip_r (len := sc 13) (v := 99) (x := q_10.2) hI (by omega) (by omega)
          obtain ⟨q_13, eq_13⟩ : ∃ zz : PR, zz = p_skip (ar 5) (sc 13) 99 q_10.2 := ⟨_, rfl⟩
          rw [← eq_13] at hP hD b_14 ⊢
          refine n_ifb_eq (tgt := 232) hx hb dX5_commandHere_168 (by decide) (fun c_15 => ?_) (fun c_15 => ?_)
          · refine lv_aload_n hx hb dX5_commandHere_232 rfl (lv_at hl 1 rfl) ?_
            refine lv_bipush (v := iI 115) hx hb dX5_commandHere_233 (by decide) ?_
            refine n_cui (x := b2 ((p_skip (ar 5) (sc 13) 115 q_13.2).1)) (va_runV (As := [iv 115]) (rest := []) ⟨hx, hb, hml, hown, hts⟩ (mt_X5_skips l E o (us sc 20 q_13.2.1) (ua ar 8 q_13.2.2) 115 q_13.2 (by exact hI) (by exact hln) (by show 0 ≤ q_13.2.1 ∧ q_13.2.1 ≤ sc 13; omega) (by omega) _) (cwV 1 hts (lw_V q2456 q2458 qs84 q113 q2459) rfl rfl rfl (by decide +kernel) ⟨Nat.le_of_ble_eq_true rfl, Nat.le_of_ble_eq_true rfl⟩) (UW_V hP hK (hD) (va_recv hK.1 hP (ci := 0) (q0 := 0) rfl rfl)) rfl rfl hl.1 rfl (lv_room (Nat.le_of_ble_eq_true rfl)) dX5_commandHere_235 ⟨Nat.le_of_ble_eq_true rfl, Nat.le_of_ble_eq_true rfl⟩) hD hS hA (fun H locs hP hD hS => ?_)
            have hP : va_P E.1 CL (MW E o (us sc 20 ((p_skip (ar 5) (sc 13) 115 q_13.2).2.1)) (ua ar 8 ((p_skip (ar 5) (sc 13) 115 q_13.2).2.2))) H := hP
            have hD : va_D A (MW E o (us sc 20 ((p_skip (ar 5) (sc 13) 115 q_13.2).2.1)) (ua ar 8 ((p_skip (ar 5) (sc 13) 115 q_13.2).2.2))) := hD
            have b_17 := p_skip_r (len := sc 13) (v := 115) (x := q_13.2) hI (by omega) (by omega)
            obtain ⟨q_16, eq_16⟩ : ∃ zz : PR, zz = p_skip (ar 5) (sc 13) 115 q_13.2 := ⟨_, rfl⟩
            rw [← eq_16] at hP hD b_17 ⊢
            refine n_ifb_eq (tgt := 266) hx hb dX5_commandHere_238 (by decide) (fun c_18 => ?_) (fun c_18 => ?_)
            · refine lv_aload_n hx hb dX5_commandHere_266 rfl (lv_at hl 1 rfl) ?_
              refine lv_bipush (v := iI 98) hx hb dX5_commandHere_267 (by decide) ?_
              refine n_cui (x := b2 ((p_skip (ar 5) (sc 13) 98 q_16.2).1)) (va_runV (As := [iv 98]) (rest := []) ⟨hx, hb, hml, hown, hts⟩ (mt_X5_skips l E o (us sc 20 q_16.2.1) (ua ar 8 q_16.2.2) 98 q_16.2 (by exact hI) (by exact hln) (by show 0 ≤ q_16.2.1 ∧ q_16.2.1 ≤ sc 13; omega) (by omega) _) (cwV 1 hts (lw_V q2456 q2458 qs84 q113 q2459) rfl rfl rfl (by decide +kernel) ⟨Nat.le_of_ble_eq_true rfl, Nat.le_of_ble_eq_true rfl⟩) (UW_V hP hK (hD) (va_recv hK.1 hP (ci := 0) (q0 := 0) rfl rfl)) rfl rfl hl.1 rfl (lv_room (Nat.le_of_ble_eq_true rfl)) dX5_commandHere_269 ⟨Nat.le_of_ble_eq_true rfl, Nat.le_of_ble_eq_true rfl⟩) hD hS hA (fun H locs hP hD hS => ?_)
              have hP : va_P E.1 CL (MW E o (us sc 20 ((p_skip (ar 5) (sc 13) 98 q_16.2).2.1)) (ua ar 8 ((p_skip (ar 5) (sc 13) 98 q_16.2).2.2))) H := hP
              have hD : va_D A (MW E o (us sc 20 ((p_skip (ar 5) (sc 13) 98 q_16.2).2.1)) (ua ar 8 ((p_skip (ar 5) (sc 13) 98 q_16.2).2.2))) := hD
              have b_20 := p_skip_r (len := sc 13) (v := 98) (x := q_16.2) hI (by omega) (by omega)
              obtain ⟨q_19, eq_19⟩ : ∃ zz : PR, zz = p_skip (ar 5) (sc 13) 98 q_16.2 := ⟨_, rfl⟩
              rw [← eq_19] at hP hD b_20 ⊢
              refine n_ifb_eq (tgt := 301) hx hb dX5_commandHere_272 (by decide) (fun c_21 => ?_) (fun c_21 => ?_)
              · refine lv_aload_n hx hb dX5_commandHere_301 rfl (lv_at hl 1 rfl) ?_
                refine lv_bipush (v := iI 111) hx hb dX5_commandHere_302 (by decide) ?_
                refine n_cui (x := b2 ((p_skip (ar 5) (sc 13) 111 q_19.2).1)) (va_runV (As := [iv 111]) (rest := []) ⟨hx, hb, hml, hown, hts⟩ (mt_X5_skips l E o (us sc 20 q_19.2.1) (ua ar 8 q_19.2.2) 111 q_19.2 (by exact hI) (by exact hln) (by show 0 ≤ q_19.2.1 ∧ q_19.2.1 ≤ sc 13; omega) (by omega) _) (cwV 1 hts (lw_V q2456 q2458 qs84 q113 q2459) rfl rfl rfl (by decide +kernel) ⟨Nat.le_of_ble_eq_true rfl, Nat.le_of_ble_eq_true rfl⟩) (UW_V hP hK (hD) (va_recv hK.1 hP (ci := 0) (q0 := 0) rfl rfl)) rfl rfl hl.1 rfl (lv_room (Nat.le_of_ble_eq_true rfl)) dX5_commandHere_304 ⟨Nat.le_of_ble_eq_true rfl, Nat.le_of_ble_eq_true rfl⟩) hD hS hA (fun H locs hP hD hS => ?_)
                have hP : va_P E.1 CL (MW E o (us sc 20 ((p_skip (ar 5) (sc 13) 111 q_19.2).2.1)) (ua ar 8 ((p_skip (ar 5) (sc 13) 111 q_19.2).2.2))) H := hP
                have hD : va_D A (MW E o (us sc 20 ((p_skip (ar 5) (sc 13) 111 q_19.2).2.1)) (ua ar 8 ((p_skip (ar 5) (sc 13) 111 q_19.2).2.2))) := hD
                have b_23 := p_skip_r (len := sc 13) (v := 111) (x := q_19.2) hI (by omega) (by omega)
                obtain ⟨q_22, eq_22⟩ : ∃ zz : PR, zz = p_skip (ar 5) (sc 13) 111 q_19.2 := ⟨_, rfl⟩
                rw [← eq_22] at hP hD b_23 ⊢
                refine n_ifb_eq (tgt := 320) hx hb dX5_commandHere_307 (by decide) (fun c_24 => ?_) (fun c_24 => ?_)
                · refine lv_aload_n hx hb dX5_commandHere_320 rfl (lv_at hl 1 rfl) ?_
                  refine lv_bipush (v := iI 109) hx hb dX5_commandHere_321 (by decide) ?_
                  refine n_cui (x := b2 ((p_skip (ar 5) (sc 13) 109 q_22.2).1)) (va_runV (As := [iv 109]) (rest := []) ⟨hx, hb, hml, hown, hts⟩ (mt_X5_skips l E o (us sc 20 q_22.2.1) (ua ar 8 q_22.2.2) 109 q_22.2 (by exact hI) (by exact hln) (by show 0 ≤ q_22.2.1 ∧ q_22.2.1 ≤ sc 13; omega) (by omega) _) (cwV 1 hts (lw_V q2456 q2458 qs84 q113 q2459) rfl rfl rfl (by decide +kernel) ⟨Nat.le_of_ble_eq_true rfl, Nat.le_of_ble_eq_true rfl⟩) (UW_V hP hK (hD) (va_recv hK.1 hP (ci := 0) (q0 := 0) rfl rfl)) rfl rfl hl.1 rfl (lv_room (Nat.le_of_ble_eq_true rfl)) dX5_commandHere_323 ⟨Nat.le_of_ble_eq_true rfl, Nat.le_of_ble_eq_true rfl⟩) hD hS hA (fun H locs hP hD hS => ?_)
                  have hP : va_P E.1 CL (MW E o (us sc 20 ((p_skip (ar 5) (sc 13) 109 q_22.2).2.1)) (ua ar 8 ((p_skip (ar 5) (sc 13) 109 q_22.2).2.2))) H := hP
                  have hD : va_D A (MW E o (us sc 20 ((p_skip (ar 5) (sc 13) 109 q_22.2).2.1)) (ua ar 8 ((p_skip (ar 5) (sc 13) 109 q_22.2).2.2))) := hD
                  have b_26 := p_skip_r (len := sc 13) (v := 109) (x := q_22.2) hI (by omega) (by omega)
                  obtain ⟨q_25, eq_25⟩ : ∃ zz : PR, zz = p_skip (ar 5) (sc 13) 109 q_22.2 := ⟨_, rfl⟩
                  rw [← eq_25] at hP hD b_26 ⊢
                  refine n_ifb_eq (tgt := 366) hx hb dX5_commandHere_326 (by decide) (fun c_27 => ?_) (fun c_27 => ?_)
                  · refine lv_aload_n hx hb dX5_commandHere_366 rfl (lv_at hl 1 rfl) ?_
                    refine lv_bipush (v := iI 116) hx hb dX5_commandHere_367 (by decide) ?_
                    refine n_cui (x := b2 ((p_skip (ar 5) (sc 13) 116 q_25.2).1)) (va_runV (As := [iv 116]) (rest := []) ⟨hx, hb, hml, hown, hts⟩ (mt_X5_skips l E o (us sc 20 q_25.2.1) (ua ar 8 q_25.2.2) 116 q_25.2 (by exact hI) (by exact hln) (by show 0 ≤ q_25.2.1 ∧ q_25.2.1 ≤ sc 13; omega) (by omega) _) (cwV 1 hts (lw_V q2456 q2458 qs84 q113 q2459) rfl rfl rfl (by decide +kernel) ⟨Nat.le_of_ble_eq_true rfl, Nat.le_of_ble_eq_true rfl⟩) (UW_V hP hK (hD) (va_recv hK.1 hP (ci := 0) (q0 := 0) rfl rfl)) rfl rfl hl.1 rfl (lv_room (Nat.le_of_ble_eq_true rfl)) dX5_commandHere_369 ⟨Nat.le_of_ble_eq_true rfl, Nat.le_of_ble_eq_true rfl⟩) hD hS hA (fun H locs hP hD hS => ?_)
                    have hP : va_P E.1 CL (MW E o (us sc 20 ((p_skip (ar 5) (sc 13) 116 q_25.2).2.1)) (ua ar 8 ((p_skip (ar 5) (sc 13) 116 q_25.2).2.2))) H := hP
                    have hD : va_D A (MW E o (us sc 20 ((p_skip (ar 5) (sc 13) 116 q_25.2).2.1)) (ua ar 8 ((p_skip (ar 5) (sc 13) 116 q_25.2).2.2))) := hD
                    have b_29 := p_skip_r (len := sc 13) (v := 116) (x := q_25.2) hI (by omega) (by omega)
                    obtain ⟨q_28, eq_28⟩ : ∃ zz : PR, zz = p_skip (ar 5) (sc 13) 116 q_25.2 := ⟨_, rfl⟩
                    rw [← eq_28] at hP hD b_29 ⊢
                    refine n_ifb_eq (tgt := 422) hx hb dX5_commandHere_372 (by decide) (fun c_30 => ?_) (fun c_30 => ?_)
                    · refine lv_iconst (v := iI 0) hx hb dX5_commandHere_422 rfl ?_
                      have hfin : 0 = b2 ((p_cmd (ar 5) (sc 13) (sc 22) ps).1) := by
                        simp only [p_cmd, p_if, p_and, ← eq_1, ← eq_4, ← eq_7, ← eq_10, ← eq_13, ← eq_16, ← eq_19, ← eq_22, ← eq_25, ← eq_28, c_3, c_6, c_9, c_12, c_15, c_18, c_21, c_24, c_27, c_30, b2_t, Bool.false_eq_true, if_true, if_false, b2_f]
                      have w_31 : q_28.2.1 = (p_cmd (ar 5) (sc 13) (sc 22) ps).2.1 := by
                        simp only [p_cmd, p_if, p_and, ← eq_1, ← eq_4, ← eq_7, ← eq_10, ← eq_13, ← eq_16, ← eq_19, ← eq_22, ← eq_25, ← eq_28, c_3, c_6, c_9, c_12, c_15, c_18, c_21, c_24, c_27, c_30, b2_t, Bool.false_eq_true, if_true, if_false, b2_f]
                      rw [show (us sc 20 q_28.2.1) = (us sc 20 ((p_cmd (ar 5) (sc 13) (sc 22) ps).2.1)) from congrArg (fun z0 : Int => (us sc 20 z0)) w_31] at hP hD
                      have w_32 : q_28.2.2 = (p_cmd (ar 5) (sc 13) (sc 22) ps).2.2 := by
                        simp only [p_cmd, p_if, p_and, ← eq_1, ← eq_4, ← eq_7, ← eq_10, ← eq_13, ← eq_16, ← eq_19, ← eq_22, ← eq_25, ← eq_28, c_3, c_6, c_9, c_12, c_15, c_18, c_21, c_24, c_27, c_30, b2_t, Bool.false_eq_true, if_true, if_false, b2_f]
                      rw [show (ua ar 8 q_28.2.2) = (ua ar 8 ((p_cmd (ar 5) (sc 13) (sc 22) ps).2.2)) from congrArg (fun z0 : Int → Int => (ua ar 8 z0)) w_32] at hP hD
                      exact W.zret (v := iI 0) hx hb hr (nr_b (by decide)) (fun tt_ ht_ hW_ => ⟨⟨iI 0, (), rfl, (congrArg iI hfin), by rw [ht_]; exact hP, hD⟩, hS.F ht_⟩) hS.2.2 dX5_commandHere_423
                    · refine lv_aload_n hx hb dX5_commandHere_375 rfl (lv_at hl 1 rfl) ?_
                      refine lv_bipush (v := iI 10) hx hb dX5_commandHere_376 (by decide) ?_
                      refine n_ldcW hx hb (own := RX5) (tx := "ouch") (index := 264) (q := EX E (2 * 31)) hown (hK.ks ("ClockworkTailorModel", 264, "ouch", 31) (List.mem_of_getElem? (i := 31) rfl)) dX5_commandHere_378 ?_
                      refine n_cui (x := b2 ((p_word (ar 5) (sc 13) (4 * sc 22) 10 (TX.getD 31 []) q_28.2).1)) (va_runV (As := [iv 10, .ref (EX E (2 * 31))]) (rest := []) ⟨hx, hb, hml, hown, hts⟩ (mt_X5_isWord l E o (us sc 20 q_28.2.1) (ua ar 8 q_28.2.2) 10 31 q_28.2 (by exact hI) (by exact hln) (by show 0 ≤ q_28.2.1 ∧ q_28.2.1 ≤ sc 13; omega) (by omega) (by decide) (by show 0 ≤ sc 22 ∧ sc 22 ≤ 30; omega) _) (cwV 2 hts (lw_V q2465 q2467 qs86 q113 q2468) rfl rfl rfl (by decide +kernel) ⟨Nat.le_of_ble_eq_true rfl, Nat.le_of_ble_eq_true rfl⟩) (UX_V hP hK (hD) hE hS (va_A_in hD hS hA) (va_recv hK.1 hP (ci := 0) (q0 := 0) rfl rfl)) rfl rfl hl.1 rfl (lv_room (Nat.le_of_ble_eq_true rfl)) dX5_commandHere_381 ⟨Nat.le_of_ble_eq_true rfl, Nat.le_of_ble_eq_true rfl⟩) hD hS hA (fun H locs hP hD hS => ?_)
                      have hP : va_P E.1 CL (MW E o (us sc 20 ((p_word (ar 5) (sc 13) (4 * sc 22) 10 (TX.getD 31 []) q_28.2).2.1)) (ua ar 8 ((p_word (ar 5) (sc 13) (4 * sc 22) 10 (TX.getD 31 []) q_28.2).2.2))) H := hP
                      have hD : va_D A (MW E o (us sc 20 ((p_word (ar 5) (sc 13) (4 * sc 22) 10 (TX.getD 31 []) q_28.2).2.1)) (ua ar 8 ((p_word (ar 5) (sc 13) (4 * sc 22) 10 (TX.getD 31 []) q_28.2).2.2))) := hD
                      have b_34 := p_word_r (len := sc 13) (pl := 4 * sc 22) (w := 10) (k := 31) (x := q_28.2) hI (by omega)
                      obtain ⟨q_33, eq_33⟩ : ∃ zz : PR, zz = p_word (ar 5) (sc 13) (4 * sc 22) 10 (TX.getD 31 []) q_28.2 := ⟨_, rfl⟩
                      rw [← eq_33] at hP hD b_34 ⊢
                      refine n_ifb_eq (tgt := 422) hx hb dX5_commandHere_384 (by decide) (fun c_35 => ?_) (fun c_35 => ?_)
                      · refine lv_iconst (v := iI 0) hx hb dX5_commandHere_422 rfl ?_
                        have hfin : 0 = b2 ((p_cmd (ar 5) (sc 13) (sc 22) ps).1) := by
                          simp only [p_cmd, p_if, p_and, ← eq_1, ← eq_4, ← eq_7, ← eq_10, ← eq_13, ← eq_16, ← eq_19, ← eq_22, ← eq_25, ← eq_28, ← eq_33, c_3, c_6, c_9, c_12, c_15, c_18, c_21, c_24, c_27, c_30, c_35, b2_t, Bool.false_eq_true, if_true, if_false, b2_f]
                        have w_36 : q_33.2.1 = (p_cmd (ar 5) (sc 13) (sc 22) ps).2.1 := by
                          simp only [p_cmd, p_if, p_and, ← eq_1, ← eq_4, ← eq_7, ← eq_10, ← eq_13, ← eq_16, ← eq_19, ← eq_22, ← eq_25, ← eq_28, ← eq_33, c_3, c_6, c_9, c_12, c_15, c_18, c_21, c_24, c_27, c_30, c_35, b2_t, Bool.false_eq_true, if_true, if_false, b2_f]
                        rw [show (us sc 20 q_33.2.1) = (us sc 20 ((p_cmd (ar 5) (sc 13) (sc 22) ps).2.1)) from congrArg (fun z0 : Int => (us sc 20 z0)) w_36] at hP hD
                        have w_37 : q_33.2.2 = (p_cmd (ar 5) (sc 13) (sc 22) ps).2.2 := by
                          simp only [p_cmd, p_if, p_and, ← eq_1, ← eq_4, ← eq_7, ← eq_10, ← eq_13, ← eq_16, ← eq_19, ← eq_22, ← eq_25, ← eq_28, ← eq_33, c_3, c_6, c_9, c_12, c_15, c_18, c_21, c_24, c_27, c_30, c_35, b2_t, Bool.false_eq_true, if_true, if_false, b2_f]
                        rw [show (ua ar 8 q_33.2.2) = (ua ar 8 ((p_cmd (ar 5) (sc 13) (sc 22) ps).2.2)) from congrArg (fun z0 : Int → Int => (ua ar 8 z0)) w_37] at hP hD
                        exact W.zret (v := iI 0) hx hb hr (nr_b (by decide)) (fun tt_ ht_ hW_ => ⟨⟨iI 0, (), rfl, (congrArg iI hfin), by rw [ht_]; exact hP, hD⟩, hS.F ht_⟩) hS.2.2 dX5_commandHere_423
                      · refine lv_aload_n hx hb dX5_commandHere_387 rfl (lv_at hl 1 rfl) ?_
                        refine lv_iload_n hx hb dX5_commandHere_388 rfl (lv_at hl 0 rfl) ?_
                        refine lv_iconst (v := iI 2) hx hb dX5_commandHere_389 rfl ?_
                        refine n_cui (x := b2 ((p_fig (ar 5) (sc 13) ((4 * (sc 22)) + 1) 2 q_33.2).1)) (va_runV (As := [iv ((4 * (sc 22)) + 1), iv 2]) (rest := []) ⟨hx, hb, hml, hown, hts⟩ (mt_X5_figures l E o (us sc 20 q_33.2.1) (ua ar 8 q_33.2.2) ((4 * (sc 22)) + 1) 2 q_33.2 (by exact hI) (by exact hln) (by show 0 ≤ q_33.2.1 ∧ q_33.2.1 ≤ sc 13; omega) (by omega) (by omega) _) (cwV 2 hts (lw_V q2479 q2481 qs89 q113 q2482) rfl rfl rfl (by decide +kernel) ⟨Nat.le_of_ble_eq_true rfl, Nat.le_of_ble_eq_true rfl⟩) (UW_V hP hK (hD) (va_recv hK.1 hP (ci := 0) (q0 := 0) rfl rfl)) rfl rfl hl.1 rfl (lv_room (Nat.le_of_ble_eq_true rfl)) dX5_commandHere_390 ⟨Nat.le_of_ble_eq_true rfl, Nat.le_of_ble_eq_true rfl⟩) hD hS hA (fun H locs hP hD hS => ?_)
                        have hP : va_P E.1 CL (MW E o (us sc 20 ((p_fig (ar 5) (sc 13) ((4 * (sc 22)) + 1) 2 q_33.2).2.1)) (ua ar 8 ((p_fig (ar 5) (sc 13) ((4 * (sc 22)) + 1) 2 q_33.2).2.2))) H := hP
                        have hD : va_D A (MW E o (us sc 20 ((p_fig (ar 5) (sc 13) ((4 * (sc 22)) + 1) 2 q_33.2).2.1)) (ua ar 8 ((p_fig (ar 5) (sc 13) ((4 * (sc 22)) + 1) 2 q_33.2).2.2))) := hD
                        have b_39 := p_fig_r (len := sc 13) (pl := ((4 * (sc 22)) + 1)) (dg := 2) (x := q_33.2) hI (by omega)
                        obtain ⟨q_38, eq_38⟩ : ∃ zz : PR, zz = p_fig (ar 5) (sc 13) ((4 * (sc 22)) + 1) 2 q_33.2 := ⟨_, rfl⟩
                        rw [← eq_38] at hP hD b_39 ⊢
                        refine n_ifb_eq (tgt := 422) hx hb dX5_commandHere_393 (by decide) (fun c_40 => ?_) (fun c_40 => ?_)
                        · refine lv_iconst (v := iI 0) hx hb dX5_commandHere_422 rfl ?_
                          have hfin : 0 = b2 ((p_cmd (ar 5) (sc 13) (sc 22) ps).1) := by
                            simp only [p_cmd, p_if, p_and, ← eq_1, ← eq_4, ← eq_7, ← eq_10, ← eq_13, ← eq_16, ← eq_19, ← eq_22, ← eq_25, ← eq_28, ← eq_33, ← eq_38, c_3, c_6, c_9, c_12, c_15, c_18, c_21, c_24, c_27, c_30, c_35, c_40, b2_t, Bool.false_eq_true, if_true, if_false, b2_f]
                          have w_41 : q_38.2.1 = (p_cmd (ar 5) (sc 13) (sc 22) ps).2.1 := by
                            simp only [p_cmd, p_if, p_and, ← eq_1, ← eq_4, ← eq_7, ← eq_10, ← eq_13, ← eq_16, ← eq_19, ← eq_22, ← eq_25, ← eq_28, ← eq_33, ← eq_38, c_3, c_6, c_9, c_12, c_15, c_18, c_21, c_24, c_27, c_30, c_35, c_40, b2_t, Bool.false_eq_true, if_true, if_false, b2_f]
                          rw [show (us sc 20 q_38.2.1) = (us sc 20 ((p_cmd (ar 5) (sc 13) (sc 22) ps).2.1)) from congrArg (fun z0 : Int => (us sc 20 z0)) w_41] at hP hD
                          have w_42 : q_38.2.2 = (p_cmd (ar 5) (sc 13) (sc 22) ps).2.2 := by
                            simp only [p_cmd, p_if, p_and, ← eq_1, ← eq_4, ← eq_7, ← eq_10, ← eq_13, ← eq_16, ← eq_19, ← eq_22, ← eq_25, ← eq_28, ← eq_33, ← eq_38, c_3, c_6, c_9, c_12, c_15, c_18, c_21, c_24, c_27, c_30, c_35, c_40, b2_t, Bool.false_eq_true, if_true, if_false, b2_f]
                          rw [show (ua ar 8 q_38.2.2) = (ua ar 8 ((p_cmd (ar 5) (sc 13) (sc 22) ps).2.2)) from congrArg (fun z0 : Int → Int => (ua ar 8 z0)) w_42] at hP hD
                          exact W.zret (v := iI 0) hx hb hr (nr_b (by decide)) (fun tt_ ht_ hW_ => ⟨⟨iI 0, (), rfl, (congrArg iI hfin), by rw [ht_]; exact hP, hD⟩, hS.F ht_⟩) hS.2.2 dX5_commandHere_423
                        · refine lv_aload_n hx hb dX5_commandHere_396 rfl (lv_at hl 1 rfl) ?_
                          refine lv_iload_n hx hb dX5_commandHere_397 rfl (lv_at hl 0 rfl) ?_
                          refine lv_iconst (v := iI 1) hx hb dX5_commandHere_398 rfl ?_
                          refine n_iadd hx hb dX5_commandHere_399 ?_
                          refine lv_iconst (v := iI 1) hx hb dX5_commandHere_400 rfl ?_
                          refine n_cui (x := b2 ((p_fig (ar 5) (sc 13) (((4 * (sc 22)) + 1) + 1) 1 q_38.2).1)) (va_runV (As := [iv (((4 * (sc 22)) + 1) + 1), iv 1]) (rest := []) ⟨hx, hb, hml, hown, hts⟩ (mt_X5_figures l E o (us sc 20 q_38.2.1) (ua ar 8 q_38.2.2) (((4 * (sc 22)) + 1) + 1) 1 q_38.2 (by exact hI) (by exact hln) (by show 0 ≤ q_38.2.1 ∧ q_38.2.1 ≤ sc 13; omega) (by omega) (by omega) _) (cwV 2 hts (lw_V q2479 q2481 qs89 q113 q2482) rfl rfl rfl (by decide +kernel) ⟨Nat.le_of_ble_eq_true rfl, Nat.le_of_ble_eq_true rfl⟩) (UW_V hP hK (hD) (va_recv hK.1 hP (ci := 0) (q0 := 0) rfl rfl)) rfl rfl hl.1 rfl (lv_room (Nat.le_of_ble_eq_true rfl)) dX5_commandHere_401 ⟨Nat.le_of_ble_eq_true rfl, Nat.le_of_ble_eq_true rfl⟩) hD hS hA (fun H locs hP hD hS => ?_)
                          have hP : va_P E.1 CL (MW E o (us sc 20 ((p_fig (ar 5) (sc 13) (((4 * (sc 22)) + 1) + 1) 1 q_38.2).2.1)) (ua ar 8 ((p_fig (ar 5) (sc 13) (((4 * (sc 22)) + 1) + 1) 1 q_38.2).2.2))) H := hP
                          have hD : va_D A (MW E o (us sc 20 ((p_fig (ar 5) (sc 13) (((4 * (sc 22)) + 1) + 1) 1 q_38.2).2.1)) (ua ar 8 ((p_fig (ar 5) (sc 13) (((4 * (sc 22)) + 1) + 1) 1 q_38.2).2.2))) := hD
                          have b_44 := p_fig_r (len := sc 13) (pl := (((4 * (sc 22)) + 1) + 1)) (dg := 1) (x := q_38.2) hI (by omega)
                          obtain ⟨q_43, eq_43⟩ : ∃ zz : PR, zz = p_fig (ar 5) (sc 13) (((4 * (sc 22)) + 1) + 1) 1 q_38.2 := ⟨_, rfl⟩
                          rw [← eq_43] at hP hD b_44 ⊢
                          refine n_ifb_eq (tgt := 422) hx hb dX5_commandHere_404 (by decide) (fun c_45 => ?_) (fun c_45 => ?_)
                          · refine lv_iconst (v := iI 0) hx hb dX5_commandHere_422 rfl ?_
                            have hfin : 0 = b2 ((p_cmd (ar 5) (sc 13) (sc 22) ps).1) := by
                              simp only [p_cmd, p_if, p_and, ← eq_1, ← eq_4, ← eq_7, ← eq_10, ← eq_13, ← eq_16, ← eq_19, ← eq_22, ← eq_25, ← eq_28, ← eq_33, ← eq_38, ← eq_43, c_3, c_6, c_9, c_12, c_15, c_18, c_21, c_24, c_27, c_30, c_35, c_40, c_45, b2_t, Bool.false_eq_true, if_true, if_false, b2_f]
                            have w_46 : q_43.2.1 = (p_cmd (ar 5) (sc 13) (sc 22) ps).2.1 := by
                              simp only [p_cmd, p_if, p_and, ← eq_1, ← eq_4, ← eq_7, ← eq_10, ← eq_13, ← eq_16, ← eq_19, ← eq_22, ← eq_25, ← eq_28, ← eq_33, ← eq_38, ← eq_43, c_3, c_6, c_9, c_12, c_15, c_18, c_21, c_24, c_27, c_30, c_35, c_40, c_45, b2_t, Bool.false_eq_true, if_true, if_false, b2_f]
                            rw [show (us sc 20 q_43.2.1) = (us sc 20 ((p_cmd (ar 5) (sc 13) (sc 22) ps).2.1)) from congrArg (fun z0 : Int => (us sc 20 z0)) w_46] at hP hD
                            have w_47 : q_43.2.2 = (p_cmd (ar 5) (sc 13) (sc 22) ps).2.2 := by
                              simp only [p_cmd, p_if, p_and, ← eq_1, ← eq_4, ← eq_7, ← eq_10, ← eq_13, ← eq_16, ← eq_19, ← eq_22, ← eq_25, ← eq_28, ← eq_33, ← eq_38, ← eq_43, c_3, c_6, c_9, c_12, c_15, c_18, c_21, c_24, c_27, c_30, c_35, c_40, c_45, b2_t, Bool.false_eq_true, if_true, if_false, b2_f]
                            rw [show (ua ar 8 q_43.2.2) = (ua ar 8 ((p_cmd (ar 5) (sc 13) (sc 22) ps).2.2)) from congrArg (fun z0 : Int → Int => (ua ar 8 z0)) w_47] at hP hD
                            exact W.zret (v := iI 0) hx hb hr (nr_b (by decide)) (fun tt_ ht_ hW_ => ⟨⟨iI 0, (), rfl, (congrArg iI hfin), by rw [ht_]; exact hP, hD⟩, hS.F ht_⟩) hS.2.2 dX5_commandHere_423
                          · refine lv_aload_n hx hb dX5_commandHere_407 rfl (lv_at hl 1 rfl) ?_
                            refine lv_iload_n hx hb dX5_commandHere_408 rfl (lv_at hl 0 rfl) ?_
                            refine lv_iconst (v := iI 2) hx hb dX5_commandHere_409 rfl ?_
                            refine n_iadd hx hb dX5_commandHere_410 ?_
                            refine lv_iconst (v := iI 1) hx hb dX5_commandHere_411 rfl ?_
                            refine n_cui (x := b2 ((p_fig (ar 5) (sc 13) (((4 * (sc 22)) + 1) + 2) 1 q_43.2).1)) (va_runV (As := [iv (((4 * (sc 22)) + 1) + 2), iv 1]) (rest := []) ⟨hx, hb, hml, hown, hts⟩ (mt_X5_figures l E o (us sc 20 q_43.2.1) (ua ar 8 q_43.2.2) (((4 * (sc 22)) + 1) + 2) 1 q_43.2 (by exact hI) (by exact hln) (by show 0 ≤ q_43.2.1 ∧ q_43.2.1 ≤ sc 13; omega) (by omega) (by omega) _) (cwV 2 hts (lw_V q2479 q2481 qs89 q113 q2482) rfl rfl rfl (by decide +kernel) ⟨Nat.le_of_ble_eq_true rfl, Nat.le_of_ble_eq_true rfl⟩) (UW_V hP hK (hD) (va_recv hK.1 hP (ci := 0) (q0 := 0) rfl rfl)) rfl rfl hl.1 rfl (lv_room (Nat.le_of_ble_eq_true rfl)) dX5_commandHere_412 ⟨Nat.le_of_ble_eq_true rfl, Nat.le_of_ble_eq_true rfl⟩) hD hS hA (fun H locs hP hD hS => ?_)
                            have hP : va_P E.1 CL (MW E o (us sc 20 ((p_fig (ar 5) (sc 13) (((4 * (sc 22)) + 1) + 2) 1 q_43.2).2.1)) (ua ar 8 ((p_fig (ar 5) (sc 13) (((4 * (sc 22)) + 1) + 2) 1 q_43.2).2.2))) H := hP
                            have hD : va_D A (MW E o (us sc 20 ((p_fig (ar 5) (sc 13) (((4 * (sc 22)) + 1) + 2) 1 q_43.2).2.1)) (ua ar 8 ((p_fig (ar 5) (sc 13) (((4 * (sc 22)) + 1) + 2) 1 q_43.2).2.2))) := hD
                            have b_49 := p_fig_r (len := sc 13) (pl := (((4 * (sc 22)) + 1) + 2)) (dg := 1) (x := q_43.2) hI (by omega)
                            obtain ⟨q_48, eq_48⟩ : ∃ zz : PR, zz = p_fig (ar 5) (sc 13) (((4 * (sc 22)) + 1) + 2) 1 q_43.2 := ⟨_, rfl⟩
                            rw [← eq_48] at hP hD b_49 ⊢
                            refine n_ifb_eq (tgt := 422) hx hb dX5_commandHere_415 (by decide) (fun c_50 => ?_) (fun c_50 => ?_)
                            · refine lv_iconst (v := iI 0) hx hb dX5_commandHere_422 rfl ?_
                              have hfin : 0 = b2 ((p_cmd (ar 5) (sc 13) (sc 22) ps).1) := by
                                simp only [p_cmd, p_if, p_and, ← eq_1, ← eq_4, ← eq_7, ← eq_10, ← eq_13, ← eq_16, ← eq_19, ← eq_22, ← eq_25, ← eq_28, ← eq_33, ← eq_38, ← eq_43, ← eq_48, c_3, c_6, c_9, c_12, c_15, c_18, c_21, c_24, c_27, c_30, c_35, c_40, c_45, c_50, b2_t, Bool.false_eq_true, if_true, if_false, b2_f]
                              have w_51 : q_48.2.1 = (p_cmd (ar 5) (sc 13) (sc 22) ps).2.1 := by
                                simp only [p_cmd, p_if, p_and, ← eq_1, ← eq_4, ← eq_7, ← eq_10, ← eq_13, ← eq_16, ← eq_19, ← eq_22, ← eq_25, ← eq_28, ← eq_33, ← eq_38, ← eq_43, ← eq_48, c_3, c_6, c_9, c_12, c_15, c_18, c_21, c_24, c_27, c_30, c_35, c_40, c_45, c_50, b2_t, Bool.false_eq_true, if_true, if_false, b2_f]
                              rw [show (us sc 20 q_48.2.1) = (us sc 20 ((p_cmd (ar 5) (sc 13) (sc 22) ps).2.1)) from congrArg (fun z0 : Int => (us sc 20 z0)) w_51] at hP hD
                              have w_52 : q_48.2.2 = (p_cmd (ar 5) (sc 13) (sc 22) ps).2.2 := by
                                simp only [p_cmd, p_if, p_and, ← eq_1, ← eq_4, ← eq_7, ← eq_10, ← eq_13, ← eq_16, ← eq_19, ← eq_22, ← eq_25, ← eq_28, ← eq_33, ← eq_38, ← eq_43, ← eq_48, c_3, c_6, c_9, c_12, c_15, c_18, c_21, c_24, c_27, c_30, c_35, c_40, c_45, c_50, b2_t, Bool.false_eq_true, if_true, if_false, b2_f]
                              rw [show (ua ar 8 q_48.2.2) = (ua ar 8 ((p_cmd (ar 5) (sc 13) (sc 22) ps).2.2)) from congrArg (fun z0 : Int → Int => (ua ar 8 z0)) w_52] at hP hD
                              exact W.zret (v := iI 0) hx hb hr (nr_b (by decide)) (fun tt_ ht_ hW_ => ⟨⟨iI 0, (), rfl, (congrArg iI hfin), by rw [ht_]; exact hP, hD⟩, hS.F ht_⟩) hS.2.2 dX5_commandHere_423
                            · refine lv_iconst (v := iI 1) hx hb dX5_commandHere_418 rfl ?_
                              refine lv_goto (tgt := 423) hx hb dX5_commandHere_419 (by decide) ?_
                              have hfin : 1 = b2 ((p_cmd (ar 5) (sc 13) (sc 22) ps).1) := by
                                simp only [p_cmd, p_if, p_and, ← eq_1, ← eq_4, ← eq_7, ← eq_10, ← eq_13, ← eq_16, ← eq_19, ← eq_22, ← eq_25, ← eq_28, ← eq_33, ← eq_38, ← eq_43, ← eq_48, c_3, c_6, c_9, c_12, c_15, c_18, c_21, c_24, c_27, c_30, c_35, c_40, c_45, c_50, b2_t, Bool.false_eq_true, if_true, if_false, b2_f]
                              have w_53 : q_48.2.1 = (p_cmd (ar 5) (sc 13) (sc 22) ps).2.1 := by
                                simp only [p_cmd, p_if, p_and, ← eq_1, ← eq_4, ← eq_7, ← eq_10, ← eq_13, ← eq_16, ← eq_19, ← eq_22, ← eq_25, ← eq_28, ← eq_33, ← eq_38, ← eq_43, ← eq_48, c_3, c_6, c_9, c_12, c_15, c_18, c_21, c_24, c_27, c_30, c_35, c_40, c_45, c_50, b2_t, Bool.false_eq_true, if_true, if_false, b2_f]
                              rw [show (us sc 20 q_48.2.1) = (us sc 20 ((p_cmd (ar 5) (sc 13) (sc 22) ps).2.1)) from congrArg (fun z0 : Int => (us sc 20 z0)) w_53] at hP hD
                              have w_54 : q_48.2.2 = (p_cmd (ar 5) (sc 13) (sc 22) ps).2.2 := by
                                simp only [p_cmd, p_if, p_and, ← eq_1, ← eq_4, ← eq_7, ← eq_10, ← eq_13, ← eq_16, ← eq_19, ← eq_22, ← eq_25, ← eq_28, ← eq_33, ← eq_38, ← eq_43, ← eq_48, c_3, c_6, c_9, c_12, c_15, c_18, c_21, c_24, c_27, c_30, c_35, c_40, c_45, c_50, b2_t, Bool.false_eq_true, if_true, if_false, b2_f]
                              rw [show (ua ar 8 q_48.2.2) = (ua ar 8 ((p_cmd (ar 5) (sc 13) (sc 22) ps).2.2)) from congrArg (fun z0 : Int → Int => (ua ar 8 z0)) w_54] at hP hD
                              exact W.zret (v := iI 1) hx hb hr (nr_b (by decide)) (fun tt_ ht_ hW_ => ⟨⟨iI 1, (), rfl, (congrArg iI hfin), by rw [ht_]; exact hP, hD⟩, hS.F ht_⟩) hS.2.2 dX5_commandHere_423
                  · refine lv_aload_n hx hb dX5_commandHere_329 rfl (lv_at hl 1 rfl) ?_
                    refine lv_bipush (v := iI 9) hx hb dX5_commandHere_330 (by decide) ?_
                    refine n_ldcW hx hb (own := RX5) (tx := "ake") (index := 262) (q := EX E (2 * 30)) hown (hK.ks ("ClockworkTailorModel", 262, "ake", 30) (List.mem_of_getElem? (i := 30) rfl)) dX5_commandHere_332 ?_
                    refine n_cui (x := b2 ((p_word (ar 5) (sc 13) (4 * sc 22) 9 (TX.getD 30 []) q_25.2).1)) (va_runV (As := [iv 9, .ref (EX E (2 * 30))]) (rest := []) ⟨hx, hb, hml, hown, hts⟩ (mt_X5_isWord l E o (us sc 20 q_25.2.1) (ua ar 8 q_25.2.2) 9 30 q_25.2 (by exact hI) (by exact hln) (by show 0 ≤ q_25.2.1 ∧ q_25.2.1 ≤ sc 13; omega) (by omega) (by decide) (by show 0 ≤ sc 22 ∧ sc 22 ≤ 30; omega) _) (cwV 2 hts (lw_V q2465 q2467 qs86 q113 q2468) rfl rfl rfl (by decide +kernel) ⟨Nat.le_of_ble_eq_true rfl, Nat.le_of_ble_eq_true rfl⟩) (UX_V hP hK (hD) hE hS (va_A_in hD hS hA) (va_recv hK.1 hP (ci := 0) (q0 := 0) rfl rfl)) rfl rfl hl.1 rfl (lv_room (Nat.le_of_ble_eq_true rfl)) dX5_commandHere_335 ⟨Nat.le_of_ble_eq_true rfl, Nat.le_of_ble_eq_true rfl⟩) hD hS hA (fun H locs hP hD hS => ?_)
                    have hP : va_P E.1 CL (MW E o (us sc 20 ((p_word (ar 5) (sc 13) (4 * sc 22) 9 (TX.getD 30 []) q_25.2).2.1)) (ua ar 8 ((p_word (ar 5) (sc 13) (4 * sc 22) 9 (TX.getD 30 []) q_25.2).2.2))) H := hP
                    have hD : va_D A (MW E o (us sc 20 ((p_word (ar 5) (sc 13) (4 * sc 22) 9 (TX.getD 30 []) q_25.2).2.1)) (ua ar 8 ((p_word (ar 5) (sc 13) (4 * sc 22) 9 (TX.getD 30 []) q_25.2).2.2))) := hD
                    have b_56 := p_word_r (len := sc 13) (pl := 4 * sc 22) (w := 9) (k := 30) (x := q_25.2) hI (by omega)
                    obtain ⟨q_55, eq_55⟩ : ∃ zz : PR, zz = p_word (ar 5) (sc 13) (4 * sc 22) 9 (TX.getD 30 []) q_25.2 := ⟨_, rfl⟩
                    rw [← eq_55] at hP hD b_56 ⊢
                    refine n_ifb_eq (tgt := 364) hx hb dX5_commandHere_338 (by decide) (fun c_57 => ?_) (fun c_57 => ?_)
                    · refine lv_iconst (v := iI 0) hx hb dX5_commandHere_364 rfl ?_
                      have hfin : 0 = b2 ((p_cmd (ar 5) (sc 13) (sc 22) ps).1) := by
                        simp only [p_cmd, p_if, p_and, ← eq_1, ← eq_4, ← eq_7, ← eq_10, ← eq_13, ← eq_16, ← eq_19, ← eq_22, ← eq_25, ← eq_55, c_3, c_6, c_9, c_12, c_15, c_18, c_21, c_24, c_27, c_57, b2_t, Bool.false_eq_true, if_true, if_false, b2_f]
                      have w_58 : q_55.2.1 = (p_cmd (ar 5) (sc 13) (sc 22) ps).2.1 := by
                        simp only [p_cmd, p_if, p_and, ← eq_1, ← eq_4, ← eq_7, ← eq_10, ← eq_13, ← eq_16, ← eq_19, ← eq_22, ← eq_25, ← eq_55, c_3, c_6, c_9, c_12, c_15, c_18, c_21, c_24, c_27, c_57, b2_t, Bool.false_eq_true, if_true, if_false, b2_f]
                      rw [show (us sc 20 q_55.2.1) = (us sc 20 ((p_cmd (ar 5) (sc 13) (sc 22) ps).2.1)) from congrArg (fun z0 : Int => (us sc 20 z0)) w_58] at hP hD
                      have w_59 : q_55.2.2 = (p_cmd (ar 5) (sc 13) (sc 22) ps).2.2 := by
                        simp only [p_cmd, p_if, p_and, ← eq_1, ← eq_4, ← eq_7, ← eq_10, ← eq_13, ← eq_16, ← eq_19, ← eq_22, ← eq_25, ← eq_55, c_3, c_6, c_9, c_12, c_15, c_18, c_21, c_24, c_27, c_57, b2_t, Bool.false_eq_true, if_true, if_false, b2_f]
                      rw [show (ua ar 8 q_55.2.2) = (ua ar 8 ((p_cmd (ar 5) (sc 13) (sc 22) ps).2.2)) from congrArg (fun z0 : Int → Int => (ua ar 8 z0)) w_59] at hP hD
                      exact W.zret (v := iI 0) hx hb hr (nr_b (by decide)) (fun tt_ ht_ hW_ => ⟨⟨iI 0, (), rfl, (congrArg iI hfin), by rw [ht_]; exact hP, hD⟩, hS.F ht_⟩) hS.2.2 dX5_commandHere_365
                    · refine lv_aload_n hx hb dX5_commandHere_341 rfl (lv_at hl 1 rfl) ?_
                      refine lv_iload_n hx hb dX5_commandHere_342 rfl (lv_at hl 0 rfl) ?_
                      refine n_cui (x := b2 ((p_one p_tl (ar 5) (sc 13) ((4 * (sc 22)) + 1) q_55.2).1)) (va_runV (As := [iv ((4 * (sc 22)) + 1)]) (rest := []) ⟨hx, hb, hml, hown, hts⟩ (mt_X5_toolHere l E o (us sc 20 q_55.2.1) (ua ar 8 q_55.2.2) ((4 * (sc 22)) + 1) q_55.2 (by exact hI) (by exact hln) (by show 0 ≤ q_55.2.1 ∧ q_55.2.1 ≤ sc 13; omega) (by omega) _) (cwV 1 hts (lw_V q2471 q2473 qs87 q113 q2474) rfl rfl rfl (by decide +kernel) ⟨Nat.le_of_ble_eq_true rfl, Nat.le_of_ble_eq_true rfl⟩) (UW_V hP hK (hD) (va_recv hK.1 hP (ci := 0) (q0 := 0) rfl rfl)) rfl rfl hl.1 rfl (lv_room (Nat.le_of_ble_eq_true rfl)) dX5_commandHere_343 ⟨Nat.le_of_ble_eq_true rfl, Nat.le_of_ble_eq_true rfl⟩) hD hS hA (fun H locs hP hD hS => ?_)
                      have hP : va_P E.1 CL (MW E o (us sc 20 ((p_one p_tl (ar 5) (sc 13) ((4 * (sc 22)) + 1) q_55.2).2.1)) (ua ar 8 ((p_one p_tl (ar 5) (sc 13) ((4 * (sc 22)) + 1) q_55.2).2.2))) H := hP
                      have hD : va_D A (MW E o (us sc 20 ((p_one p_tl (ar 5) (sc 13) ((4 * (sc 22)) + 1) q_55.2).2.1)) (ua ar 8 ((p_one p_tl (ar 5) (sc 13) ((4 * (sc 22)) + 1) q_55.2).2.2))) := hD
                      have b_61 := p_one_r p_tl_0 (len := sc 13) (pl := ((4 * (sc 22)) + 1)) (x := q_55.2) hI (by omega)
                      obtain ⟨q_60, eq_60⟩ : ∃ zz : PR, zz = p_one p_tl (ar 5) (sc 13) ((4 * (sc 22)) + 1) q_55.2 := ⟨_, rfl⟩
                      rw [← eq_60] at hP hD b_61 ⊢
                      refine n_ifb_eq (tgt := 364) hx hb dX5_commandHere_346 (by decide) (fun c_62 => ?_) (fun c_62 => ?_)
                      · refine lv_iconst (v := iI 0) hx hb dX5_commandHere_364 rfl ?_
                        have hfin : 0 = b2 ((p_cmd (ar 5) (sc 13) (sc 22) ps).1) := by
                          simp only [p_cmd, p_if, p_and, ← eq_1, ← eq_4, ← eq_7, ← eq_10, ← eq_13, ← eq_16, ← eq_19, ← eq_22, ← eq_25, ← eq_55, ← eq_60, c_3, c_6, c_9, c_12, c_15, c_18, c_21, c_24, c_27, c_57, c_62, b2_t, Bool.false_eq_true, if_true, if_false, b2_f]
                        have w_63 : q_60.2.1 = (p_cmd (ar 5) (sc 13) (sc 22) ps).2.1 := by
                          simp only [p_cmd, p_if, p_and, ← eq_1, ← eq_4, ← eq_7, ← eq_10, ← eq_13, ← eq_16, ← eq_19, ← eq_22, ← eq_25, ← eq_55, ← eq_60, c_3, c_6, c_9, c_12, c_15, c_18, c_21, c_24, c_27, c_57, c_62, b2_t, Bool.false_eq_true, if_true, if_false, b2_f]
                        rw [show (us sc 20 q_60.2.1) = (us sc 20 ((p_cmd (ar 5) (sc 13) (sc 22) ps).2.1)) from congrArg (fun z0 : Int => (us sc 20 z0)) w_63] at hP hD
                        have w_64 : q_60.2.2 = (p_cmd (ar 5) (sc 13) (sc 22) ps).2.2 := by
                          simp only [p_cmd, p_if, p_and, ← eq_1, ← eq_4, ← eq_7, ← eq_10, ← eq_13, ← eq_16, ← eq_19, ← eq_22, ← eq_25, ← eq_55, ← eq_60, c_3, c_6, c_9, c_12, c_15, c_18, c_21, c_24, c_27, c_57, c_62, b2_t, Bool.false_eq_true, if_true, if_false, b2_f]
                        rw [show (ua ar 8 q_60.2.2) = (ua ar 8 ((p_cmd (ar 5) (sc 13) (sc 22) ps).2.2)) from congrArg (fun z0 : Int → Int => (ua ar 8 z0)) w_64] at hP hD
                        exact W.zret (v := iI 0) hx hb hr (nr_b (by decide)) (fun tt_ ht_ hW_ => ⟨⟨iI 0, (), rfl, (congrArg iI hfin), by rw [ht_]; exact hP, hD⟩, hS.F ht_⟩) hS.2.2 dX5_commandHere_365
                      · refine lv_aload_n hx hb dX5_commandHere_349 rfl (lv_at hl 1 rfl) ?_
                        refine lv_iload_n hx hb dX5_commandHere_350 rfl (lv_at hl 0 rfl) ?_
                        refine lv_iconst (v := iI 1) hx hb dX5_commandHere_351 rfl ?_
                        refine n_iadd hx hb dX5_commandHere_352 ?_
                        refine lv_iconst (v := iI 1) hx hb dX5_commandHere_353 rfl ?_
                        refine n_cui (x := b2 ((p_fig (ar 5) (sc 13) (((4 * (sc 22)) + 1) + 1) 1 q_60.2).1)) (va_runV (As := [iv (((4 * (sc 22)) + 1) + 1), iv 1]) (rest := []) ⟨hx, hb, hml, hown, hts⟩ (mt_X5_figures l E o (us sc 20 q_60.2.1) (ua ar 8 q_60.2.2) (((4 * (sc 22)) + 1) + 1) 1 q_60.2 (by exact hI) (by exact hln) (by show 0 ≤ q_60.2.1 ∧ q_60.2.1 ≤ sc 13; omega) (by omega) (by omega) _) (cwV 2 hts (lw_V q2479 q2481 qs89 q113 q2482) rfl rfl rfl (by decide +kernel) ⟨Nat.le_of_ble_eq_true rfl, Nat.le_of_ble_eq_true rfl⟩) (UW_V hP hK (hD) (va_recv hK.1 hP (ci := 0) (q0 := 0) rfl rfl)) rfl rfl hl.1 rfl (lv_room (Nat.le_of_ble_eq_true rfl)) dX5_commandHere_354 ⟨Nat.le_of_ble_eq_true rfl, Nat.le_of_ble_eq_true rfl⟩) hD hS hA (fun H locs hP hD hS => ?_)
                        have hP : va_P E.1 CL (MW E o (us sc 20 ((p_fig (ar 5) (sc 13) (((4 * (sc 22)) + 1) + 1) 1 q_60.2).2.1)) (ua ar 8 ((p_fig (ar 5) (sc 13) (((4 * (sc 22)) + 1) + 1) 1 q_60.2).2.2))) H := hP
                        have hD : va_D A (MW E o (us sc 20 ((p_fig (ar 5) (sc 13) (((4 * (sc 22)) + 1) + 1) 1 q_60.2).2.1)) (ua ar 8 ((p_fig (ar 5) (sc 13) (((4 * (sc 22)) + 1) + 1) 1 q_60.2).2.2))) := hD
                        have b_66 := p_fig_r (len := sc 13) (pl := (((4 * (sc 22)) + 1) + 1)) (dg := 1) (x := q_60.2) hI (by omega)
                        obtain ⟨q_65, eq_65⟩ : ∃ zz : PR, zz = p_fig (ar 5) (sc 13) (((4 * (sc 22)) + 1) + 1) 1 q_60.2 := ⟨_, rfl⟩
                        rw [← eq_65] at hP hD b_66 ⊢
                        refine n_ifb_eq (tgt := 364) hx hb dX5_commandHere_357 (by decide) (fun c_67 => ?_) (fun c_67 => ?_)
                        · refine lv_iconst (v := iI 0) hx hb dX5_commandHere_364 rfl ?_
                          have hfin : 0 = b2 ((p_cmd (ar 5) (sc 13) (sc 22) ps).1) := by
                            simp only [p_cmd, p_if, p_and, ← eq_1, ← eq_4, ← eq_7, ← eq_10, ← eq_13, ← eq_16, ← eq_19, ← eq_22, ← eq_25, ← eq_55, ← eq_60, ← eq_65, c_3, c_6, c_9, c_12, c_15, c_18, c_21, c_24, c_27, c_57, c_62, c_67, b2_t, Bool.false_eq_true, if_true, if_false, b2_f]
                          have w_68 : q_65.2.1 = (p_cmd (ar 5) (sc 13) (sc 22) ps).2.1 := by
                            simp only [p_cmd, p_if, p_and, ← eq_1, ← eq_4, ← eq_7, ← eq_10, ← eq_13, ← eq_16, ← eq_19, ← eq_22, ← eq_25, ← eq_55, ← eq_60, ← eq_65, c_3, c_6, c_9, c_12, c_15, c_18, c_21, c_24, c_27, c_57, c_62, c_67, b2_t, Bool.false_eq_true, if_true, if_false, b2_f]
                          rw [show (us sc 20 q_65.2.1) = (us sc 20 ((p_cmd (ar 5) (sc 13) (sc 22) ps).2.1)) from congrArg (fun z0 : Int => (us sc 20 z0)) w_68] at hP hD
                          have w_69 : q_65.2.2 = (p_cmd (ar 5) (sc 13) (sc 22) ps).2.2 := by
                            simp only [p_cmd, p_if, p_and, ← eq_1, ← eq_4, ← eq_7, ← eq_10, ← eq_13, ← eq_16, ← eq_19, ← eq_22, ← eq_25, ← eq_55, ← eq_60, ← eq_65, c_3, c_6, c_9, c_12, c_15, c_18, c_21, c_24, c_27, c_57, c_62, c_67, b2_t, Bool.false_eq_true, if_true, if_false, b2_f]
                          rw [show (ua ar 8 q_65.2.2) = (ua ar 8 ((p_cmd (ar 5) (sc 13) (sc 22) ps).2.2)) from congrArg (fun z0 : Int → Int => (ua ar 8 z0)) w_69] at hP hD
                          exact W.zret (v := iI 0) hx hb hr (nr_b (by decide)) (fun tt_ ht_ hW_ => ⟨⟨iI 0, (), rfl, (congrArg iI hfin), by rw [ht_]; exact hP, hD⟩, hS.F ht_⟩) hS.2.2 dX5_commandHere_365
                        · refine lv_iconst (v := iI 1) hx hb dX5_commandHere_360 rfl ?_
                          refine lv_goto (tgt := 365) hx hb dX5_commandHere_361 (by decide) ?_
                          have hfin : 1 = b2 ((p_cmd (ar 5) (sc 13) (sc 22) ps).1) := by
                            simp only [p_cmd, p_if, p_and, ← eq_1, ← eq_4, ← eq_7, ← eq_10, ← eq_13, ← eq_16, ← eq_19, ← eq_22, ← eq_25, ← eq_55, ← eq_60, ← eq_65, c_3, c_6, c_9, c_12, c_15, c_18, c_21, c_24, c_27, c_57, c_62, c_67, b2_t, Bool.false_eq_true, if_true, if_false, b2_f]
                          have w_70 : q_65.2.1 = (p_cmd (ar 5) (sc 13) (sc 22) ps).2.1 := by
                            simp only [p_cmd, p_if, p_and, ← eq_1, ← eq_4, ← eq_7, ← eq_10, ← eq_13, ← eq_16, ← eq_19, ← eq_22, ← eq_25, ← eq_55, ← eq_60, ← eq_65, c_3, c_6, c_9, c_12, c_15, c_18, c_21, c_24, c_27, c_57, c_62, c_67, b2_t, Bool.false_eq_true, if_true, if_false, b2_f]
                          rw [show (us sc 20 q_65.2.1) = (us sc 20 ((p_cmd (ar 5) (sc 13) (sc 22) ps).2.1)) from congrArg (fun z0 : Int => (us sc 20 z0)) w_70] at hP hD
                          have w_71 : q_65.2.2 = (p_cmd (ar 5) (sc 13) (sc 22) ps).2.2 := by
                            simp only [p_cmd, p_if, p_and, ← eq_1, ← eq_4, ← eq_7, ← eq_10, ← eq_13, ← eq_16, ← eq_19, ← eq_22, ← eq_25, ← eq_55, ← eq_60, ← eq_65, c_3, c_6, c_9, c_12, c_15, c_18, c_21, c_24, c_27, c_57, c_62, c_67, b2_t, Bool.false_eq_true, if_true, if_false, b2_f]
                          rw [show (ua ar 8 q_65.2.2) = (ua ar 8 ((p_cmd (ar 5) (sc 13) (sc 22) ps).2.2)) from congrArg (fun z0 : Int → Int => (ua ar 8 z0)) w_71] at hP hD
                          exact W.zret (v := iI 1) hx hb hr (nr_b (by decide)) (fun tt_ ht_ hW_ => ⟨⟨iI 1, (), rfl, (congrArg iI hfin), by rw [ht_]; exact hP, hD⟩, hS.F ht_⟩) hS.2.2 dX5_commandHere_365
                · refine lv_aload_n hx hb dX5_commandHere_310 rfl (lv_at hl 1 rfl) ?_
                  refine lv_bipush (v := iI 7) hx hb dX5_commandHere_311 (by decide) ?_
                  refine n_ldcW hx hb (own := RX5) (tx := "pen") (index := 260) (q := EX E (2 * 29)) hown (hK.ks ("ClockworkTailorModel", 260, "pen", 29) (List.mem_of_getElem? (i := 29) rfl)) dX5_commandHere_313 ?_
                  refine n_cui (x := b2 ((p_word (ar 5) (sc 13) (4 * sc 22) 7 (TX.getD 29 []) q_22.2).1)) (va_runV (As := [iv 7, .ref (EX E (2 * 29))]) (rest := []) ⟨hx, hb, hml, hown, hts⟩ (mt_X5_isWord l E o (us sc 20 q_22.2.1) (ua ar 8 q_22.2.2) 7 29 q_22.2 (by exact hI) (by exact hln) (by show 0 ≤ q_22.2.1 ∧ q_22.2.1 ≤ sc 13; omega) (by omega) (by decide) (by show 0 ≤ sc 22 ∧ sc 22 ≤ 30; omega) _) (cwV 2 hts (lw_V q2465 q2467 qs86 q113 q2468) rfl rfl rfl (by decide +kernel) ⟨Nat.le_of_ble_eq_true rfl, Nat.le_of_ble_eq_true rfl⟩) (UX_V hP hK (hD) hE hS (va_A_in hD hS hA) (va_recv hK.1 hP (ci := 0) (q0 := 0) rfl rfl)) rfl rfl hl.1 rfl (lv_room (Nat.le_of_ble_eq_true rfl)) dX5_commandHere_316 ⟨Nat.le_of_ble_eq_true rfl, Nat.le_of_ble_eq_true rfl⟩) hD hS hA (fun H locs hP hD hS => ?_)
                  have hP : va_P E.1 CL (MW E o (us sc 20 ((p_word (ar 5) (sc 13) (4 * sc 22) 7 (TX.getD 29 []) q_22.2).2.1)) (ua ar 8 ((p_word (ar 5) (sc 13) (4 * sc 22) 7 (TX.getD 29 []) q_22.2).2.2))) H := hP
                  have hD : va_D A (MW E o (us sc 20 ((p_word (ar 5) (sc 13) (4 * sc 22) 7 (TX.getD 29 []) q_22.2).2.1)) (ua ar 8 ((p_word (ar 5) (sc 13) (4 * sc 22) 7 (TX.getD 29 []) q_22.2).2.2))) := hD
                  have b_73 := p_word_r (len := sc 13) (pl := 4 * sc 22) (w := 7) (k := 29) (x := q_22.2) hI (by omega)
                  obtain ⟨q_72, eq_72⟩ : ∃ zz : PR, zz = p_word (ar 5) (sc 13) (4 * sc 22) 7 (TX.getD 29 []) q_22.2 := ⟨_, rfl⟩
                  rw [← eq_72] at hP hD b_73 ⊢
                  have hfin : b2 q_72.1 = b2 ((p_cmd (ar 5) (sc 13) (sc 22) ps).1) := by
                    simp only [p_cmd, p_if, p_and, ← eq_1, ← eq_4, ← eq_7, ← eq_10, ← eq_13, ← eq_16, ← eq_19, ← eq_22, ← eq_72, c_3, c_6, c_9, c_12, c_15, c_18, c_21, c_24, b2_t, Bool.false_eq_true, if_true, if_false, b2_f]
                  have w_74 : q_72.2.1 = (p_cmd (ar 5) (sc 13) (sc 22) ps).2.1 := by
                    simp only [p_cmd, p_if, p_and, ← eq_1, ← eq_4, ← eq_7, ← eq_10, ← eq_13, ← eq_16, ← eq_19, ← eq_22, ← eq_72, c_3, c_6, c_9, c_12, c_15, c_18, c_21, c_24, b2_t, Bool.false_eq_true, if_true, if_false, b2_f]
                  rw [show (us sc 20 q_72.2.1) = (us sc 20 ((p_cmd (ar 5) (sc 13) (sc 22) ps).2.1)) from congrArg (fun z0 : Int => (us sc 20 z0)) w_74] at hP hD
                  have w_75 : q_72.2.2 = (p_cmd (ar 5) (sc 13) (sc 22) ps).2.2 := by
                    simp only [p_cmd, p_if, p_and, ← eq_1, ← eq_4, ← eq_7, ← eq_10, ← eq_13, ← eq_16, ← eq_19, ← eq_22, ← eq_72, c_3, c_6, c_9, c_12, c_15, c_18, c_21, c_24, b2_t, Bool.false_eq_true, if_true, if_false, b2_f]
                  rw [show (ua ar 8 q_72.2.2) = (ua ar 8 ((p_cmd (ar 5) (sc 13) (sc 22) ps).2.2)) from congrArg (fun z0 : Int → Int => (ua ar 8 z0)) w_75] at hP hD
                  exact W.zret (v := iI (b2 q_72.1)) hx hb hr (nr_b (b2_r _)) (fun tt_ ht_ hW_ => ⟨⟨iI (b2 q_72.1), (), rfl, (congrArg iI hfin), by rw [ht_]; exact hP, hD⟩, hS.F ht_⟩) hS.2.2 dX5_commandHere_319
              · refine lv_aload_n hx hb dX5_commandHere_275 rfl (lv_at hl 1 rfl) ?_
                refine lv_bipush (v := iI 6) hx hb dX5_commandHere_276 (by decide) ?_
                refine n_ldcW hx hb (own := RX5) (tx := "ack") (index := 258) (q := EX E (2 * 28)) hown (hK.ks ("ClockworkTailorModel", 258, "ack", 28) (List.mem_of_getElem? (i := 28) rfl)) dX5_commandHere_278 ?_
                refine n_cui (x := b2 ((p_word (ar 5) (sc 13) (4 * sc 22) 6 (TX.getD 28 []) q_19.2).1)) (va_runV (As := [iv 6, .ref (EX E (2 * 28))]) (rest := []) ⟨hx, hb, hml, hown, hts⟩ (mt_X5_isWord l E o (us sc 20 q_19.2.1) (ua ar 8 q_19.2.2) 6 28 q_19.2 (by exact hI) (by exact hln) (by show 0 ≤ q_19.2.1 ∧ q_19.2.1 ≤ sc 13; omega) (by omega) (by decide) (by show 0 ≤ sc 22 ∧ sc 22 ≤ 30; omega) _) (cwV 2 hts (lw_V q2465 q2467 qs86 q113 q2468) rfl rfl rfl (by decide +kernel) ⟨Nat.le_of_ble_eq_true rfl, Nat.le_of_ble_eq_true rfl⟩) (UX_V hP hK (hD) hE hS (va_A_in hD hS hA) (va_recv hK.1 hP (ci := 0) (q0 := 0) rfl rfl)) rfl rfl hl.1 rfl (lv_room (Nat.le_of_ble_eq_true rfl)) dX5_commandHere_281 ⟨Nat.le_of_ble_eq_true rfl, Nat.le_of_ble_eq_true rfl⟩) hD hS hA (fun H locs hP hD hS => ?_)
                have hP : va_P E.1 CL (MW E o (us sc 20 ((p_word (ar 5) (sc 13) (4 * sc 22) 6 (TX.getD 28 []) q_19.2).2.1)) (ua ar 8 ((p_word (ar 5) (sc 13) (4 * sc 22) 6 (TX.getD 28 []) q_19.2).2.2))) H := hP
                have hD : va_D A (MW E o (us sc 20 ((p_word (ar 5) (sc 13) (4 * sc 22) 6 (TX.getD 28 []) q_19.2).2.1)) (ua ar 8 ((p_word (ar 5) (sc 13) (4 * sc 22) 6 (TX.getD 28 []) q_19.2).2.2))) := hD
                have b_77 := p_word_r (len := sc 13) (pl := 4 * sc 22) (w := 6) (k := 28) (x := q_19.2) hI (by omega)
                obtain ⟨q_76, eq_76⟩ : ∃ zz : PR, zz = p_word (ar 5) (sc 13) (4 * sc 22) 6 (TX.getD 28 []) q_19.2 := ⟨_, rfl⟩
                rw [← eq_76] at hP hD b_77 ⊢
                refine n_ifb_eq (tgt := 299) hx hb dX5_commandHere_284 (by decide) (fun c_78 => ?_) (fun c_78 => ?_)
                · refine lv_iconst (v := iI 0) hx hb dX5_commandHere_299 rfl ?_
                  have hfin : 0 = b2 ((p_cmd (ar 5) (sc 13) (sc 22) ps).1) := by
                    simp only [p_cmd, p_if, p_and, ← eq_1, ← eq_4, ← eq_7, ← eq_10, ← eq_13, ← eq_16, ← eq_19, ← eq_76, c_3, c_6, c_9, c_12, c_15, c_18, c_21, c_78, b2_t, Bool.false_eq_true, if_true, if_false, b2_f]
                  have w_79 : q_76.2.1 = (p_cmd (ar 5) (sc 13) (sc 22) ps).2.1 := by
                    simp only [p_cmd, p_if, p_and, ← eq_1, ← eq_4, ← eq_7, ← eq_10, ← eq_13, ← eq_16, ← eq_19, ← eq_76, c_3, c_6, c_9, c_12, c_15, c_18, c_21, c_78, b2_t, Bool.false_eq_true, if_true, if_false, b2_f]
                  rw [show (us sc 20 q_76.2.1) = (us sc 20 ((p_cmd (ar 5) (sc 13) (sc 22) ps).2.1)) from congrArg (fun z0 : Int => (us sc 20 z0)) w_79] at hP hD
                  have w_80 : q_76.2.2 = (p_cmd (ar 5) (sc 13) (sc 22) ps).2.2 := by
                    simp only [p_cmd, p_if, p_and, ← eq_1, ← eq_4, ← eq_7, ← eq_10, ← eq_13, ← eq_16, ← eq_19, ← eq_76, c_3, c_6, c_9, c_12, c_15, c_18, c_21, c_78, b2_t, Bool.false_eq_true, if_true, if_false, b2_f]
                  rw [show (ua ar 8 q_76.2.2) = (ua ar 8 ((p_cmd (ar 5) (sc 13) (sc 22) ps).2.2)) from congrArg (fun z0 : Int → Int => (ua ar 8 z0)) w_80] at hP hD
                  exact W.zret (v := iI 0) hx hb hr (nr_b (by decide)) (fun tt_ ht_ hW_ => ⟨⟨iI 0, (), rfl, (congrArg iI hfin), by rw [ht_]; exact hP, hD⟩, hS.F ht_⟩) hS.2.2 dX5_commandHere_300
                · refine lv_aload_n hx hb dX5_commandHere_287 rfl (lv_at hl 1 rfl) ?_
                  refine lv_iload_n hx hb dX5_commandHere_288 rfl (lv_at hl 0 rfl) ?_
                  refine n_cui (x := b2 ((p_one p_tl (ar 5) (sc 13) ((4 * (sc 22)) + 1) q_76.2).1)) (va_runV (As := [iv ((4 * (sc 22)) + 1)]) (rest := []) ⟨hx, hb, hml, hown, hts⟩ (mt_X5_toolHere l E o (us sc 20 q_76.2.1) (ua ar 8 q_76.2.2) ((4 * (sc 22)) + 1) q_76.2 (by exact hI) (by exact hln) (by show 0 ≤ q_76.2.1 ∧ q_76.2.1 ≤ sc 13; omega) (by omega) _) (cwV 1 hts (lw_V q2471 q2473 qs87 q113 q2474) rfl rfl rfl (by decide +kernel) ⟨Nat.le_of_ble_eq_true rfl, Nat.le_of_ble_eq_true rfl⟩) (UW_V hP hK (hD) (va_recv hK.1 hP (ci := 0) (q0 := 0) rfl rfl)) rfl rfl hl.1 rfl (lv_room (Nat.le_of_ble_eq_true rfl)) dX5_commandHere_289 ⟨Nat.le_of_ble_eq_true rfl, Nat.le_of_ble_eq_true rfl⟩) hD hS hA (fun H locs hP hD hS => ?_)
                  have hP : va_P E.1 CL (MW E o (us sc 20 ((p_one p_tl (ar 5) (sc 13) ((4 * (sc 22)) + 1) q_76.2).2.1)) (ua ar 8 ((p_one p_tl (ar 5) (sc 13) ((4 * (sc 22)) + 1) q_76.2).2.2))) H := hP
                  have hD : va_D A (MW E o (us sc 20 ((p_one p_tl (ar 5) (sc 13) ((4 * (sc 22)) + 1) q_76.2).2.1)) (ua ar 8 ((p_one p_tl (ar 5) (sc 13) ((4 * (sc 22)) + 1) q_76.2).2.2))) := hD
                  have b_82 := p_one_r p_tl_0 (len := sc 13) (pl := ((4 * (sc 22)) + 1)) (x := q_76.2) hI (by omega)
                  obtain ⟨q_81, eq_81⟩ : ∃ zz : PR, zz = p_one p_tl (ar 5) (sc 13) ((4 * (sc 22)) + 1) q_76.2 := ⟨_, rfl⟩
                  rw [← eq_81] at hP hD b_82 ⊢
                  refine n_ifb_eq (tgt := 299) hx hb dX5_commandHere_292 (by decide) (fun c_83 => ?_) (fun c_83 => ?_)
                  · refine lv_iconst (v := iI 0) hx hb dX5_commandHere_299 rfl ?_
                    have hfin : 0 = b2 ((p_cmd (ar 5) (sc 13) (sc 22) ps).1) := by
                      simp only [p_cmd, p_if, p_and, ← eq_1, ← eq_4, ← eq_7, ← eq_10, ← eq_13, ← eq_16, ← eq_19, ← eq_76, ← eq_81, c_3, c_6, c_9, c_12, c_15, c_18, c_21, c_78, c_83, b2_t, Bool.false_eq_true, if_true, if_false, b2_f]
                    have w_84 : q_81.2.1 = (p_cmd (ar 5) (sc 13) (sc 22) ps).2.1 := by
                      simp only [p_cmd, p_if, p_and, ← eq_1, ← eq_4, ← eq_7, ← eq_10, ← eq_13, ← eq_16, ← eq_19, ← eq_76, ← eq_81, c_3, c_6, c_9, c_12, c_15, c_18, c_21, c_78, c_83, b2_t, Bool.false_eq_true, if_true, if_false, b2_f]
                    rw [show (us sc 20 q_81.2.1) = (us sc 20 ((p_cmd (ar 5) (sc 13) (sc 22) ps).2.1)) from congrArg (fun z0 : Int => (us sc 20 z0)) w_84] at hP hD
                    have w_85 : q_81.2.2 = (p_cmd (ar 5) (sc 13) (sc 22) ps).2.2 := by
                      simp only [p_cmd, p_if, p_and, ← eq_1, ← eq_4, ← eq_7, ← eq_10, ← eq_13, ← eq_16, ← eq_19, ← eq_76, ← eq_81, c_3, c_6, c_9, c_12, c_15, c_18, c_21, c_78, c_83, b2_t, Bool.false_eq_true, if_true, if_false, b2_f]
                    rw [show (ua ar 8 q_81.2.2) = (ua ar 8 ((p_cmd (ar 5) (sc 13) (sc 22) ps).2.2)) from congrArg (fun z0 : Int → Int => (ua ar 8 z0)) w_85] at hP hD
                    exact W.zret (v := iI 0) hx hb hr (nr_b (by decide)) (fun tt_ ht_ hW_ => ⟨⟨iI 0, (), rfl, (congrArg iI hfin), by rw [ht_]; exact hP, hD⟩, hS.F ht_⟩) hS.2.2 dX5_commandHere_300
                  · refine lv_iconst (v := iI 1) hx hb dX5_commandHere_295 rfl ?_
                    refine lv_goto (tgt := 300) hx hb dX5_commandHere_296 (by decide) ?_
                    have hfin : 1 = b2 ((p_cmd (ar 5) (sc 13) (sc 22) ps).1) := by
                      simp only [p_cmd, p_if, p_and, ← eq_1, ← eq_4, ← eq_7, ← eq_10, ← eq_13, ← eq_16, ← eq_19, ← eq_76, ← eq_81, c_3, c_6, c_9, c_12, c_15, c_18, c_21, c_78, c_83, b2_t, Bool.false_eq_true, if_true, if_false, b2_f]
                    have w_86 : q_81.2.1 = (p_cmd (ar 5) (sc 13) (sc 22) ps).2.1 := by
                      simp only [p_cmd, p_if, p_and, ← eq_1, ← eq_4, ← eq_7, ← eq_10, ← eq_13, ← eq_16, ← eq_19, ← eq_76, ← eq_81, c_3, c_6, c_9, c_12, c_15, c_18, c_21, c_78, c_83, b2_t, Bool.false_eq_true, if_true, if_false, b2_f]
                    rw [show (us sc 20 q_81.2.1) = (us sc 20 ((p_cmd (ar 5) (sc 13) (sc 22) ps).2.1)) from congrArg (fun z0 : Int => (us sc 20 z0)) w_86] at hP hD
                    have w_87 : q_81.2.2 = (p_cmd (ar 5) (sc 13) (sc 22) ps).2.2 := by
                      simp only [p_cmd, p_if, p_and, ← eq_1, ← eq_4, ← eq_7, ← eq_10, ← eq_13, ← eq_16, ← eq_19, ← eq_76, ← eq_81, c_3, c_6, c_9, c_12, c_15, c_18, c_21, c_78, c_83, b2_t, Bool.false_eq_true, if_true, if_false, b2_f]
                    rw [show (ua ar 8 q_81.2.2) = (ua ar 8 ((p_cmd (ar 5) (sc 13) (sc 22) ps).2.2)) from congrArg (fun z0 : Int → Int => (ua ar 8 z0)) w_87] at hP hD
                    exact W.zret (v := iI 1) hx hb hr (nr_b (by decide)) (fun tt_ ht_ hW_ => ⟨⟨iI 1, (), rfl, (congrArg iI hfin), by rw [ht_]; exact hP, hD⟩, hS.F ht_⟩) hS.2.2 dX5_commandHere_300
            · refine lv_aload_n hx hb dX5_commandHere_241 rfl (lv_at hl 1 rfl) ?_
              refine lv_iconst (v := iI 5) hx hb dX5_commandHere_242 rfl ?_
              refine n_ldcW hx hb (own := RX5) (tx := "wap") (index := 256) (q := EX E (2 * 27)) hown (hK.ks ("ClockworkTailorModel", 256, "wap", 27) (List.mem_of_getElem? (i := 27) rfl)) dX5_commandHere_243 ?_
              refine n_cui (x := b2 ((p_word (ar 5) (sc 13) (4 * sc 22) 5 (TX.getD 27 []) q_16.2).1)) (va_runV (As := [iv 5, .ref (EX E (2 * 27))]) (rest := []) ⟨hx, hb, hml, hown, hts⟩ (mt_X5_isWord l E o (us sc 20 q_16.2.1) (ua ar 8 q_16.2.2) 5 27 q_16.2 (by exact hI) (by exact hln) (by show 0 ≤ q_16.2.1 ∧ q_16.2.1 ≤ sc 13; omega) (by omega) (by decide) (by show 0 ≤ sc 22 ∧ sc 22 ≤ 30; omega) _) (cwV 2 hts (lw_V q2465 q2467 qs86 q113 q2468) rfl rfl rfl (by decide +kernel) ⟨Nat.le_of_ble_eq_true rfl, Nat.le_of_ble_eq_true rfl⟩) (UX_V hP hK (hD) hE hS (va_A_in hD hS hA) (va_recv hK.1 hP (ci := 0) (q0 := 0) rfl rfl)) rfl rfl hl.1 rfl (lv_room (Nat.le_of_ble_eq_true rfl)) dX5_commandHere_246 ⟨Nat.le_of_ble_eq_true rfl, Nat.le_of_ble_eq_true rfl⟩) hD hS hA (fun H locs hP hD hS => ?_)
              have hP : va_P E.1 CL (MW E o (us sc 20 ((p_word (ar 5) (sc 13) (4 * sc 22) 5 (TX.getD 27 []) q_16.2).2.1)) (ua ar 8 ((p_word (ar 5) (sc 13) (4 * sc 22) 5 (TX.getD 27 []) q_16.2).2.2))) H := hP
              have hD : va_D A (MW E o (us sc 20 ((p_word (ar 5) (sc 13) (4 * sc 22) 5 (TX.getD 27 []) q_16.2).2.1)) (ua ar 8 ((p_word (ar 5) (sc 13) (4 * sc 22) 5 (TX.getD 27 []) q_16.2).2.2))) := hD
              have b_89 := p_word_r (len := sc 13) (pl := 4 * sc 22) (w := 5) (k := 27) (x := q_16.2) hI (by omega)
              obtain ⟨q_88, eq_88⟩ : ∃ zz : PR, zz = p_word (ar 5) (sc 13) (4 * sc 22) 5 (TX.getD 27 []) q_16.2 := ⟨_, rfl⟩
              rw [← eq_88] at hP hD b_89 ⊢
              refine n_ifb_eq (tgt := 264) hx hb dX5_commandHere_249 (by decide) (fun c_90 => ?_) (fun c_90 => ?_)
              · refine lv_iconst (v := iI 0) hx hb dX5_commandHere_264 rfl ?_
                have hfin : 0 = b2 ((p_cmd (ar 5) (sc 13) (sc 22) ps).1) := by
                  simp only [p_cmd, p_if, p_and, ← eq_1, ← eq_4, ← eq_7, ← eq_10, ← eq_13, ← eq_16, ← eq_88, c_3, c_6, c_9, c_12, c_15, c_18, c_90, b2_t, Bool.false_eq_true, if_true, if_false, b2_f]
                have w_91 : q_88.2.1 = (p_cmd (ar 5) (sc 13) (sc 22) ps).2.1 := by
                  simp only [p_cmd, p_if, p_and, ← eq_1, ← eq_4, ← eq_7, ← eq_10, ← eq_13, ← eq_16, ← eq_88, c_3, c_6, c_9, c_12, c_15, c_18, c_90, b2_t, Bool.false_eq_true, if_true, if_false, b2_f]
                rw [show (us sc 20 q_88.2.1) = (us sc 20 ((p_cmd (ar 5) (sc 13) (sc 22) ps).2.1)) from congrArg (fun z0 : Int => (us sc 20 z0)) w_91] at hP hD
                have w_92 : q_88.2.2 = (p_cmd (ar 5) (sc 13) (sc 22) ps).2.2 := by
                  simp only [p_cmd, p_if, p_and, ← eq_1, ← eq_4, ← eq_7, ← eq_10, ← eq_13, ← eq_16, ← eq_88, c_3, c_6, c_9, c_12, c_15, c_18, c_90, b2_t, Bool.false_eq_true, if_true, if_false, b2_f]
                rw [show (ua ar 8 q_88.2.2) = (ua ar 8 ((p_cmd (ar 5) (sc 13) (sc 22) ps).2.2)) from congrArg (fun z0 : Int → Int => (ua ar 8 z0)) w_92] at hP hD
                exact W.zret (v := iI 0) hx hb hr (nr_b (by decide)) (fun tt_ ht_ hW_ => ⟨⟨iI 0, (), rfl, (congrArg iI hfin), by rw [ht_]; exact hP, hD⟩, hS.F ht_⟩) hS.2.2 dX5_commandHere_265
              · refine lv_aload_n hx hb dX5_commandHere_252 rfl (lv_at hl 1 rfl) ?_
                refine lv_iload_n hx hb dX5_commandHere_253 rfl (lv_at hl 0 rfl) ?_
                refine n_cui (x := b2 ((p_tools (ar 5) (sc 13) ((4 * (sc 22)) + 1) q_88.2).1)) (va_runV (As := [iv ((4 * (sc 22)) + 1)]) (rest := []) ⟨hx, hb, hml, hown, hts⟩ (mt_X5_toolsHere l E o (us sc 20 q_88.2.1) (ua ar 8 q_88.2.2) ((4 * (sc 22)) + 1) q_88.2 (by exact hI) (by exact hln) (by show 0 ≤ q_88.2.1 ∧ q_88.2.1 ≤ sc 13; omega) (by omega) _) (cwV 1 hts (lw_V q2485 q2487 qs90 q113 q2488) rfl rfl rfl (by decide +kernel) ⟨Nat.le_of_ble_eq_true rfl, Nat.le_of_ble_eq_true rfl⟩) (UW_V hP hK (hD) (va_recv hK.1 hP (ci := 0) (q0 := 0) rfl rfl)) rfl rfl hl.1 rfl (lv_room (Nat.le_of_ble_eq_true rfl)) dX5_commandHere_254 ⟨Nat.le_of_ble_eq_true rfl, Nat.le_of_ble_eq_true rfl⟩) hD hS hA (fun H locs hP hD hS => ?_)
                have hP : va_P E.1 CL (MW E o (us sc 20 ((p_tools (ar 5) (sc 13) ((4 * (sc 22)) + 1) q_88.2).2.1)) (ua ar 8 ((p_tools (ar 5) (sc 13) ((4 * (sc 22)) + 1) q_88.2).2.2))) H := hP
                have hD : va_D A (MW E o (us sc 20 ((p_tools (ar 5) (sc 13) ((4 * (sc 22)) + 1) q_88.2).2.1)) (ua ar 8 ((p_tools (ar 5) (sc 13) ((4 * (sc 22)) + 1) q_88.2).2.2))) := hD
                have b_94 := p_tools_r (len := sc 13) (pl := ((4 * (sc 22)) + 1)) (x := q_88.2) hI (by omega)
                obtain ⟨q_93, eq_93⟩ : ∃ zz : PR, zz = p_tools (ar 5) (sc 13) ((4 * (sc 22)) + 1) q_88.2 := ⟨_, rfl⟩
                rw [← eq_93] at hP hD b_94 ⊢
                refine n_ifb_eq (tgt := 264) hx hb dX5_commandHere_257 (by decide) (fun c_95 => ?_) (fun c_95 => ?_)
                · refine lv_iconst (v := iI 0) hx hb dX5_commandHere_264 rfl ?_
                  have hfin : 0 = b2 ((p_cmd (ar 5) (sc 13) (sc 22) ps).1) := by
                    simp only [p_cmd, p_if, p_and, ← eq_1, ← eq_4, ← eq_7, ← eq_10, ← eq_13, ← eq_16, ← eq_88, ← eq_93, c_3, c_6, c_9, c_12, c_15, c_18, c_90, c_95, b2_t, Bool.false_eq_true, if_true, if_false, b2_f]
                  have w_96 : q_93.2.1 = (p_cmd (ar 5) (sc 13) (sc 22) ps).2.1 := by
                    simp only [p_cmd, p_if, p_and, ← eq_1, ← eq_4, ← eq_7, ← eq_10, ← eq_13, ← eq_16, ← eq_88, ← eq_93, c_3, c_6, c_9, c_12, c_15, c_18, c_90, c_95, b2_t, Bool.false_eq_true, if_true, if_false, b2_f]
                  rw [show (us sc 20 q_93.2.1) = (us sc 20 ((p_cmd (ar 5) (sc 13) (sc 22) ps).2.1)) from congrArg (fun z0 : Int => (us sc 20 z0)) w_96] at hP hD
                  have w_97 : q_93.2.2 = (p_cmd (ar 5) (sc 13) (sc 22) ps).2.2 := by
                    simp only [p_cmd, p_if, p_and, ← eq_1, ← eq_4, ← eq_7, ← eq_10, ← eq_13, ← eq_16, ← eq_88, ← eq_93, c_3, c_6, c_9, c_12, c_15, c_18, c_90, c_95, b2_t, Bool.false_eq_true, if_true, if_false, b2_f]
                  rw [show (ua ar 8 q_93.2.2) = (ua ar 8 ((p_cmd (ar 5) (sc 13) (sc 22) ps).2.2)) from congrArg (fun z0 : Int → Int => (ua ar 8 z0)) w_97] at hP hD
                  exact W.zret (v := iI 0) hx hb hr (nr_b (by decide)) (fun tt_ ht_ hW_ => ⟨⟨iI 0, (), rfl, (congrArg iI hfin), by rw [ht_]; exact hP, hD⟩, hS.F ht_⟩) hS.2.2 dX5_commandHere_265
                · refine lv_iconst (v := iI 1) hx hb dX5_commandHere_260 rfl ?_
                  refine lv_goto (tgt := 265) hx hb dX5_commandHere_261 (by decide) ?_
                  have hfin : 1 = b2 ((p_cmd (ar 5) (sc 13) (sc 22) ps).1) := by
                    simp only [p_cmd, p_if, p_and, ← eq_1, ← eq_4, ← eq_7, ← eq_10, ← eq_13, ← eq_16, ← eq_88, ← eq_93, c_3, c_6, c_9, c_12, c_15, c_18, c_90, c_95, b2_t, Bool.false_eq_true, if_true, if_false, b2_f]
                  have w_98 : q_93.2.1 = (p_cmd (ar 5) (sc 13) (sc 22) ps).2.1 := by
                    simp only [p_cmd, p_if, p_and, ← eq_1, ← eq_4, ← eq_7, ← eq_10, ← eq_13, ← eq_16, ← eq_88, ← eq_93, c_3, c_6, c_9, c_12, c_15, c_18, c_90, c_95, b2_t, Bool.false_eq_true, if_true, if_false, b2_f]
                  rw [show (us sc 20 q_93.2.1) = (us sc 20 ((p_cmd (ar 5) (sc 13) (sc 22) ps).2.1)) from congrArg (fun z0 : Int => (us sc 20 z0)) w_98] at hP hD
                  have w_99 : q_93.2.2 = (p_cmd (ar 5) (sc 13) (sc 22) ps).2.2 := by
                    simp only [p_cmd, p_if, p_and, ← eq_1, ← eq_4, ← eq_7, ← eq_10, ← eq_13, ← eq_16, ← eq_88, ← eq_93, c_3, c_6, c_9, c_12, c_15, c_18, c_90, c_95, b2_t, Bool.false_eq_true, if_true, if_false, b2_f]
                  rw [show (ua ar 8 q_93.2.2) = (ua ar 8 ((p_cmd (ar 5) (sc 13) (sc 22) ps).2.2)) from congrArg (fun z0 : Int → Int => (ua ar 8 z0)) w_99] at hP hD
                  exact W.zret (v := iI 1) hx hb hr (nr_b (by decide)) (fun tt_ ht_ hW_ => ⟨⟨iI 1, (), rfl, (congrArg iI hfin), by rw [ht_]; exact hP, hD⟩, hS.F ht_⟩) hS.2.2 dX5_commandHere_265
          · refine lv_aload_n hx hb dX5_commandHere_171 rfl (lv_at hl 1 rfl) ?_
            refine lv_bipush (v := iI 117) hx hb dX5_commandHere_172 (by decide) ?_
            refine n_cui (x := b2 ((p_skip (ar 5) (sc 13) 117 q_13.2).1)) (va_runV (As := [iv 117]) (rest := []) ⟨hx, hb, hml, hown, hts⟩ (mt_X5_skips l E o (us sc 20 q_13.2.1) (ua ar 8 q_13.2.2) 117 q_13.2 (by exact hI) (by exact hln) (by show 0 ≤ q_13.2.1 ∧ q_13.2.1 ≤ sc 13; omega) (by omega) _) (cwV 1 hts (lw_V q2456 q2458 qs84 q113 q2459) rfl rfl rfl (by decide +kernel) ⟨Nat.le_of_ble_eq_true rfl, Nat.le_of_ble_eq_true rfl⟩) (UW_V hP hK (hD) (va_recv hK.1 hP (ci := 0) (q0 := 0) rfl rfl)) rfl rfl hl.1 rfl (lv_room (Nat.le_of_ble_eq_true rfl)) dX5_commandHere_174 ⟨Nat.le_of_ble_eq_true rfl, Nat.le_of_ble_eq_true rfl⟩) hD hS hA (fun H locs hP hD hS => ?_)
            have hP : va_P E.1 CL (MW E o (us sc 20 ((p_skip (ar 5) (sc 13) 117 q_13.2).2.1)) (ua ar 8 ((p_skip (ar 5) (sc 13) 117 q_13.2).2.2))) H := hP
            have hD : va_D A (MW E o (us sc 20 ((p_skip (ar 5) (sc 13) 117 q_13.2).2.1)) (ua ar 8 ((p_skip (ar 5) (sc 13) 117 q_13.2).2.2))) := hD
            have b_101 := p_skip_r (len := sc 13) (v := 117) (x := q_13.2) hI (by omega) (by omega)
            obtain ⟨q_100, eq_100⟩ : ∃ zz : PR, zz = p_skip (ar 5) (sc 13) 117 q_13.2 := ⟨_, rfl⟩
            rw [← eq_100] at hP hD b_101 ⊢
            refine n_ifb_eq (tgt := 206) hx hb dX5_commandHere_177 (by decide) (fun c_102 => ?_) (fun c_102 => ?_)
            · refine lv_aload_n hx hb dX5_commandHere_206 rfl (lv_at hl 1 rfl) ?_
              refine lv_bipush (v := iI 8) hx hb dX5_commandHere_207 (by decide) ?_
              refine va_ldcS hx hb (own := RX5) (tx := "lose") (index := 254) (q := EX E (2 * 26)) hown (hK.ks ("ClockworkTailorModel", 254, "lose", 26) (List.mem_of_getElem? (i := 26) rfl)) dX5_commandHere_209 ?_
              refine n_cui (x := b2 ((p_word (ar 5) (sc 13) (4 * sc 22) 8 (TX.getD 26 []) q_100.2).1)) (va_runV (As := [iv 8, .ref (EX E (2 * 26))]) (rest := []) ⟨hx, hb, hml, hown, hts⟩ (mt_X5_isWord l E o (us sc 20 q_100.2.1) (ua ar 8 q_100.2.2) 8 26 q_100.2 (by exact hI) (by exact hln) (by show 0 ≤ q_100.2.1 ∧ q_100.2.1 ≤ sc 13; omega) (by omega) (by decide) (by show 0 ≤ sc 22 ∧ sc 22 ≤ 30; omega) _) (cwV 2 hts (lw_V q2465 q2467 qs86 q113 q2468) rfl rfl rfl (by decide +kernel) ⟨Nat.le_of_ble_eq_true rfl, Nat.le_of_ble_eq_true rfl⟩) (UX_V hP hK (hD) hE hS (va_A_in hD hS hA) (va_recv hK.1 hP (ci := 0) (q0 := 0) rfl rfl)) rfl rfl hl.1 rfl (lv_room (Nat.le_of_ble_eq_true rfl)) dX5_commandHere_211 ⟨Nat.le_of_ble_eq_true rfl, Nat.le_of_ble_eq_true rfl⟩) hD hS hA (fun H locs hP hD hS => ?_)
              have hP : va_P E.1 CL (MW E o (us sc 20 ((p_word (ar 5) (sc 13) (4 * sc 22) 8 (TX.getD 26 []) q_100.2).2.1)) (ua ar 8 ((p_word (ar 5) (sc 13) (4 * sc 22) 8 (TX.getD 26 []) q_100.2).2.2))) H := hP
              have hD : va_D A (MW E o (us sc 20 ((p_word (ar 5) (sc 13) (4 * sc 22) 8 (TX.getD 26 []) q_100.2).2.1)) (ua ar 8 ((p_word (ar 5) (sc 13) (4 * sc 22) 8 (TX.getD 26 []) q_100.2).2.2))) := hD
              have b_104 := p_word_r (len := sc 13) (pl := 4 * sc 22) (w := 8) (k := 26) (x := q_100.2) hI (by omega)
              obtain ⟨q_103, eq_103⟩ : ∃ zz : PR, zz = p_word (ar 5) (sc 13) (4 * sc 22) 8 (TX.getD 26 []) q_100.2 := ⟨_, rfl⟩
              rw [← eq_103] at hP hD b_104 ⊢
              refine n_ifb_eq (tgt := 230) hx hb dX5_commandHere_214 (by decide) (fun c_105 => ?_) (fun c_105 => ?_)
              · refine lv_iconst (v := iI 0) hx hb dX5_commandHere_230 rfl ?_
                have hfin : 0 = b2 ((p_cmd (ar 5) (sc 13) (sc 22) ps).1) := by
                  simp only [p_cmd, p_if, p_and, ← eq_1, ← eq_4, ← eq_7, ← eq_10, ← eq_13, ← eq_100, ← eq_103, c_3, c_6, c_9, c_12, c_15, c_102, c_105, b2_t, Bool.false_eq_true, if_true, if_false, b2_f]
                have w_106 : q_103.2.1 = (p_cmd (ar 5) (sc 13) (sc 22) ps).2.1 := by
                  simp only [p_cmd, p_if, p_and, ← eq_1, ← eq_4, ← eq_7, ← eq_10, ← eq_13, ← eq_100, ← eq_103, c_3, c_6, c_9, c_12, c_15, c_102, c_105, b2_t, Bool.false_eq_true, if_true, if_false, b2_f]
                rw [show (us sc 20 q_103.2.1) = (us sc 20 ((p_cmd (ar 5) (sc 13) (sc 22) ps).2.1)) from congrArg (fun z0 : Int => (us sc 20 z0)) w_106] at hP hD
                have w_107 : q_103.2.2 = (p_cmd (ar 5) (sc 13) (sc 22) ps).2.2 := by
                  simp only [p_cmd, p_if, p_and, ← eq_1, ← eq_4, ← eq_7, ← eq_10, ← eq_13, ← eq_100, ← eq_103, c_3, c_6, c_9, c_12, c_15, c_102, c_105, b2_t, Bool.false_eq_true, if_true, if_false, b2_f]
                rw [show (ua ar 8 q_103.2.2) = (ua ar 8 ((p_cmd (ar 5) (sc 13) (sc 22) ps).2.2)) from congrArg (fun z0 : Int → Int => (ua ar 8 z0)) w_107] at hP hD
                exact W.zret (v := iI 0) hx hb hr (nr_b (by decide)) (fun tt_ ht_ hW_ => ⟨⟨iI 0, (), rfl, (congrArg iI hfin), by rw [ht_]; exact hP, hD⟩, hS.F ht_⟩) hS.2.2 dX5_commandHere_231
              · refine lv_aload_n hx hb dX5_commandHere_217 rfl (lv_at hl 1 rfl) ?_
                refine lv_iload_n hx hb dX5_commandHere_218 rfl (lv_at hl 0 rfl) ?_
                refine lv_iconst (v := iI 1) hx hb dX5_commandHere_219 rfl ?_
                refine n_cui (x := b2 ((p_fig (ar 5) (sc 13) ((4 * (sc 22)) + 1) 1 q_103.2).1)) (va_runV (As := [iv ((4 * (sc 22)) + 1), iv 1]) (rest := []) ⟨hx, hb, hml, hown, hts⟩ (mt_X5_figures l E o (us sc 20 q_103.2.1) (ua ar 8 q_103.2.2) ((4 * (sc 22)) + 1) 1 q_103.2 (by exact hI) (by exact hln) (by show 0 ≤ q_103.2.1 ∧ q_103.2.1 ≤ sc 13; omega) (by omega) (by omega) _) (cwV 2 hts (lw_V q2479 q2481 qs89 q113 q2482) rfl rfl rfl (by decide +kernel) ⟨Nat.le_of_ble_eq_true rfl, Nat.le_of_ble_eq_true rfl⟩) (UW_V hP hK (hD) (va_recv hK.1 hP (ci := 0) (q0 := 0) rfl rfl)) rfl rfl hl.1 rfl (lv_room (Nat.le_of_ble_eq_true rfl)) dX5_commandHere_220 ⟨Nat.le_of_ble_eq_true rfl, Nat.le_of_ble_eq_true rfl⟩) hD hS hA (fun H locs hP hD hS => ?_)
                have hP : va_P E.1 CL (MW E o (us sc 20 ((p_fig (ar 5) (sc 13) ((4 * (sc 22)) + 1) 1 q_103.2).2.1)) (ua ar 8 ((p_fig (ar 5) (sc 13) ((4 * (sc 22)) + 1) 1 q_103.2).2.2))) H := hP
                have hD : va_D A (MW E o (us sc 20 ((p_fig (ar 5) (sc 13) ((4 * (sc 22)) + 1) 1 q_103.2).2.1)) (ua ar 8 ((p_fig (ar 5) (sc 13) ((4 * (sc 22)) + 1) 1 q_103.2).2.2))) := hD
                have b_109 := p_fig_r (len := sc 13) (pl := ((4 * (sc 22)) + 1)) (dg := 1) (x := q_103.2) hI (by omega)
                obtain ⟨q_108, eq_108⟩ : ∃ zz : PR, zz = p_fig (ar 5) (sc 13) ((4 * (sc 22)) + 1) 1 q_103.2 := ⟨_, rfl⟩
                rw [← eq_108] at hP hD b_109 ⊢
                refine n_ifb_eq (tgt := 230) hx hb dX5_commandHere_223 (by decide) (fun c_110 => ?_) (fun c_110 => ?_)
                · refine lv_iconst (v := iI 0) hx hb dX5_commandHere_230 rfl ?_
                  have hfin : 0 = b2 ((p_cmd (ar 5) (sc 13) (sc 22) ps).1) := by
                    simp only [p_cmd, p_if, p_and, ← eq_1, ← eq_4, ← eq_7, ← eq_10, ← eq_13, ← eq_100, ← eq_103, ← eq_108, c_3, c_6, c_9, c_12, c_15, c_102, c_105, c_110, b2_t, Bool.false_eq_true, if_true, if_false, b2_f]
                  have w_111 : q_108.2.1 = (p_cmd (ar 5) (sc 13) (sc 22) ps).2.1 := by
                    simp only [p_cmd, p_if, p_and, ← eq_1, ← eq_4, ← eq_7, ← eq_10, ← eq_13, ← eq_100, ← eq_103, ← eq_108, c_3, c_6, c_9, c_12, c_15, c_102, c_105, c_110, b2_t, Bool.false_eq_true, if_true, if_false, b2_f]
                  rw [show (us sc 20 q_108.2.1) = (us sc 20 ((p_cmd (ar 5) (sc 13) (sc 22) ps).2.1)) from congrArg (fun z0 : Int => (us sc 20 z0)) w_111] at hP hD
                  have w_112 : q_108.2.2 = (p_cmd (ar 5) (sc 13) (sc 22) ps).2.2 := by
                    simp only [p_cmd, p_if, p_and, ← eq_1, ← eq_4, ← eq_7, ← eq_10, ← eq_13, ← eq_100, ← eq_103, ← eq_108, c_3, c_6, c_9, c_12, c_15, c_102, c_105, c_110, b2_t, Bool.false_eq_true, if_true, if_false, b2_f]
                  rw [show (ua ar 8 q_108.2.2) = (ua ar 8 ((p_cmd (ar 5) (sc 13) (sc 22) ps).2.2)) from congrArg (fun z0 : Int → Int => (ua ar 8 z0)) w_112] at hP hD
                  exact W.zret (v := iI 0) hx hb hr (nr_b (by decide)) (fun tt_ ht_ hW_ => ⟨⟨iI 0, (), rfl, (congrArg iI hfin), by rw [ht_]; exact hP, hD⟩, hS.F ht_⟩) hS.2.2 dX5_commandHere_231
                · refine lv_iconst (v := iI 1) hx hb dX5_commandHere_226 rfl ?_
                  refine lv_goto (tgt := 231) hx hb dX5_commandHere_227 (by decide) ?_
                  have hfin : 1 = b2 ((p_cmd (ar 5) (sc 13) (sc 22) ps).1) := by
                    simp only [p_cmd, p_if, p_and, ← eq_1, ← eq_4, ← eq_7, ← eq_10, ← eq_13, ← eq_100, ← eq_103, ← eq_108, c_3, c_6, c_9, c_12, c_15, c_102, c_105, c_110, b2_t, Bool.false_eq_true, if_true, if_false, b2_f]
                  have w_113 : q_108.2.1 = (p_cmd (ar 5) (sc 13) (sc 22) ps).2.1 := by
                    simp only [p_cmd, p_if, p_and, ← eq_1, ← eq_4, ← eq_7, ← eq_10, ← eq_13, ← eq_100, ← eq_103, ← eq_108, c_3, c_6, c_9, c_12, c_15, c_102, c_105, c_110, b2_t, Bool.false_eq_true, if_true, if_false, b2_f]
                  rw [show (us sc 20 q_108.2.1) = (us sc 20 ((p_cmd (ar 5) (sc 13) (sc 22) ps).2.1)) from congrArg (fun z0 : Int => (us sc 20 z0)) w_113] at hP hD
                  have w_114 : q_108.2.2 = (p_cmd (ar 5) (sc 13) (sc 22) ps).2.2 := by
                    simp only [p_cmd, p_if, p_and, ← eq_1, ← eq_4, ← eq_7, ← eq_10, ← eq_13, ← eq_100, ← eq_103, ← eq_108, c_3, c_6, c_9, c_12, c_15, c_102, c_105, c_110, b2_t, Bool.false_eq_true, if_true, if_false, b2_f]
                  rw [show (ua ar 8 q_108.2.2) = (ua ar 8 ((p_cmd (ar 5) (sc 13) (sc 22) ps).2.2)) from congrArg (fun z0 : Int → Int => (ua ar 8 z0)) w_114] at hP hD
                  exact W.zret (v := iI 1) hx hb hr (nr_b (by decide)) (fun tt_ ht_ hW_ => ⟨⟨iI 1, (), rfl, (congrArg iI hfin), by rw [ht_]; exact hP, hD⟩, hS.F ht_⟩) hS.2.2 dX5_commandHere_231
            · refine lv_aload_n hx hb dX5_commandHere_180 rfl (lv_at hl 1 rfl) ?_
              refine lv_iconst (v := iI 4) hx hb dX5_commandHere_181 rfl ?_
              refine va_ldcS hx hb (own := RX5) (tx := "t") (index := 252) (q := EX E (2 * 25)) hown (hK.ks ("ClockworkTailorModel", 252, "t", 25) (List.mem_of_getElem? (i := 25) rfl)) dX5_commandHere_182 ?_
              refine n_cui (x := b2 ((p_word (ar 5) (sc 13) (4 * sc 22) 4 (TX.getD 25 []) q_100.2).1)) (va_runV (As := [iv 4, .ref (EX E (2 * 25))]) (rest := []) ⟨hx, hb, hml, hown, hts⟩ (mt_X5_isWord l E o (us sc 20 q_100.2.1) (ua ar 8 q_100.2.2) 4 25 q_100.2 (by exact hI) (by exact hln) (by show 0 ≤ q_100.2.1 ∧ q_100.2.1 ≤ sc 13; omega) (by omega) (by decide) (by show 0 ≤ sc 22 ∧ sc 22 ≤ 30; omega) _) (cwV 2 hts (lw_V q2465 q2467 qs86 q113 q2468) rfl rfl rfl (by decide +kernel) ⟨Nat.le_of_ble_eq_true rfl, Nat.le_of_ble_eq_true rfl⟩) (UX_V hP hK (hD) hE hS (va_A_in hD hS hA) (va_recv hK.1 hP (ci := 0) (q0 := 0) rfl rfl)) rfl rfl hl.1 rfl (lv_room (Nat.le_of_ble_eq_true rfl)) dX5_commandHere_184 ⟨Nat.le_of_ble_eq_true rfl, Nat.le_of_ble_eq_true rfl⟩) hD hS hA (fun H locs hP hD hS => ?_)
              have hP : va_P E.1 CL (MW E o (us sc 20 ((p_word (ar 5) (sc 13) (4 * sc 22) 4 (TX.getD 25 []) q_100.2).2.1)) (ua ar 8 ((p_word (ar 5) (sc 13) (4 * sc 22) 4 (TX.getD 25 []) q_100.2).2.2))) H := hP
              have hD : va_D A (MW E o (us sc 20 ((p_word (ar 5) (sc 13) (4 * sc 22) 4 (TX.getD 25 []) q_100.2).2.1)) (ua ar 8 ((p_word (ar 5) (sc 13) (4 * sc 22) 4 (TX.getD 25 []) q_100.2).2.2))) := hD
              have b_116 := p_word_r (len := sc 13) (pl := 4 * sc 22) (w := 4) (k := 25) (x := q_100.2) hI (by omega)
              obtain ⟨q_115, eq_115⟩ : ∃ zz : PR, zz = p_word (ar 5) (sc 13) (4 * sc 22) 4 (TX.getD 25 []) q_100.2 := ⟨_, rfl⟩
              rw [← eq_115] at hP hD b_116 ⊢
              refine n_ifb_eq (tgt := 202) hx hb dX5_commandHere_187 (by decide) (fun c_117 => ?_) (fun c_117 => ?_)
              · refine lv_iconst (v := iI 0) hx hb dX5_commandHere_202 rfl ?_
                refine lv_goto (tgt := 231) hx hb dX5_commandHere_203 (by decide) ?_
                have hfin : 0 = b2 ((p_cmd (ar 5) (sc 13) (sc 22) ps).1) := by
                  simp only [p_cmd, p_if, p_and, ← eq_1, ← eq_4, ← eq_7, ← eq_10, ← eq_13, ← eq_100, ← eq_115, c_3, c_6, c_9, c_12, c_15, c_102, c_117, b2_t, Bool.false_eq_true, if_true, if_false, b2_f]
                have w_118 : q_115.2.1 = (p_cmd (ar 5) (sc 13) (sc 22) ps).2.1 := by
                  simp only [p_cmd, p_if, p_and, ← eq_1, ← eq_4, ← eq_7, ← eq_10, ← eq_13, ← eq_100, ← eq_115, c_3, c_6, c_9, c_12, c_15, c_102, c_117, b2_t, Bool.false_eq_true, if_true, if_false, b2_f]
                rw [show (us sc 20 q_115.2.1) = (us sc 20 ((p_cmd (ar 5) (sc 13) (sc 22) ps).2.1)) from congrArg (fun z0 : Int => (us sc 20 z0)) w_118] at hP hD
                have w_119 : q_115.2.2 = (p_cmd (ar 5) (sc 13) (sc 22) ps).2.2 := by
                  simp only [p_cmd, p_if, p_and, ← eq_1, ← eq_4, ← eq_7, ← eq_10, ← eq_13, ← eq_100, ← eq_115, c_3, c_6, c_9, c_12, c_15, c_102, c_117, b2_t, Bool.false_eq_true, if_true, if_false, b2_f]
                rw [show (ua ar 8 q_115.2.2) = (ua ar 8 ((p_cmd (ar 5) (sc 13) (sc 22) ps).2.2)) from congrArg (fun z0 : Int → Int => (ua ar 8 z0)) w_119] at hP hD
                exact W.zret (v := iI 0) hx hb hr (nr_b (by decide)) (fun tt_ ht_ hW_ => ⟨⟨iI 0, (), rfl, (congrArg iI hfin), by rw [ht_]; exact hP, hD⟩, hS.F ht_⟩) hS.2.2 dX5_commandHere_231
              · refine lv_aload_n hx hb dX5_commandHere_190 rfl (lv_at hl 1 rfl) ?_
                refine lv_iload_n hx hb dX5_commandHere_191 rfl (lv_at hl 0 rfl) ?_
                refine n_cui (x := b2 ((p_tools (ar 5) (sc 13) ((4 * (sc 22)) + 1) q_115.2).1)) (va_runV (As := [iv ((4 * (sc 22)) + 1)]) (rest := []) ⟨hx, hb, hml, hown, hts⟩ (mt_X5_toolsHere l E o (us sc 20 q_115.2.1) (ua ar 8 q_115.2.2) ((4 * (sc 22)) + 1) q_115.2 (by exact hI) (by exact hln) (by show 0 ≤ q_115.2.1 ∧ q_115.2.1 ≤ sc 13; omega) (by omega) _) (cwV 1 hts (lw_V q2485 q2487 qs90 q113 q2488) rfl rfl rfl (by decide +kernel) ⟨Nat.le_of_ble_eq_true rfl, Nat.le_of_ble_eq_true rfl⟩) (UW_V hP hK (hD) (va_recv hK.1 hP (ci := 0) (q0 := 0) rfl rfl)) rfl rfl hl.1 rfl (lv_room (Nat.le_of_ble_eq_true rfl)) dX5_commandHere_192 ⟨Nat.le_of_ble_eq_true rfl, Nat.le_of_ble_eq_true rfl⟩) hD hS hA (fun H locs hP hD hS => ?_)
                have hP : va_P E.1 CL (MW E o (us sc 20 ((p_tools (ar 5) (sc 13) ((4 * (sc 22)) + 1) q_115.2).2.1)) (ua ar 8 ((p_tools (ar 5) (sc 13) ((4 * (sc 22)) + 1) q_115.2).2.2))) H := hP
                have hD : va_D A (MW E o (us sc 20 ((p_tools (ar 5) (sc 13) ((4 * (sc 22)) + 1) q_115.2).2.1)) (ua ar 8 ((p_tools (ar 5) (sc 13) ((4 * (sc 22)) + 1) q_115.2).2.2))) := hD
                have b_121 := p_tools_r (len := sc 13) (pl := ((4 * (sc 22)) + 1)) (x := q_115.2) hI (by omega)
                obtain ⟨q_120, eq_120⟩ : ∃ zz : PR, zz = p_tools (ar 5) (sc 13) ((4 * (sc 22)) + 1) q_115.2 := ⟨_, rfl⟩
                rw [← eq_120] at hP hD b_121 ⊢
                refine n_ifb_eq (tgt := 202) hx hb dX5_commandHere_195 (by decide) (fun c_122 => ?_) (fun c_122 => ?_)
                · refine lv_iconst (v := iI 0) hx hb dX5_commandHere_202 rfl ?_
                  refine lv_goto (tgt := 231) hx hb dX5_commandHere_203 (by decide) ?_
                  have hfin : 0 = b2 ((p_cmd (ar 5) (sc 13) (sc 22) ps).1) := by
                    simp only [p_cmd, p_if, p_and, ← eq_1, ← eq_4, ← eq_7, ← eq_10, ← eq_13, ← eq_100, ← eq_115, ← eq_120, c_3, c_6, c_9, c_12, c_15, c_102, c_117, c_122, b2_t, Bool.false_eq_true, if_true, if_false, b2_f]
                  have w_123 : q_120.2.1 = (p_cmd (ar 5) (sc 13) (sc 22) ps).2.1 := by
                    simp only [p_cmd, p_if, p_and, ← eq_1, ← eq_4, ← eq_7, ← eq_10, ← eq_13, ← eq_100, ← eq_115, ← eq_120, c_3, c_6, c_9, c_12, c_15, c_102, c_117, c_122, b2_t, Bool.false_eq_true, if_true, if_false, b2_f]
                  rw [show (us sc 20 q_120.2.1) = (us sc 20 ((p_cmd (ar 5) (sc 13) (sc 22) ps).2.1)) from congrArg (fun z0 : Int => (us sc 20 z0)) w_123] at hP hD
                  have w_124 : q_120.2.2 = (p_cmd (ar 5) (sc 13) (sc 22) ps).2.2 := by
                    simp only [p_cmd, p_if, p_and, ← eq_1, ← eq_4, ← eq_7, ← eq_10, ← eq_13, ← eq_100, ← eq_115, ← eq_120, c_3, c_6, c_9, c_12, c_15, c_102, c_117, c_122, b2_t, Bool.false_eq_true, if_true, if_false, b2_f]
                  rw [show (ua ar 8 q_120.2.2) = (ua ar 8 ((p_cmd (ar 5) (sc 13) (sc 22) ps).2.2)) from congrArg (fun z0 : Int → Int => (ua ar 8 z0)) w_124] at hP hD
                  exact W.zret (v := iI 0) hx hb hr (nr_b (by decide)) (fun tt_ ht_ hW_ => ⟨⟨iI 0, (), rfl, (congrArg iI hfin), by rw [ht_]; exact hP, hD⟩, hS.F ht_⟩) hS.2.2 dX5_commandHere_231
                · refine lv_iconst (v := iI 1) hx hb dX5_commandHere_198 rfl ?_
                  refine lv_goto (tgt := 231) hx hb dX5_commandHere_199 (by decide) ?_
                  have hfin : 1 = b2 ((p_cmd (ar 5) (sc 13) (sc 22) ps).1) := by
                    simp only [p_cmd, p_if, p_and, ← eq_1, ← eq_4, ← eq_7, ← eq_10, ← eq_13, ← eq_100, ← eq_115, ← eq_120, c_3, c_6, c_9, c_12, c_15, c_102, c_117, c_122, b2_t, Bool.false_eq_true, if_true, if_false, b2_f]
                  have w_125 : q_120.2.1 = (p_cmd (ar 5) (sc 13) (sc 22) ps).2.1 := by
                    simp only [p_cmd, p_if, p_and, ← eq_1, ← eq_4, ← eq_7, ← eq_10, ← eq_13, ← eq_100, ← eq_115, ← eq_120, c_3, c_6, c_9, c_12, c_15, c_102, c_117, c_122, b2_t, Bool.false_eq_true, if_true, if_false, b2_f]
                  rw [show (us sc 20 q_120.2.1) = (us sc 20 ((p_cmd (ar 5) (sc 13) (sc 22) ps).2.1)) from congrArg (fun z0 : Int => (us sc 20 z0)) w_125] at hP hD
                  have w_126 : q_120.2.2 = (p_cmd (ar 5) (sc 13) (sc 22) ps).2.2 := by
                    simp only [p_cmd, p_if, p_and, ← eq_1, ← eq_4, ← eq_7, ← eq_10, ← eq_13, ← eq_100, ← eq_115, ← eq_120, c_3, c_6, c_9, c_12, c_15, c_102, c_117, c_122, b2_t, Bool.false_eq_true, if_true, if_false, b2_f]
                  rw [show (ua ar 8 q_120.2.2) = (ua ar 8 ((p_cmd (ar 5) (sc 13) (sc 22) ps).2.2)) from congrArg (fun z0 : Int → Int => (ua ar 8 z0)) w_126] at hP hD
                  exact W.zret (v := iI 1) hx hb hr (nr_b (by decide)) (fun tt_ ht_ hW_ => ⟨⟨iI 1, (), rfl, (congrArg iI hfin), by rw [ht_]; exact hP, hD⟩, hS.F ht_⟩) hS.2.2 dX5_commandHere_231
        · refine lv_aload_n hx hb dX5_commandHere_138 rfl (lv_at hl 1 rfl) ?_
          refine lv_iconst (v := iI 3) hx hb dX5_commandHere_139 rfl ?_
          refine va_ldcS hx hb (own := RX5) (tx := "azy") (index := 250) (q := EX E (2 * 24)) hown (hK.ks ("ClockworkTailorModel", 250, "azy", 24) (List.mem_of_getElem? (i := 24) rfl)) dX5_commandHere_140 ?_
          refine n_cui (x := b2 ((p_word (ar 5) (sc 13) (4 * sc 22) 3 (TX.getD 24 []) q_10.2).1)) (va_runV (As := [iv 3, .ref (EX E (2 * 24))]) (rest := []) ⟨hx, hb, hml, hown, hts⟩ (mt_X5_isWord l E o (us sc 20 q_10.2.1) (ua ar 8 q_10.2.2) 3 24 q_10.2 (by exact hI) (by exact hln) (by show 0 ≤ q_10.2.1 ∧ q_10.2.1 ≤ sc 13; omega) (by omega) (by decide) (by show 0 ≤ sc 22 ∧ sc 22 ≤ 30; omega) _) (cwV 2 hts (lw_V q2465 q2467 qs86 q113 q2468) rfl rfl rfl (by decide +kernel) ⟨Nat.le_of_ble_eq_true rfl, Nat.le_of_ble_eq_true rfl⟩) (UX_V hP hK (hD) hE hS (va_A_in hD hS hA) (va_recv hK.1 hP (ci := 0) (q0 := 0) rfl rfl)) rfl rfl hl.1 rfl (lv_room (Nat.le_of_ble_eq_true rfl)) dX5_commandHere_142 ⟨Nat.le_of_ble_eq_true rfl, Nat.le_of_ble_eq_true rfl⟩) hD hS hA (fun H locs hP hD hS => ?_)
          have hP : va_P E.1 CL (MW E o (us sc 20 ((p_word (ar 5) (sc 13) (4 * sc 22) 3 (TX.getD 24 []) q_10.2).2.1)) (ua ar 8 ((p_word (ar 5) (sc 13) (4 * sc 22) 3 (TX.getD 24 []) q_10.2).2.2))) H := hP
          have hD : va_D A (MW E o (us sc 20 ((p_word (ar 5) (sc 13) (4 * sc 22) 3 (TX.getD 24 []) q_10.2).2.1)) (ua ar 8 ((p_word (ar 5) (sc 13) (4 * sc 22) 3 (TX.getD 24 []) q_10.2).2.2))) := hD
          have b_128 := p_word_r (len := sc 13) (pl := 4 * sc 22) (w := 3) (k := 24) (x := q_10.2) hI (by omega)
          obtain ⟨q_127, eq_127⟩ : ∃ zz : PR, zz = p_word (ar 5) (sc 13) (4 * sc 22) 3 (TX.getD 24 []) q_10.2 := ⟨_, rfl⟩
          rw [← eq_127] at hP hD b_128 ⊢
          refine n_ifb_eq (tgt := 160) hx hb dX5_commandHere_145 (by decide) (fun c_129 => ?_) (fun c_129 => ?_)
          · refine lv_iconst (v := iI 0) hx hb dX5_commandHere_160 rfl ?_
            have hfin : 0 = b2 ((p_cmd (ar 5) (sc 13) (sc 22) ps).1) := by
              simp only [p_cmd, p_if, p_and, ← eq_1, ← eq_4, ← eq_7, ← eq_10, ← eq_127, c_3, c_6, c_9, c_12, c_129, b2_t, Bool.false_eq_true, if_true, if_false, b2_f]
            have w_130 : q_127.2.1 = (p_cmd (ar 5) (sc 13) (sc 22) ps).2.1 := by
              simp only [p_cmd, p_if, p_and, ← eq_1, ← eq_4, ← eq_7, ← eq_10, ← eq_127, c_3, c_6, c_9, c_12, c_129, b2_t, Bool.false_eq_true, if_true, if_false, b2_f]
            rw [show (us sc 20 q_127.2.1) = (us sc 20 ((p_cmd (ar 5) (sc 13) (sc 22) ps).2.1)) from congrArg (fun z0 : Int => (us sc 20 z0)) w_130] at hP hD
            have w_131 : q_127.2.2 = (p_cmd (ar 5) (sc 13) (sc 22) ps).2.2 := by
              simp only [p_cmd, p_if, p_and, ← eq_1, ← eq_4, ← eq_7, ← eq_10, ← eq_127, c_3, c_6, c_9, c_12, c_129, b2_t, Bool.false_eq_true, if_true, if_false, b2_f]
            rw [show (ua ar 8 q_127.2.2) = (ua ar 8 ((p_cmd (ar 5) (sc 13) (sc 22) ps).2.2)) from congrArg (fun z0 : Int → Int => (ua ar 8 z0)) w_131] at hP hD
            exact W.zret (v := iI 0) hx hb hr (nr_b (by decide)) (fun tt_ ht_ hW_ => ⟨⟨iI 0, (), rfl, (congrArg iI hfin), by rw [ht_]; exact hP, hD⟩, hS.F ht_⟩) hS.2.2 dX5_commandHere_161
          · refine lv_aload_n hx hb dX5_commandHere_148 rfl (lv_at hl 1 rfl) ?_
            refine lv_iload_n hx hb dX5_commandHere_149 rfl (lv_at hl 0 rfl) ?_
            refine n_cui (x := b2 ((p_tools (ar 5) (sc 13) ((4 * (sc 22)) + 1) q_127.2).1)) (va_runV (As := [iv ((4 * (sc 22)) + 1)]) (rest := []) ⟨hx, hb, hml, hown, hts⟩ (mt_X5_toolsHere l E o (us sc 20 q_127.2.1) (ua ar 8 q_127.2.2) ((4 * (sc 22)) + 1) q_127.2 (by exact hI) (by exact hln) (by show 0 ≤ q_127.2.1 ∧ q_127.2.1 ≤ sc 13; omega) (by omega) _) (cwV 1 hts (lw_V q2485 q2487 qs90 q113 q2488) rfl rfl rfl (by decide +kernel) ⟨Nat.le_of_ble_eq_true rfl, Nat.le_of_ble_eq_true rfl⟩) (UW_V hP hK (hD) (va_recv hK.1 hP (ci := 0) (q0 := 0) rfl rfl)) rfl rfl hl.1 rfl (lv_room (Nat.le_of_ble_eq_true rfl)) dX5_commandHere_150 ⟨Nat.le_of_ble_eq_true rfl, Nat.le_of_ble_eq_true rfl⟩) hD hS hA (fun H locs hP hD hS => ?_)
            have hP : va_P E.1 CL (MW E o (us sc 20 ((p_tools (ar 5) (sc 13) ((4 * (sc 22)) + 1) q_127.2).2.1)) (ua ar 8 ((p_tools (ar 5) (sc 13) ((4 * (sc 22)) + 1) q_127.2).2.2))) H := hP
            have hD : va_D A (MW E o (us sc 20 ((p_tools (ar 5) (sc 13) ((4 * (sc 22)) + 1) q_127.2).2.1)) (ua ar 8 ((p_tools (ar 5) (sc 13) ((4 * (sc 22)) + 1) q_127.2).2.2))) := hD
            have b_133 := p_tools_r (len := sc 13) (pl := ((4 * (sc 22)) + 1)) (x := q_127.2) hI (by omega)
            obtain ⟨q_132, eq_132⟩ : ∃ zz : PR, zz = p_tools (ar 5) (sc 13) ((4 * (sc 22)) + 1) q_127.2 := ⟨_, rfl⟩
            rw [← eq_132] at hP hD b_133 ⊢
            refine n_ifb_eq (tgt := 160) hx hb dX5_commandHere_153 (by decide) (fun c_134 => ?_) (fun c_134 => ?_)
            · refine lv_iconst (v := iI 0) hx hb dX5_commandHere_160 rfl ?_
              have hfin : 0 = b2 ((p_cmd (ar 5) (sc 13) (sc 22) ps).1) := by
                simp only [p_cmd, p_if, p_and, ← eq_1, ← eq_4, ← eq_7, ← eq_10, ← eq_127, ← eq_132, c_3, c_6, c_9, c_12, c_129, c_134, b2_t, Bool.false_eq_true, if_true, if_false, b2_f]
              have w_135 : q_132.2.1 = (p_cmd (ar 5) (sc 13) (sc 22) ps).2.1 := by
                simp only [p_cmd, p_if, p_and, ← eq_1, ← eq_4, ← eq_7, ← eq_10, ← eq_127, ← eq_132, c_3, c_6, c_9, c_12, c_129, c_134, b2_t, Bool.false_eq_true, if_true, if_false, b2_f]
              rw [show (us sc 20 q_132.2.1) = (us sc 20 ((p_cmd (ar 5) (sc 13) (sc 22) ps).2.1)) from congrArg (fun z0 : Int => (us sc 20 z0)) w_135] at hP hD
              have w_136 : q_132.2.2 = (p_cmd (ar 5) (sc 13) (sc 22) ps).2.2 := by
                simp only [p_cmd, p_if, p_and, ← eq_1, ← eq_4, ← eq_7, ← eq_10, ← eq_127, ← eq_132, c_3, c_6, c_9, c_12, c_129, c_134, b2_t, Bool.false_eq_true, if_true, if_false, b2_f]
              rw [show (ua ar 8 q_132.2.2) = (ua ar 8 ((p_cmd (ar 5) (sc 13) (sc 22) ps).2.2)) from congrArg (fun z0 : Int → Int => (ua ar 8 z0)) w_136] at hP hD
              exact W.zret (v := iI 0) hx hb hr (nr_b (by decide)) (fun tt_ ht_ hW_ => ⟨⟨iI 0, (), rfl, (congrArg iI hfin), by rw [ht_]; exact hP, hD⟩, hS.F ht_⟩) hS.2.2 dX5_commandHere_161
            · refine lv_iconst (v := iI 1) hx hb dX5_commandHere_156 rfl ?_
              refine lv_goto (tgt := 161) hx hb dX5_commandHere_157 (by decide) ?_
              have hfin : 1 = b2 ((p_cmd (ar 5) (sc 13) (sc 22) ps).1) := by
                simp only [p_cmd, p_if, p_and, ← eq_1, ← eq_4, ← eq_7, ← eq_10, ← eq_127, ← eq_132, c_3, c_6, c_9, c_12, c_129, c_134, b2_t, Bool.false_eq_true, if_true, if_false, b2_f]
              have w_137 : q_132.2.1 = (p_cmd (ar 5) (sc 13) (sc 22) ps).2.1 := by
                simp only [p_cmd, p_if, p_and, ← eq_1, ← eq_4, ← eq_7, ← eq_10, ← eq_127, ← eq_132, c_3, c_6, c_9, c_12, c_129, c_134, b2_t, Bool.false_eq_true, if_true, if_false, b2_f]
              rw [show (us sc 20 q_132.2.1) = (us sc 20 ((p_cmd (ar 5) (sc 13) (sc 22) ps).2.1)) from congrArg (fun z0 : Int => (us sc 20 z0)) w_137] at hP hD
              have w_138 : q_132.2.2 = (p_cmd (ar 5) (sc 13) (sc 22) ps).2.2 := by
                simp only [p_cmd, p_if, p_and, ← eq_1, ← eq_4, ← eq_7, ← eq_10, ← eq_127, ← eq_132, c_3, c_6, c_9, c_12, c_129, c_134, b2_t, Bool.false_eq_true, if_true, if_false, b2_f]
              rw [show (ua ar 8 q_132.2.2) = (ua ar 8 ((p_cmd (ar 5) (sc 13) (sc 22) ps).2.2)) from congrArg (fun z0 : Int → Int => (ua ar 8 z0)) w_138] at hP hD
              exact W.zret (v := iI 1) hx hb hr (nr_b (by decide)) (fun tt_ ht_ hW_ => ⟨⟨iI 1, (), rfl, (congrArg iI hfin), by rw [ht_]; exact hP, hD⟩, hS.F ht_⟩) hS.2.2 dX5_commandHere_161
      · refine lv_aload_n hx hb dX5_commandHere_105 rfl (lv_at hl 1 rfl) ?_
        refine lv_iconst (v := iI 2) hx hb dX5_commandHere_106 rfl ?_
        refine va_ldcS hx hb (own := RX5) (tx := "eed") (index := 245) (q := EX E (2 * 23)) hown (hK.ks ("ClockworkTailorModel", 245, "eed", 23) (List.mem_of_getElem? (i := 23) rfl)) dX5_commandHere_107 ?_
        refine n_cui (x := b2 ((p_word (ar 5) (sc 13) (4 * sc 22) 2 (TX.getD 23 []) q_7.2).1)) (va_runV (As := [iv 2, .ref (EX E (2 * 23))]) (rest := []) ⟨hx, hb, hml, hown, hts⟩ (mt_X5_isWord l E o (us sc 20 q_7.2.1) (ua ar 8 q_7.2.2) 2 23 q_7.2 (by exact hI) (by exact hln) (by show 0 ≤ q_7.2.1 ∧ q_7.2.1 ≤ sc 13; omega) (by omega) (by decide) (by show 0 ≤ sc 22 ∧ sc 22 ≤ 30; omega) _) (cwV 2 hts (lw_V q2465 q2467 qs86 q113 q2468) rfl rfl rfl (by decide +kernel) ⟨Nat.le_of_ble_eq_true rfl, Nat.le_of_ble_eq_true rfl⟩) (UX_V hP hK (hD) hE hS (va_A_in hD hS hA) (va_recv hK.1 hP (ci := 0) (q0 := 0) rfl rfl)) rfl rfl hl.1 rfl (lv_room (Nat.le_of_ble_eq_true rfl)) dX5_commandHere_109 ⟨Nat.le_of_ble_eq_true rfl, Nat.le_of_ble_eq_true rfl⟩) hD hS hA (fun H locs hP hD hS => ?_)
        have hP : va_P E.1 CL (MW E o (us sc 20 ((p_word (ar 5) (sc 13) (4 * sc 22) 2 (TX.getD 23 []) q_7.2).2.1)) (ua ar 8 ((p_word (ar 5) (sc 13) (4 * sc 22) 2 (TX.getD 23 []) q_7.2).2.2))) H := hP
        have hD : va_D A (MW E o (us sc 20 ((p_word (ar 5) (sc 13) (4 * sc 22) 2 (TX.getD 23 []) q_7.2).2.1)) (ua ar 8 ((p_word (ar 5) (sc 13) (4 * sc 22) 2 (TX.getD 23 []) q_7.2).2.2))) := hD
        have b_140 := p_word_r (len := sc 13) (pl := 4 * sc 22) (w := 2) (k := 23) (x := q_7.2) hI (by omega)
        obtain ⟨q_139, eq_139⟩ : ∃ zz : PR, zz = p_word (ar 5) (sc 13) (4 * sc 22) 2 (TX.getD 23 []) q_7.2 := ⟨_, rfl⟩
        rw [← eq_139] at hP hD b_140 ⊢
        refine n_ifb_eq (tgt := 127) hx hb dX5_commandHere_112 (by decide) (fun c_141 => ?_) (fun c_141 => ?_)
        · refine lv_iconst (v := iI 0) hx hb dX5_commandHere_127 rfl ?_
          have hfin : 0 = b2 ((p_cmd (ar 5) (sc 13) (sc 22) ps).1) := by
            simp only [p_cmd, p_if, p_and, ← eq_1, ← eq_4, ← eq_7, ← eq_139, c_3, c_6, c_9, c_141, b2_t, Bool.false_eq_true, if_true, if_false, b2_f]
          have w_142 : q_139.2.1 = (p_cmd (ar 5) (sc 13) (sc 22) ps).2.1 := by
            simp only [p_cmd, p_if, p_and, ← eq_1, ← eq_4, ← eq_7, ← eq_139, c_3, c_6, c_9, c_141, b2_t, Bool.false_eq_true, if_true, if_false, b2_f]
          rw [show (us sc 20 q_139.2.1) = (us sc 20 ((p_cmd (ar 5) (sc 13) (sc 22) ps).2.1)) from congrArg (fun z0 : Int => (us sc 20 z0)) w_142] at hP hD
          have w_143 : q_139.2.2 = (p_cmd (ar 5) (sc 13) (sc 22) ps).2.2 := by
            simp only [p_cmd, p_if, p_and, ← eq_1, ← eq_4, ← eq_7, ← eq_139, c_3, c_6, c_9, c_141, b2_t, Bool.false_eq_true, if_true, if_false, b2_f]
          rw [show (ua ar 8 q_139.2.2) = (ua ar 8 ((p_cmd (ar 5) (sc 13) (sc 22) ps).2.2)) from congrArg (fun z0 : Int → Int => (ua ar 8 z0)) w_143] at hP hD
          exact W.zret (v := iI 0) hx hb hr (nr_b (by decide)) (fun tt_ ht_ hW_ => ⟨⟨iI 0, (), rfl, (congrArg iI hfin), by rw [ht_]; exact hP, hD⟩, hS.F ht_⟩) hS.2.2 dX5_commandHere_128
        · refine lv_aload_n hx hb dX5_commandHere_115 rfl (lv_at hl 1 rfl) ?_
          refine lv_iload_n hx hb dX5_commandHere_116 rfl (lv_at hl 0 rfl) ?_
          refine n_cui (x := b2 ((p_tools (ar 5) (sc 13) ((4 * (sc 22)) + 1) q_139.2).1)) (va_runV (As := [iv ((4 * (sc 22)) + 1)]) (rest := []) ⟨hx, hb, hml, hown, hts⟩ (mt_X5_toolsHere l E o (us sc 20 q_139.2.1) (ua ar 8 q_139.2.2) ((4 * (sc 22)) + 1) q_139.2 (by exact hI) (by exact hln) (by show 0 ≤ q_139.2.1 ∧ q_139.2.1 ≤ sc 13; omega) (by omega) _) (cwV 1 hts (lw_V q2485 q2487 qs90 q113 q2488) rfl rfl rfl (by decide +kernel) ⟨Nat.le_of_ble_eq_true rfl, Nat.le_of_ble_eq_true rfl⟩) (UW_V hP hK (hD) (va_recv hK.1 hP (ci := 0) (q0 := 0) rfl rfl)) rfl rfl hl.1 rfl (lv_room (Nat.le_of_ble_eq_true rfl)) dX5_commandHere_117 ⟨Nat.le_of_ble_eq_true rfl, Nat.le_of_ble_eq_true rfl⟩) hD hS hA (fun H locs hP hD hS => ?_)
          have hP : va_P E.1 CL (MW E o (us sc 20 ((p_tools (ar 5) (sc 13) ((4 * (sc 22)) + 1) q_139.2).2.1)) (ua ar 8 ((p_tools (ar 5) (sc 13) ((4 * (sc 22)) + 1) q_139.2).2.2))) H := hP
          have hD : va_D A (MW E o (us sc 20 ((p_tools (ar 5) (sc 13) ((4 * (sc 22)) + 1) q_139.2).2.1)) (ua ar 8 ((p_tools (ar 5) (sc 13) ((4 * (sc 22)) + 1) q_139.2).2.2))) := hD
          have b_145 := p_tools_r (len := sc 13) (pl := ((4 * (sc 22)) + 1)) (x := q_139.2) hI (by omega)
          obtain ⟨q_144, eq_144⟩ : ∃ zz : PR, zz = p_tools (ar 5) (sc 13) ((4 * (sc 22)) + 1) q_139.2 := ⟨_, rfl⟩
          rw [← eq_144] at hP hD b_145 ⊢
          refine n_ifb_eq (tgt := 127) hx hb dX5_commandHere_120 (by decide) (fun c_146 => ?_) (fun c_146 => ?_)
          · refine lv_iconst (v := iI 0) hx hb dX5_commandHere_127 rfl ?_
            have hfin : 0 = b2 ((p_cmd (ar 5) (sc 13) (sc 22) ps).1) := by
              simp only [p_cmd, p_if, p_and, ← eq_1, ← eq_4, ← eq_7, ← eq_139, ← eq_144, c_3, c_6, c_9, c_141, c_146, b2_t, Bool.false_eq_true, if_true, if_false, b2_f]
            have w_147 : q_144.2.1 = (p_cmd (ar 5) (sc 13) (sc 22) ps).2.1 := by
              simp only [p_cmd, p_if, p_and, ← eq_1, ← eq_4, ← eq_7, ← eq_139, ← eq_144, c_3, c_6, c_9, c_141, c_146, b2_t, Bool.false_eq_true, if_true, if_false, b2_f]
            rw [show (us sc 20 q_144.2.1) = (us sc 20 ((p_cmd (ar 5) (sc 13) (sc 22) ps).2.1)) from congrArg (fun z0 : Int => (us sc 20 z0)) w_147] at hP hD
            have w_148 : q_144.2.2 = (p_cmd (ar 5) (sc 13) (sc 22) ps).2.2 := by
              simp only [p_cmd, p_if, p_and, ← eq_1, ← eq_4, ← eq_7, ← eq_139, ← eq_144, c_3, c_6, c_9, c_141, c_146, b2_t, Bool.false_eq_true, if_true, if_false, b2_f]
            rw [show (ua ar 8 q_144.2.2) = (ua ar 8 ((p_cmd (ar 5) (sc 13) (sc 22) ps).2.2)) from congrArg (fun z0 : Int → Int => (ua ar 8 z0)) w_148] at hP hD
            exact W.zret (v := iI 0) hx hb hr (nr_b (by decide)) (fun tt_ ht_ hW_ => ⟨⟨iI 0, (), rfl, (congrArg iI hfin), by rw [ht_]; exact hP, hD⟩, hS.F ht_⟩) hS.2.2 dX5_commandHere_128
          · refine lv_iconst (v := iI 1) hx hb dX5_commandHere_123 rfl ?_
            refine lv_goto (tgt := 128) hx hb dX5_commandHere_124 (by decide) ?_
            have hfin : 1 = b2 ((p_cmd (ar 5) (sc 13) (sc 22) ps).1) := by
              simp only [p_cmd, p_if, p_and, ← eq_1, ← eq_4, ← eq_7, ← eq_139, ← eq_144, c_3, c_6, c_9, c_141, c_146, b2_t, Bool.false_eq_true, if_true, if_false, b2_f]
            have w_149 : q_144.2.1 = (p_cmd (ar 5) (sc 13) (sc 22) ps).2.1 := by
              simp only [p_cmd, p_if, p_and, ← eq_1, ← eq_4, ← eq_7, ← eq_139, ← eq_144, c_3, c_6, c_9, c_141, c_146, b2_t, Bool.false_eq_true, if_true, if_false, b2_f]
            rw [show (us sc 20 q_144.2.1) = (us sc 20 ((p_cmd (ar 5) (sc 13) (sc 22) ps).2.1)) from congrArg (fun z0 : Int => (us sc 20 z0)) w_149] at hP hD
            have w_150 : q_144.2.2 = (p_cmd (ar 5) (sc 13) (sc 22) ps).2.2 := by
              simp only [p_cmd, p_if, p_and, ← eq_1, ← eq_4, ← eq_7, ← eq_139, ← eq_144, c_3, c_6, c_9, c_141, c_146, b2_t, Bool.false_eq_true, if_true, if_false, b2_f]
            rw [show (ua ar 8 q_144.2.2) = (ua ar 8 ((p_cmd (ar 5) (sc 13) (sc 22) ps).2.2)) from congrArg (fun z0 : Int → Int => (ua ar 8 z0)) w_150] at hP hD
            exact W.zret (v := iI 1) hx hb hr (nr_b (by decide)) (fun tt_ ht_ hW_ => ⟨⟨iI 1, (), rfl, (congrArg iI hfin), by rw [ht_]; exact hP, hD⟩, hS.F ht_⟩) hS.2.2 dX5_commandHere_128
    · refine lv_aload_n hx hb dX5_commandHere_72 rfl (lv_at hl 1 rfl) ?_
      refine lv_iconst (v := iI 1) hx hb dX5_commandHere_73 rfl ?_
      refine va_ldcS hx hb (own := RX5) (tx := "rop") (index := 243) (q := EX E (2 * 22)) hown (hK.ks ("ClockworkTailorModel", 243, "rop", 22) (List.mem_of_getElem? (i := 22) rfl)) dX5_commandHere_74 ?_
      refine n_cui (x := b2 ((p_word (ar 5) (sc 13) (4 * sc 22) 1 (TX.getD 22 []) q_4.2).1)) (va_runV (As := [iv 1, .ref (EX E (2 * 22))]) (rest := []) ⟨hx, hb, hml, hown, hts⟩ (mt_X5_isWord l E o (us sc 20 q_4.2.1) (ua ar 8 q_4.2.2) 1 22 q_4.2 (by exact hI) (by exact hln) (by show 0 ≤ q_4.2.1 ∧ q_4.2.1 ≤ sc 13; omega) (by omega) (by decide) (by show 0 ≤ sc 22 ∧ sc 22 ≤ 30; omega) _) (cwV 2 hts (lw_V q2465 q2467 qs86 q113 q2468) rfl rfl rfl (by decide +kernel) ⟨Nat.le_of_ble_eq_true rfl, Nat.le_of_ble_eq_true rfl⟩) (UX_V hP hK (hD) hE hS (va_A_in hD hS hA) (va_recv hK.1 hP (ci := 0) (q0 := 0) rfl rfl)) rfl rfl hl.1 rfl (lv_room (Nat.le_of_ble_eq_true rfl)) dX5_commandHere_76 ⟨Nat.le_of_ble_eq_true rfl, Nat.le_of_ble_eq_true rfl⟩) hD hS hA (fun H locs hP hD hS => ?_)
      have hP : va_P E.1 CL (MW E o (us sc 20 ((p_word (ar 5) (sc 13) (4 * sc 22) 1 (TX.getD 22 []) q_4.2).2.1)) (ua ar 8 ((p_word (ar 5) (sc 13) (4 * sc 22) 1 (TX.getD 22 []) q_4.2).2.2))) H := hP
      have hD : va_D A (MW E o (us sc 20 ((p_word (ar 5) (sc 13) (4 * sc 22) 1 (TX.getD 22 []) q_4.2).2.1)) (ua ar 8 ((p_word (ar 5) (sc 13) (4 * sc 22) 1 (TX.getD 22 []) q_4.2).2.2))) := hD
      have b_152 := p_word_r (len := sc 13) (pl := 4 * sc 22) (w := 1) (k := 22) (x := q_4.2) hI (by omega)
      obtain ⟨q_151, eq_151⟩ : ∃ zz : PR, zz = p_word (ar 5) (sc 13) (4 * sc 22) 1 (TX.getD 22 []) q_4.2 := ⟨_, rfl⟩
      rw [← eq_151] at hP hD b_152 ⊢
      refine n_ifb_eq (tgt := 94) hx hb dX5_commandHere_79 (by decide) (fun c_153 => ?_) (fun c_153 => ?_)
      · refine lv_iconst (v := iI 0) hx hb dX5_commandHere_94 rfl ?_
        have hfin : 0 = b2 ((p_cmd (ar 5) (sc 13) (sc 22) ps).1) := by
          simp only [p_cmd, p_if, p_and, ← eq_1, ← eq_4, ← eq_151, c_3, c_6, c_153, b2_t, Bool.false_eq_true, if_true, if_false, b2_f]
        have w_154 : q_151.2.1 = (p_cmd (ar 5) (sc 13) (sc 22) ps).2.1 := by
          simp only [p_cmd, p_if, p_and, ← eq_1, ← eq_4, ← eq_151, c_3, c_6, c_153, b2_t, Bool.false_eq_true, if_true, if_false, b2_f]
        rw [show (us sc 20 q_151.2.1) = (us sc 20 ((p_cmd (ar 5) (sc 13) (sc 22) ps).2.1)) from congrArg (fun z0 : Int => (us sc 20 z0)) w_154] at hP hD
        have w_155 : q_151.2.2 = (p_cmd (ar 5) (sc 13) (sc 22) ps).2.2 := by
          simp only [p_cmd, p_if, p_and, ← eq_1, ← eq_4, ← eq_151, c_3, c_6, c_153, b2_t, Bool.false_eq_true, if_true, if_false, b2_f]
        rw [show (ua ar 8 q_151.2.2) = (ua ar 8 ((p_cmd (ar 5) (sc 13) (sc 22) ps).2.2)) from congrArg (fun z0 : Int → Int => (ua ar 8 z0)) w_155] at hP hD
        exact W.zret (v := iI 0) hx hb hr (nr_b (by decide)) (fun tt_ ht_ hW_ => ⟨⟨iI 0, (), rfl, (congrArg iI hfin), by rw [ht_]; exact hP, hD⟩, hS.F ht_⟩) hS.2.2 dX5_commandHere_95
      · refine lv_aload_n hx hb dX5_commandHere_82 rfl (lv_at hl 1 rfl) ?_
        refine lv_iload_n hx hb dX5_commandHere_83 rfl (lv_at hl 0 rfl) ?_
        refine n_cui (x := b2 ((p_one p_tl (ar 5) (sc 13) ((4 * (sc 22)) + 1) q_151.2).1)) (va_runV (As := [iv ((4 * (sc 22)) + 1)]) (rest := []) ⟨hx, hb, hml, hown, hts⟩ (mt_X5_toolHere l E o (us sc 20 q_151.2.1) (ua ar 8 q_151.2.2) ((4 * (sc 22)) + 1) q_151.2 (by exact hI) (by exact hln) (by show 0 ≤ q_151.2.1 ∧ q_151.2.1 ≤ sc 13; omega) (by omega) _) (cwV 1 hts (lw_V q2471 q2473 qs87 q113 q2474) rfl rfl rfl (by decide +kernel) ⟨Nat.le_of_ble_eq_true rfl, Nat.le_of_ble_eq_true rfl⟩) (UW_V hP hK (hD) (va_recv hK.1 hP (ci := 0) (q0 := 0) rfl rfl)) rfl rfl hl.1 rfl (lv_room (Nat.le_of_ble_eq_true rfl)) dX5_commandHere_84 ⟨Nat.le_of_ble_eq_true rfl, Nat.le_of_ble_eq_true rfl⟩) hD hS hA (fun H locs hP hD hS => ?_)
        have hP : va_P E.1 CL (MW E o (us sc 20 ((p_one p_tl (ar 5) (sc 13) ((4 * (sc 22)) + 1) q_151.2).2.1)) (ua ar 8 ((p_one p_tl (ar 5) (sc 13) ((4 * (sc 22)) + 1) q_151.2).2.2))) H := hP
        have hD : va_D A (MW E o (us sc 20 ((p_one p_tl (ar 5) (sc 13) ((4 * (sc 22)) + 1) q_151.2).2.1)) (ua ar 8 ((p_one p_tl (ar 5) (sc 13) ((4 * (sc 22)) + 1) q_151.2).2.2))) := hD
        have b_157 := p_one_r p_tl_0 (len := sc 13) (pl := ((4 * (sc 22)) + 1)) (x := q_151.2) hI (by omega)
        obtain ⟨q_156, eq_156⟩ : ∃ zz : PR, zz = p_one p_tl (ar 5) (sc 13) ((4 * (sc 22)) + 1) q_151.2 := ⟨_, rfl⟩
        rw [← eq_156] at hP hD b_157 ⊢
        refine n_ifb_eq (tgt := 94) hx hb dX5_commandHere_87 (by decide) (fun c_158 => ?_) (fun c_158 => ?_)
        · refine lv_iconst (v := iI 0) hx hb dX5_commandHere_94 rfl ?_
          have hfin : 0 = b2 ((p_cmd (ar 5) (sc 13) (sc 22) ps).1) := by
            simp only [p_cmd, p_if, p_and, ← eq_1, ← eq_4, ← eq_151, ← eq_156, c_3, c_6, c_153, c_158, b2_t, Bool.false_eq_true, if_true, if_false, b2_f]
          have w_159 : q_156.2.1 = (p_cmd (ar 5) (sc 13) (sc 22) ps).2.1 := by
            simp only [p_cmd, p_if, p_and, ← eq_1, ← eq_4, ← eq_151, ← eq_156, c_3, c_6, c_153, c_158, b2_t, Bool.false_eq_true, if_true, if_false, b2_f]
          rw [show (us sc 20 q_156.2.1) = (us sc 20 ((p_cmd (ar 5) (sc 13) (sc 22) ps).2.1)) from congrArg (fun z0 : Int => (us sc 20 z0)) w_159] at hP hD
          have w_160 : q_156.2.2 = (p_cmd (ar 5) (sc 13) (sc 22) ps).2.2 := by
            simp only [p_cmd, p_if, p_and, ← eq_1, ← eq_4, ← eq_151, ← eq_156, c_3, c_6, c_153, c_158, b2_t, Bool.false_eq_true, if_true, if_false, b2_f]
          rw [show (ua ar 8 q_156.2.2) = (ua ar 8 ((p_cmd (ar 5) (sc 13) (sc 22) ps).2.2)) from congrArg (fun z0 : Int → Int => (ua ar 8 z0)) w_160] at hP hD
          exact W.zret (v := iI 0) hx hb hr (nr_b (by decide)) (fun tt_ ht_ hW_ => ⟨⟨iI 0, (), rfl, (congrArg iI hfin), by rw [ht_]; exact hP, hD⟩, hS.F ht_⟩) hS.2.2 dX5_commandHere_95
        · refine lv_iconst (v := iI 1) hx hb dX5_commandHere_90 rfl ?_
          refine lv_goto (tgt := 95) hx hb dX5_commandHere_91 (by decide) ?_
          have hfin : 1 = b2 ((p_cmd (ar 5) (sc 13) (sc 22) ps).1) := by
            simp only [p_cmd, p_if, p_and, ← eq_1, ← eq_4, ← eq_151, ← eq_156, c_3, c_6, c_153, c_158, b2_t, Bool.false_eq_true, if_true, if_false, b2_f]
          have w_161 : q_156.2.1 = (p_cmd (ar 5) (sc 13) (sc 22) ps).2.1 := by
            simp only [p_cmd, p_if, p_and, ← eq_1, ← eq_4, ← eq_151, ← eq_156, c_3, c_6, c_153, c_158, b2_t, Bool.false_eq_true, if_true, if_false, b2_f]
          rw [show (us sc 20 q_156.2.1) = (us sc 20 ((p_cmd (ar 5) (sc 13) (sc 22) ps).2.1)) from congrArg (fun z0 : Int => (us sc 20 z0)) w_161] at hP hD
          have w_162 : q_156.2.2 = (p_cmd (ar 5) (sc 13) (sc 22) ps).2.2 := by
            simp only [p_cmd, p_if, p_and, ← eq_1, ← eq_4, ← eq_151, ← eq_156, c_3, c_6, c_153, c_158, b2_t, Bool.false_eq_true, if_true, if_false, b2_f]
          rw [show (ua ar 8 q_156.2.2) = (ua ar 8 ((p_cmd (ar 5) (sc 13) (sc 22) ps).2.2)) from congrArg (fun z0 : Int → Int => (ua ar 8 z0)) w_162] at hP hD
          exact W.zret (v := iI 1) hx hb hr (nr_b (by decide)) (fun tt_ ht_ hW_ => ⟨⟨iI 1, (), rfl, (congrArg iI hfin), by rw [ht_]; exact hP, hD⟩, hS.F ht_⟩) hS.2.2 dX5_commandHere_95
  · refine lv_aload_n hx hb dX5_commandHere_18 rfl (lv_at hl 1 rfl) ?_
    refine lv_iconst (v := iI 0) hx hb dX5_commandHere_19 rfl ?_
    refine va_ldcS hx hb (own := RX5) (tx := "ecipe") (index := 231) (q := EX E (2 * 21)) hown (hK.ks ("ClockworkTailorModel", 231, "ecipe", 21) (List.mem_of_getElem? (i := 21) rfl)) dX5_commandHere_20 ?_
    refine n_cui (x := b2 ((p_word (ar 5) (sc 13) (4 * sc 22) 0 (TX.getD 21 []) q_1.2).1)) (va_runV (As := [iv 0, .ref (EX E (2 * 21))]) (rest := []) ⟨hx, hb, hml, hown, hts⟩ (mt_X5_isWord l E o (us sc 20 q_1.2.1) (ua ar 8 q_1.2.2) 0 21 q_1.2 (by exact hI) (by exact hln) (by show 0 ≤ q_1.2.1 ∧ q_1.2.1 ≤ sc 13; omega) (by omega) (by decide) (by show 0 ≤ sc 22 ∧ sc 22 ≤ 30; omega) _) (cwV 2 hts (lw_V q2465 q2467 qs86 q113 q2468) rfl rfl rfl (by decide +kernel) ⟨Nat.le_of_ble_eq_true rfl, Nat.le_of_ble_eq_true rfl⟩) (UX_V hP hK (hD) hE hS (va_A_in hD hS hA) (va_recv hK.1 hP (ci := 0) (q0 := 0) rfl rfl)) rfl rfl hl.1 rfl (lv_room (Nat.le_of_ble_eq_true rfl)) dX5_commandHere_22 ⟨Nat.le_of_ble_eq_true rfl, Nat.le_of_ble_eq_true rfl⟩) hD hS hA (fun H locs hP hD hS => ?_)
    have hP : va_P E.1 CL (MW E o (us sc 20 ((p_word (ar 5) (sc 13) (4 * sc 22) 0 (TX.getD 21 []) q_1.2).2.1)) (ua ar 8 ((p_word (ar 5) (sc 13) (4 * sc 22) 0 (TX.getD 21 []) q_1.2).2.2))) H := hP
    have hD : va_D A (MW E o (us sc 20 ((p_word (ar 5) (sc 13) (4 * sc 22) 0 (TX.getD 21 []) q_1.2).2.1)) (ua ar 8 ((p_word (ar 5) (sc 13) (4 * sc 22) 0 (TX.getD 21 []) q_1.2).2.2))) := hD
    have b_164 := p_word_r (len := sc 13) (pl := 4 * sc 22) (w := 0) (k := 21) (x := q_1.2) hI (by omega)
    obtain ⟨q_163, eq_163⟩ : ∃ zz : PR, zz = p_word (ar 5) (sc 13) (4 * sc 22) 0 (TX.getD 21 []) q_1.2 := ⟨_, rfl⟩
    rw [← eq_163] at hP hD b_164 ⊢
    refine n_ifb_eq (tgt := 61) hx hb dX5_commandHere_25 (by decide) (fun c_165 => ?_) (fun c_165 => ?_)
    · refine lv_iconst (v := iI 0) hx hb dX5_commandHere_61 rfl ?_
      have hfin : 0 = b2 ((p_cmd (ar 5) (sc 13) (sc 22) ps).1) := by
        simp only [p_cmd, p_if, p_and, ← eq_1, ← eq_163, c_3, c_165, b2_t, Bool.false_eq_true, if_true, if_false, b2_f]
      have w_166 : q_163.2.1 = (p_cmd (ar 5) (sc 13) (sc 22) ps).2.1 := by
        simp only [p_cmd, p_if, p_and, ← eq_1, ← eq_163, c_3, c_165, b2_t, Bool.false_eq_true, if_true, if_false, b2_f]
      rw [show (us sc 20 q_163.2.1) = (us sc 20 ((p_cmd (ar 5) (sc 13) (sc 22) ps).2.1)) from congrArg (fun z0 : Int => (us sc 20 z0)) w_166] at hP hD
      have w_167 : q_163.2.2 = (p_cmd (ar 5) (sc 13) (sc 22) ps).2.2 := by
        simp only [p_cmd, p_if, p_and, ← eq_1, ← eq_163, c_3, c_165, b2_t, Bool.false_eq_true, if_true, if_false, b2_f]
      rw [show (ua ar 8 q_163.2.2) = (ua ar 8 ((p_cmd (ar 5) (sc 13) (sc 22) ps).2.2)) from congrArg (fun z0 : Int → Int => (ua ar 8 z0)) w_167] at hP hD
      exact W.zret (v := iI 0) hx hb hr (nr_b (by decide)) (fun tt_ ht_ hW_ => ⟨⟨iI 0, (), rfl, (congrArg iI hfin), by rw [ht_]; exact hP, hD⟩, hS.F ht_⟩) hS.2.2 dX5_commandHere_62
    · refine lv_aload_n hx hb dX5_commandHere_28 rfl (lv_at hl 1 rfl) ?_
      refine lv_iload_n hx hb dX5_commandHere_29 rfl (lv_at hl 0 rfl) ?_
      refine n_cui (x := b2 ((p_one p_tl (ar 5) (sc 13) ((4 * (sc 22)) + 1) q_163.2).1)) (va_runV (As := [iv ((4 * (sc 22)) + 1)]) (rest := []) ⟨hx, hb, hml, hown, hts⟩ (mt_X5_toolHere l E o (us sc 20 q_163.2.1) (ua ar 8 q_163.2.2) ((4 * (sc 22)) + 1) q_163.2 (by exact hI) (by exact hln) (by show 0 ≤ q_163.2.1 ∧ q_163.2.1 ≤ sc 13; omega) (by omega) _) (cwV 1 hts (lw_V q2471 q2473 qs87 q113 q2474) rfl rfl rfl (by decide +kernel) ⟨Nat.le_of_ble_eq_true rfl, Nat.le_of_ble_eq_true rfl⟩) (UW_V hP hK (hD) (va_recv hK.1 hP (ci := 0) (q0 := 0) rfl rfl)) rfl rfl hl.1 rfl (lv_room (Nat.le_of_ble_eq_true rfl)) dX5_commandHere_30 ⟨Nat.le_of_ble_eq_true rfl, Nat.le_of_ble_eq_true rfl⟩) hD hS hA (fun H locs hP hD hS => ?_)
      have hP : va_P E.1 CL (MW E o (us sc 20 ((p_one p_tl (ar 5) (sc 13) ((4 * (sc 22)) + 1) q_163.2).2.1)) (ua ar 8 ((p_one p_tl (ar 5) (sc 13) ((4 * (sc 22)) + 1) q_163.2).2.2))) H := hP
      have hD : va_D A (MW E o (us sc 20 ((p_one p_tl (ar 5) (sc 13) ((4 * (sc 22)) + 1) q_163.2).2.1)) (ua ar 8 ((p_one p_tl (ar 5) (sc 13) ((4 * (sc 22)) + 1) q_163.2).2.2))) := hD
      have b_169 := p_one_r p_tl_0 (len := sc 13) (pl := ((4 * (sc 22)) + 1)) (x := q_163.2) hI (by omega)
      obtain ⟨q_168, eq_168⟩ : ∃ zz : PR, zz = p_one p_tl (ar 5) (sc 13) ((4 * (sc 22)) + 1) q_163.2 := ⟨_, rfl⟩
      rw [← eq_168] at hP hD b_169 ⊢
      refine n_ifb_eq (tgt := 61) hx hb dX5_commandHere_33 (by decide) (fun c_170 => ?_) (fun c_170 => ?_)
      · refine lv_iconst (v := iI 0) hx hb dX5_commandHere_61 rfl ?_
        have hfin : 0 = b2 ((p_cmd (ar 5) (sc 13) (sc 22) ps).1) := by
          simp only [p_cmd, p_if, p_and, ← eq_1, ← eq_163, ← eq_168, c_3, c_165, c_170, b2_t, Bool.false_eq_true, if_true, if_false, b2_f]
        have w_171 : q_168.2.1 = (p_cmd (ar 5) (sc 13) (sc 22) ps).2.1 := by
          simp only [p_cmd, p_if, p_and, ← eq_1, ← eq_163, ← eq_168, c_3, c_165, c_170, b2_t, Bool.false_eq_true, if_true, if_false, b2_f]
        rw [show (us sc 20 q_168.2.1) = (us sc 20 ((p_cmd (ar 5) (sc 13) (sc 22) ps).2.1)) from congrArg (fun z0 : Int => (us sc 20 z0)) w_171] at hP hD
        have w_172 : q_168.2.2 = (p_cmd (ar 5) (sc 13) (sc 22) ps).2.2 := by
          simp only [p_cmd, p_if, p_and, ← eq_1, ← eq_163, ← eq_168, c_3, c_165, c_170, b2_t, Bool.false_eq_true, if_true, if_false, b2_f]
        rw [show (ua ar 8 q_168.2.2) = (ua ar 8 ((p_cmd (ar 5) (sc 13) (sc 22) ps).2.2)) from congrArg (fun z0 : Int → Int => (ua ar 8 z0)) w_172] at hP hD
        exact W.zret (v := iI 0) hx hb hr (nr_b (by decide)) (fun tt_ ht_ hW_ => ⟨⟨iI 0, (), rfl, (congrArg iI hfin), by rw [ht_]; exact hP, hD⟩, hS.F ht_⟩) hS.2.2 dX5_commandHere_62
      · refine lv_aload_n hx hb dX5_commandHere_36 rfl (lv_at hl 1 rfl) ?_
        refine lv_iload_n hx hb dX5_commandHere_37 rfl (lv_at hl 0 rfl) ?_
        refine lv_iconst (v := iI 1) hx hb dX5_commandHere_38 rfl ?_
        refine n_iadd hx hb dX5_commandHere_39 ?_
        refine n_cui (x := b2 ((p_one p_sc (ar 5) (sc 13) (((4 * (sc 22)) + 1) + 1) q_168.2).1)) (va_runV (As := [iv (((4 * (sc 22)) + 1) + 1)]) (rest := []) ⟨hx, hb, hml, hown, hts⟩ (mt_X5_scopeHere l E o (us sc 20 q_168.2.1) (ua ar 8 q_168.2.2) (((4 * (sc 22)) + 1) + 1) q_168.2 (by exact hI) (by exact hln) (by show 0 ≤ q_168.2.1 ∧ q_168.2.1 ≤ sc 13; omega) (by omega) _) (cwV 1 hts (lw_V q2475 q2477 qs88 q113 q2478) rfl rfl rfl (by decide +kernel) ⟨Nat.le_of_ble_eq_true rfl, Nat.le_of_ble_eq_true rfl⟩) (UW_V hP hK (hD) (va_recv hK.1 hP (ci := 0) (q0 := 0) rfl rfl)) rfl rfl hl.1 rfl (lv_room (Nat.le_of_ble_eq_true rfl)) dX5_commandHere_40 ⟨Nat.le_of_ble_eq_true rfl, Nat.le_of_ble_eq_true rfl⟩) hD hS hA (fun H locs hP hD hS => ?_)
        have hP : va_P E.1 CL (MW E o (us sc 20 ((p_one p_sc (ar 5) (sc 13) (((4 * (sc 22)) + 1) + 1) q_168.2).2.1)) (ua ar 8 ((p_one p_sc (ar 5) (sc 13) (((4 * (sc 22)) + 1) + 1) q_168.2).2.2))) H := hP
        have hD : va_D A (MW E o (us sc 20 ((p_one p_sc (ar 5) (sc 13) (((4 * (sc 22)) + 1) + 1) q_168.2).2.1)) (ua ar 8 ((p_one p_sc (ar 5) (sc 13) (((4 * (sc 22)) + 1) + 1) q_168.2).2.2))) := hD
        have b_174 := p_one_r p_sc_0 (len := sc 13) (pl := (((4 * (sc 22)) + 1) + 1)) (x := q_168.2) hI (by omega)
        obtain ⟨q_173, eq_173⟩ : ∃ zz : PR, zz = p_one p_sc (ar 5) (sc 13) (((4 * (sc 22)) + 1) + 1) q_168.2 := ⟨_, rfl⟩
        rw [← eq_173] at hP hD b_174 ⊢
        refine n_ifb_eq (tgt := 61) hx hb dX5_commandHere_43 (by decide) (fun c_175 => ?_) (fun c_175 => ?_)
        · refine lv_iconst (v := iI 0) hx hb dX5_commandHere_61 rfl ?_
          have hfin : 0 = b2 ((p_cmd (ar 5) (sc 13) (sc 22) ps).1) := by
            simp only [p_cmd, p_if, p_and, ← eq_1, ← eq_163, ← eq_168, ← eq_173, c_3, c_165, c_170, c_175, b2_t, Bool.false_eq_true, if_true, if_false, b2_f]
          have w_176 : q_173.2.1 = (p_cmd (ar 5) (sc 13) (sc 22) ps).2.1 := by
            simp only [p_cmd, p_if, p_and, ← eq_1, ← eq_163, ← eq_168, ← eq_173, c_3, c_165, c_170, c_175, b2_t, Bool.false_eq_true, if_true, if_false, b2_f]
          rw [show (us sc 20 q_173.2.1) = (us sc 20 ((p_cmd (ar 5) (sc 13) (sc 22) ps).2.1)) from congrArg (fun z0 : Int => (us sc 20 z0)) w_176] at hP hD
          have w_177 : q_173.2.2 = (p_cmd (ar 5) (sc 13) (sc 22) ps).2.2 := by
            simp only [p_cmd, p_if, p_and, ← eq_1, ← eq_163, ← eq_168, ← eq_173, c_3, c_165, c_170, c_175, b2_t, Bool.false_eq_true, if_true, if_false, b2_f]
          rw [show (ua ar 8 q_173.2.2) = (ua ar 8 ((p_cmd (ar 5) (sc 13) (sc 22) ps).2.2)) from congrArg (fun z0 : Int → Int => (ua ar 8 z0)) w_177] at hP hD
          exact W.zret (v := iI 0) hx hb hr (nr_b (by decide)) (fun tt_ ht_ hW_ => ⟨⟨iI 0, (), rfl, (congrArg iI hfin), by rw [ht_]; exact hP, hD⟩, hS.F ht_⟩) hS.2.2 dX5_commandHere_62
        · refine lv_aload_n hx hb dX5_commandHere_46 rfl (lv_at hl 1 rfl) ?_
          refine lv_iload_n hx hb dX5_commandHere_47 rfl (lv_at hl 0 rfl) ?_
          refine lv_iconst (v := iI 2) hx hb dX5_commandHere_48 rfl ?_
          refine n_iadd hx hb dX5_commandHere_49 ?_
          refine lv_iconst (v := iI 2) hx hb dX5_commandHere_50 rfl ?_
          refine n_cui (x := b2 ((p_fig (ar 5) (sc 13) (((4 * (sc 22)) + 1) + 2) 2 q_173.2).1)) (va_runV (As := [iv (((4 * (sc 22)) + 1) + 2), iv 2]) (rest := []) ⟨hx, hb, hml, hown, hts⟩ (mt_X5_figures l E o (us sc 20 q_173.2.1) (ua ar 8 q_173.2.2) (((4 * (sc 22)) + 1) + 2) 2 q_173.2 (by exact hI) (by exact hln) (by show 0 ≤ q_173.2.1 ∧ q_173.2.1 ≤ sc 13; omega) (by omega) (by omega) _) (cwV 2 hts (lw_V q2479 q2481 qs89 q113 q2482) rfl rfl rfl (by decide +kernel) ⟨Nat.le_of_ble_eq_true rfl, Nat.le_of_ble_eq_true rfl⟩) (UW_V hP hK (hD) (va_recv hK.1 hP (ci := 0) (q0 := 0) rfl rfl)) rfl rfl hl.1 rfl (lv_room (Nat.le_of_ble_eq_true rfl)) dX5_commandHere_51 ⟨Nat.le_of_ble_eq_true rfl, Nat.le_of_ble_eq_true rfl⟩) hD hS hA (fun H locs hP hD hS => ?_)
          have hP : va_P E.1 CL (MW E o (us sc 20 ((p_fig (ar 5) (sc 13) (((4 * (sc 22)) + 1) + 2) 2 q_173.2).2.1)) (ua ar 8 ((p_fig (ar 5) (sc 13) (((4 * (sc 22)) + 1) + 2) 2 q_173.2).2.2))) H := hP
          have hD : va_D A (MW E o (us sc 20 ((p_fig (ar 5) (sc 13) (((4 * (sc 22)) + 1) + 2) 2 q_173.2).2.1)) (ua ar 8 ((p_fig (ar 5) (sc 13) (((4 * (sc 22)) + 1) + 2) 2 q_173.2).2.2))) := hD
          have b_179 := p_fig_r (len := sc 13) (pl := (((4 * (sc 22)) + 1) + 2)) (dg := 2) (x := q_173.2) hI (by omega)
          obtain ⟨q_178, eq_178⟩ : ∃ zz : PR, zz = p_fig (ar 5) (sc 13) (((4 * (sc 22)) + 1) + 2) 2 q_173.2 := ⟨_, rfl⟩
          rw [← eq_178] at hP hD b_179 ⊢
          refine n_ifb_eq (tgt := 61) hx hb dX5_commandHere_54 (by decide) (fun c_180 => ?_) (fun c_180 => ?_)
          · refine lv_iconst (v := iI 0) hx hb dX5_commandHere_61 rfl ?_
            have hfin : 0 = b2 ((p_cmd (ar 5) (sc 13) (sc 22) ps).1) := by
              simp only [p_cmd, p_if, p_and, ← eq_1, ← eq_163, ← eq_168, ← eq_173, ← eq_178, c_3, c_165, c_170, c_175, c_180, b2_t, Bool.false_eq_true, if_true, if_false, b2_f]
            have w_181 : q_178.2.1 = (p_cmd (ar 5) (sc 13) (sc 22) ps).2.1 := by
              simp only [p_cmd, p_if, p_and, ← eq_1, ← eq_163, ← eq_168, ← eq_173, ← eq_178, c_3, c_165, c_170, c_175, c_180, b2_t, Bool.false_eq_true, if_true, if_false, b2_f]
            rw [show (us sc 20 q_178.2.1) = (us sc 20 ((p_cmd (ar 5) (sc 13) (sc 22) ps).2.1)) from congrArg (fun z0 : Int => (us sc 20 z0)) w_181] at hP hD
            have w_182 : q_178.2.2 = (p_cmd (ar 5) (sc 13) (sc 22) ps).2.2 := by
              simp only [p_cmd, p_if, p_and, ← eq_1, ← eq_163, ← eq_168, ← eq_173, ← eq_178, c_3, c_165, c_170, c_175, c_180, b2_t, Bool.false_eq_true, if_true, if_false, b2_f]
            rw [show (ua ar 8 q_178.2.2) = (ua ar 8 ((p_cmd (ar 5) (sc 13) (sc 22) ps).2.2)) from congrArg (fun z0 : Int → Int => (ua ar 8 z0)) w_182] at hP hD
            exact W.zret (v := iI 0) hx hb hr (nr_b (by decide)) (fun tt_ ht_ hW_ => ⟨⟨iI 0, (), rfl, (congrArg iI hfin), by rw [ht_]; exact hP, hD⟩, hS.F ht_⟩) hS.2.2 dX5_commandHere_62
          · refine lv_iconst (v := iI 1) hx hb dX5_commandHere_57 rfl ?_
            refine lv_goto (tgt := 62) hx hb dX5_commandHere_58 (by decide) ?_
            have hfin : 1 = b2 ((p_cmd (ar 5) (sc 13) (sc 22) ps).1) := by
              simp only [p_cmd, p_if, p_and, ← eq_1, ← eq_163, ← eq_168, ← eq_173, ← eq_178, c_3, c_165, c_170, c_175, c_180, b2_t, Bool.false_eq_true, if_true, if_false, b2_f]
            have w_183 : q_178.2.1 = (p_cmd (ar 5) (sc 13) (sc 22) ps).2.1 := by
              simp only [p_cmd, p_if, p_and, ← eq_1, ← eq_163, ← eq_168, ← eq_173, ← eq_178, c_3, c_165, c_170, c_175, c_180, b2_t, Bool.false_eq_true, if_true, if_false, b2_f]
            rw [show (us sc 20 q_178.2.1) = (us sc 20 ((p_cmd (ar 5) (sc 13) (sc 22) ps).2.1)) from congrArg (fun z0 : Int => (us sc 20 z0)) w_183] at hP hD
            have w_184 : q_178.2.2 = (p_cmd (ar 5) (sc 13) (sc 22) ps).2.2 := by
              simp only [p_cmd, p_if, p_and, ← eq_1, ← eq_163, ← eq_168, ← eq_173, ← eq_178, c_3, c_165, c_170, c_175, c_180, b2_t, Bool.false_eq_true, if_true, if_false, b2_f]
            rw [show (ua ar 8 q_178.2.2) = (ua ar 8 ((p_cmd (ar 5) (sc 13) (sc 22) ps).2.2)) from congrArg (fun z0 : Int → Int => (ua ar 8 z0)) w_184] at hP hD
            exact W.zret (v := iI 1) hx hb hr (nr_b (by decide)) (fun tt_ ht_ hW_ => ⟨⟨iI 1, (), rfl, (congrArg iI hfin), by rw [ht_]; exact hP, hD⟩, hS.F ht_⟩) hS.2.2 dX5_commandHere_62
