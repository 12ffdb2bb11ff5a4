set_option maxHeartbeats 4000000 in
set_option maxRecDepth 100000 in
theorem mt_X5_longest (l : Launch) (E : EE) (d : Nat) : ∀ (o : Nat → Nat) (sc : Nat → Int) (ar : Nat → Int → Int) (t : Int) (r : Int → Nat) (hB : ∀ k x, 0 ≤ ar k x ∧ ar k x < 2147483648) (h : 0 ≤ t ∧ t < 8) (htw : TW (ar 1)) (hsw : SwOK (ar 1)) (htm : TM (ar 1)) (hrk : RK (ar 1) r) (hd : r t < d) (hd9 : d ≤ 8), Met l yX5_longest (ws_ yX5_longest cX5_longest 4 (some .int)) { frames := 2 + d, cells := 0, slots := 0, locals := 44 + 23 * d } (va_Pc [.ref (o 0), iv t] (PW E (MW E o sc ar))) (NP (m_lng (ar 1) d t)) 0 0 (fun _ => False) := by
  induction d with
  | zero => intro o sc ar t r hB h htw hsw htm hrk hd hd9; exfalso; omega
  | succ d ihd =>
    intro o sc ar t r hB h htw hsw htm hrk hd hd9
    refine Met.ofW (cc := cX5_longest) (maxL := 4) (ret := (some .int)) (by decide) rfl ?_
    intro p e s m args below meth c s₁ B hml hv
    obtain ⟨rfl, hP, hK⟩ := hv
    have hx := B.exec
    have hb := B.bytes
    have hr := B.returns
    have hts := atoms_spec (ws := (ws_ yX5_longest cX5_longest 4 (some .int))) B.pre
    have hts : ∀ w ∈ lw_all, w.before _ s = true := fun w h => hts w (List.mem_cons_of_mem _ h)
    have hown : s.vm.findClass RX5 = some m.cls := findClass_of_methodNamed B.named
    have hlocks := B.notSynchronized
    have hl := lv_entry ([.ref (o 0), iv t]) (n := 4) (Nat.le_of_ble_eq_true rfl)
    rw [lg_entry_eq]
    generalize (lg_sl ([.ref (o 0), iv t]) ++ List.replicate (4 - (lg_sl ([.ref (o 0), iv t])).length) Slot.unset).toArray = ls at hl ⊢
    have hl : lv_has ls 4 [(0, .ref (o 0)), (1, iv t)] := hl
    have hnn := htw t h.1 h.2
    refine lv_iconst (v := iI 0) hx hb dX5_longest_0 rfl ?_
    refine lv_istore_n (lv' := [(2, iv 0), (0, .ref (o 0)), (1, iv t)]) hx hb dX5_longest_1 rfl hl (by decide) rfl (fun ls hl => ?_)
    refine lv_iconst (v := iI 0) hx hb dX5_longest_2 rfl ?_
    refine lv_istore_n (lv' := [(3, iv 0), (2, iv 0), (0, .ref (o 0)), (1, iv t)]) hx hb dX5_longest_3 rfl hl (by decide) rfl (fun ls hl => ?_)
    have l4 : ∀ (fu : Nat) (x2 : Int) (x3 : Int), (0 ≤ x3 ∧ x3 ≤ m_of (ar 1) t 2) → (x2 = maxI (fun k => if m_dir (ar 1) t k = true then m_lng (ar 1) d (m_stands (ar 1) (m_need (ar 1) t k)) else 0) x3) → (0 ≤ x2 ∧ x2 ≤ 20 * (d : Int)) → (m_of (ar 1) t 2 - x3 < (fu : Int)) → ∀ ls : Array Slot, lv_has ls 4 [(3, iv x3), (2, iv x2), (0, .ref (o 0)), (1, iv t)] → W p l e (headSpec (ws_ yX5_longest cX5_longest 4 (some .int)) { frames := 2 + (d + 1), cells := 0, slots := 0, locals := 44 + 23 * (d + 1) }).room s m ([.ref (o 0), iv t] : List Value).toArray below meth c s.heap [] 0 0 (MQ below (NP (m_lng (ar 1) (d + 1) t)) ([.ref (o 0), iv t] : List Value).toArray s 0 0 (fun _ => False)) (F0 m 4 ls []) := by
      intro fu
      induction fu with
      | zero =>
        intro x2 x3 il4_0 il4_1 il4_2 hm
        exfalso; omega
      | succ fu ih =>
        intro x2 x3 il4_0 il4_1 il4_2 hm ls hl
        have ihl4 := ih
        refine lv_iload_n hx hb dX5_longest_4 rfl (lv_at hl 0 rfl) ?_
        refine lv_aload_n hx hb dX5_longest_5 rfl (lv_at hl 2 rfl) ?_
        refine lv_iload_n hx hb dX5_longest_6 rfl (lv_at hl 3 rfl) ?_
        refine lv_iconst (v := iI 2) hx hb dX5_longest_7 rfl ?_
        refine n_csi (x := m_of (ar 1) t 2) (va_runV (As := [iv t, iv 2]) (rest := [iv x3]) ⟨hx, hb, hml, hown, hts⟩ (mt_X5_of l E o sc ar t 2 (by omega)) (cwV 2 hts (lw_V q2120 q2122 qs49 q113 q2123) rfl rfl rfl (by decide +kernel) ⟨(show 0 + 1 ≤ 2 + (d + 1) by omega), (show 8 + (3 + 11) + 0 ≤ 44 + 23 * (d + 1) by omega)⟩) (PW_V hP hK (va_recv hK.1 hP (ci := 0) (q0 := 0) rfl rfl)) rfl rfl hl.1 rfl (lv_room (Nat.le_of_ble_eq_true rfl)) dX5_longest_8 ⟨Nat.le_of_ble_eq_true rfl, Nat.le_of_ble_eq_true rfl⟩) ?_
        have b_1 := (show 0 ≤ m_of (ar 1) t 2 ∧ m_of (ar 1) t 2 < 2147483648 from (hB 1) _)
        refine n_icmp_ge (tgt := 48) hx hb dX5_longest_11 (by decide) (by omega) (by omega) (fun c_2 => ?_) (fun c_2 => ?_)
        · refine lv_iload_n hx hb dX5_longest_48 rfl (lv_at hl 1 rfl) ?_
          refine lv_aload_n hx hb dX5_longest_49 rfl (lv_at hl 2 rfl) ?_
          refine lv_iload_n hx hb dX5_longest_50 rfl (lv_at hl 3 rfl) ?_
          refine lv_iconst (v := iI 1) hx hb dX5_longest_51 rfl ?_
          refine n_csi (x := m_of (ar 1) t 1) (va_runV (As := [iv t, iv 1]) (rest := [iv x2]) ⟨hx, hb, hml, hown, hts⟩ (mt_X5_of l E o sc ar t 1 (by omega)) (cwV 2 hts (lw_V q2120 q2122 qs49 q113 q2123) rfl rfl rfl (by decide +kernel) ⟨(show 0 + 1 ≤ 2 + (d + 1) by omega), (show 8 + (3 + 11) + 0 ≤ 44 + 23 * (d + 1) by omega)⟩) (PW_V hP hK (va_recv hK.1 hP (ci := 0) (q0 := 0) rfl rfl)) rfl rfl hl.1 rfl (lv_room (Nat.le_of_ble_eq_true rfl)) dX5_longest_52 ⟨Nat.le_of_ble_eq_true rfl, Nat.le_of_ble_eq_true rfl⟩) ?_
          refine n_iadd hx hb dX5_longest_55 ?_
          have hfin : x2 + (m_of (ar 1) t 1) = m_lng (ar 1) (d + 1) t := by
            obtain rfl : x3 = m_of (ar 1) t 2 := by omega
            rw [il4_1]
            rfl
          exact W.iret (v := iI (x2 + (m_of (ar 1) t 1))) hx hb hr (fun tt_ ht_ hW_ => ⟨iI (x2 + (m_of (ar 1) t 1)), rfl, (congrArg iI hfin), ht_⟩) (fun q h => by cases h) dX5_longest_56
        · refine lv_aload_n hx hb dX5_longest_14 rfl (lv_at hl 2 rfl) ?_
          refine lv_iload_n hx hb dX5_longest_15 rfl (lv_at hl 3 rfl) ?_
          refine lv_iload_n hx hb dX5_longest_16 rfl (lv_at hl 0 rfl) ?_
          refine n_csi (x := b2 (m_dir (ar 1) t x3)) (va_runV (As := [iv t, iv x3]) (rest := []) ⟨hx, hb, hml, hown, hts⟩ (mt_X5_isDirect l E o sc ar t x3 hB (by omega) (by omega)) (cwV 2 hts (lw_V q2187 q2189 qs63 q113 q2190) rfl rfl rfl (by decide +kernel) ⟨(show 1 + 1 ≤ 2 + (d + 1) by omega), (show 8 + (3 + 11) + 22 ≤ 44 + 23 * (d + 1) by omega)⟩) (PW_V hP hK (va_recv hK.1 hP (ci := 0) (q0 := 0) rfl rfl)) rfl rfl hl.1 rfl (lv_room (Nat.le_of_ble_eq_true rfl)) dX5_longest_17 ⟨Nat.le_of_ble_eq_true rfl, Nat.le_of_ble_eq_true rfl⟩) ?_
          refine n_ifb_eq (tgt := 42) hx hb dX5_longest_20 (by decide) (fun c_3 => ?_) (fun c_3 => ?_)
          · refine lv_iinc (v := iI (x3 + 1)) (lv' := [(3, iv (x3 + 1)), (2, iv x2), (0, .ref (o 0)), (1, iv t)]) hx hb dX5_longest_42 hl (k := 0) rfl (iI_add _ _) (by decide) rfl (fun ls hl => ?_)
            refine lv_goto (tgt := 4) hx hb dX5_longest_45 (by decide) ?_
            exact ihl4 x2 (x3 + 1) (by first | omega | rfl) (by rw [maxI_s (by omega), ← il4_1]; first | rw [if_pos (by assumption)] | (rw [if_neg (by simp [*])]; omega)) (by first | omega | rfl) (by omega) ls (lv_sub hl [0, 1, 2, 3] rfl)
          · refine lv_iload_n hx hb dX5_longest_23 rfl (lv_at hl 1 rfl) ?_
            refine lv_aload_n hx hb dX5_longest_24 rfl (lv_at hl 2 rfl) ?_
            refine lv_aload_n hx hb dX5_longest_25 rfl (lv_at hl 2 rfl) ?_
            refine lv_aload_n hx hb dX5_longest_26 rfl (lv_at hl 2 rfl) ?_
            refine lv_iload_n hx hb dX5_longest_27 rfl (lv_at hl 3 rfl) ?_
            refine lv_iload_n hx hb dX5_longest_28 rfl (lv_at hl 0 rfl) ?_
            refine n_csi (x := m_need (ar 1) t x3) (va_runV (As := [iv t, iv x3]) (rest := [.ref (o 0), .ref (o 0), iv x2]) ⟨hx, hb, hml, hown, hts⟩ (mt_X5_need l E o sc ar t x3 hB (by omega) (by omega)) (cwV 2 hts (lw_V q2167 q2169 qs58 q113 q2170) rfl rfl rfl (by decide +kernel) ⟨(show 1 + 1 ≤ 2 + (d + 1) by omega), (show 8 + (3 + 11) + 22 ≤ 44 + 23 * (d + 1) by omega)⟩) (PW_V hP hK (va_recv hK.1 hP (ci := 0) (q0 := 0) rfl rfl)) rfl rfl hl.1 rfl (lv_room (Nat.le_of_ble_eq_true rfl)) dX5_longest_29 ⟨Nat.le_of_ble_eq_true rfl, Nat.le_of_ble_eq_true rfl⟩) ?_
            have b_4 := (show 0 ≤ m_need (ar 1) t x3 ∧ m_need (ar 1) t x3 < 8 from ⟨Int.emod_nonneg _ (by decide), Int.emod_lt_of_pos _ (by decide)⟩)
            refine n_csi (x := m_stands (ar 1) (m_need (ar 1) t x3)) (va_runV (As := [iv (m_need (ar 1) t x3)]) (rest := [.ref (o 0), iv x2]) ⟨hx, hb, hml, hown, hts⟩ (mt_X5_stands l E o sc ar (m_need (ar 1) t x3) hB (by omega) (by assumption)) (cwV 1 hts (lw_V q2191 q2193 qs64 q113 q2194) rfl rfl rfl (by decide +kernel) ⟨(show 1 + 1 ≤ 2 + (d + 1) by omega), (show 8 + (3 + 11) + 22 ≤ 44 + 23 * (d + 1) by omega)⟩) (PW_V hP hK (va_recv hK.1 hP (ci := 0) (q0 := 0) rfl rfl)) rfl rfl hl.1 rfl (lv_room (Nat.le_of_ble_eq_true rfl)) dX5_longest_32 ⟨Nat.le_of_ble_eq_true rfl, Nat.le_of_ble_eq_true rfl⟩) ?_
            have hq := hrk t x3 h.1 h.2 (by omega) (by omega) (by assumption)
            have b_5 := m_stands_r (g := (ar 1)) (by assumption) (t := (m_need (ar 1) t x3)) (by omega)
            refine n_csi (x := m_lng (ar 1) d (m_stands (ar 1) (m_need (ar 1) t x3))) (va_runV (As := [iv (m_stands (ar 1) (m_need (ar 1) t x3))]) (rest := [iv x2]) ⟨hx, hb, hml, hown, hts⟩ (ihd o sc ar (m_stands (ar 1) (m_need (ar 1) t x3)) r hB (by omega) (by assumption) (by assumption) (by assumption) (by assumption) (by omega) (by omega)) (cwV 1 hts (lw_V q2281 q2283 qs70 q113 q2284) rfl rfl rfl (by decide +kernel) ⟨(show 2 + d + 1 ≤ 2 + (d + 1) by omega), (show 8 + (4 + 11) + (44 + 23 * d) ≤ 44 + 23 * (d + 1) by omega)⟩) (PW_V hP hK (va_recv hK.1 hP (ci := 0) (q0 := 0) rfl rfl)) rfl rfl hl.1 rfl (lv_room (Nat.le_of_ble_eq_true rfl)) dX5_longest_35 ⟨Nat.le_of_ble_eq_true rfl, Nat.le_of_ble_eq_true rfl⟩) ?_
            have b_6 := m_lng_r (g := (ar 1)) (by assumption) (by assumption) (by assumption) d (m_stands (ar 1) (m_need (ar 1) t x3)) (by omega) (by omega)
            refine n_csi (x := max x2 (m_lng (ar 1) d (m_stands (ar 1) (m_need (ar 1) t x3)))) (va_runS (As := [iv x2, iv (m_lng (ar 1) d (m_stands (ar 1) (m_need (ar 1) t x3)))]) (rest := []) ⟨hx, hb, hml, hown, hts⟩ (mt_X5_most l E o sc ar x2 (m_lng (ar 1) d (m_stands (ar 1) (m_need (ar 1) t x3))) (by omega) (by omega)) (va_cwS 2 hts (lw_S q2285 q2286 q113 q2287) rfl rfl rfl (by decide +kernel) ⟨(show 0 + 1 ≤ 2 + (d + 1) by omega), (show 8 + (2 + 11) + 0 ≤ 44 + 23 * (d + 1) by omega)⟩) (PW_S hP hK) rfl rfl hl.1 rfl (lv_room (Nat.le_of_ble_eq_true rfl)) dX5_longest_38 ⟨Nat.le_of_ble_eq_true rfl, Nat.le_of_ble_eq_true rfl⟩) ?_
            refine lv_istore_n (lv' := [(2, iv (max x2 (m_lng (ar 1) d (m_stands (ar 1) (m_need (ar 1) t x3))))), (3, iv x3), (0, .ref (o 0)), (1, iv t)]) hx hb dX5_longest_41 rfl hl (by decide) rfl (fun ls hl => ?_)
            refine lv_iinc (v := iI (x3 + 1)) (lv' := [(3, iv (x3 + 1)), (2, iv (max x2 (m_lng (ar 1) d (m_stands (ar 1) (m_need (ar 1) t x3))))), (0, .ref (o 0)), (1, iv t)]) hx hb dX5_longest_42 hl (k := 1) rfl (iI_add _ _) (by decide) rfl (fun ls hl => ?_)
            refine lv_goto (tgt := 4) hx hb dX5_longest_45 (by decide) ?_
            exact ihl4 (max x2 (m_lng (ar 1) d (m_stands (ar 1) (m_need (ar 1) t x3)))) (x3 + 1) (by first | omega | rfl) (by rw [maxI_s (by omega), ← il4_1]; first | rw [if_pos (by assumption)] | (rw [if_neg (by simp [*])]; omega)) (by first | omega | rfl) (by omega) ls (lv_sub hl [0, 1, 2, 3] rfl)
    exact l4 4 0 0 (by first | omega | rfl | trivial) (by rfl) (by first | omega | rfl | trivial) (by omega) ls hl
set_option maxHeartbeats 4000000 in
set_option maxRecDepth 100000 in
theorem mt_X5_way (l : Launch) (E : EE) (o : Nat → Nat) (sc : Nat → Int) (ar : Nat → Int → Int) (t : Int) (r : Int → Nat) (hB : ∀ k x, 0 ≤ ar k x ∧ ar k x < 2147483648) (ht : 0 ≤ t ∧ t < 65536) (htw : TW (ar 1)) (hsw : SwOK (ar 1)) (htm : TM (ar 1)) (hrk : RK (ar 1) r) (hr8 : ∀ t, 0 ≤ t → t < 8 → r t < 8) (sz : Nat) : Met l yX5_way (ws_ yX5_way cX5_way 4 (some .int)) { frames := 11, cells := 0, slots := 0, locals := 251 } (va_Pc [.ref (o 0), iv t] (UW E (MW E o sc ar) sz)) (UQi E (if 0 < c_way (ar 1) t then 0 else m_lng (ar 1) 8 (t - 97)) (MW E o (us (us sc 7 0) 8 (c_way (ar 1) t)) ar) (va_A (MW E o sc ar) sz)) 0 0 (va_A (MW E o sc ar) sz) := by
  refine Met.ofW (cc := cX5_way) (maxL := 4) (ret := (some .int)) (by decide) rfl ?_
  intro p e s m args below meth c s₁ B hml hv
  obtain ⟨rfl, hsz, hP, hK, hD0⟩ := hv
  have hx := B.exec
  have hb := B.bytes
  have hr := B.returns
  have hts := atoms_spec (ws := (ws_ yX5_way cX5_way 4 (some .int))) B.pre
  have hts : ∀ w ∈ lw_all, w.before _ s = true := fun w h => hts w (List.mem_cons_of_mem _ h)
  have hown : s.vm.findClass RX5 = some m.cls := findClass_of_methodNamed B.named
  have hlocks := B.notSynchronized
  subst hsz
  have hD := hD0.self (sz := s.heap.size)
  generalize hAe : va_A (MW E o sc ar) s.heap.size = A at hD ⊢
  have hA : ∀ q : Nat, s.heap.size ≤ q → A q := fun q h => by rw [← hAe]; exact Or.inr h
  have hS : va_S A s.heap s.heap [] := va_S.rf
  have hl := lv_entry ([.ref (o 0), iv t]) (n := 4) (Nat.le_of_ble_eq_true rfl)
  rw [lg_entry_eq]
  generalize (lg_sl ([.ref (o 0), iv t]) ++ List.replicate (4 - (lg_sl ([.ref (o 0), iv t])).length) Slot.unset).toArray = ls at hl ⊢
  have hl : lv_has ls 4 [(0, .ref (o 0)), (1, iv t)] := hl
  refine lv_aload_n hx hb dX5_way_0 rfl (lv_at hl 0 rfl) ?_
  refine lv_iload_n hx hb dX5_way_1 rfl (lv_at hl 1 rfl) ?_
  refine n_cui (x := b2 (decide (0 < c_none (ar 1) t))) (va_runV (As := [iv t]) (rest := []) ⟨hx, hb, hml, hown, hts⟩ (mt_X5_isNone l E o sc ar t hB (by omega) _) (cwV 1 hts (lw_V q2147 q2149 qs54 q113 q2150) rfl rfl rfl (by decide +kernel) ⟨Nat.le_of_ble_eq_true rfl, Nat.le_of_ble_eq_true rfl⟩) (UW_V hP hK (hD) (va_recv hK.1 hP (ci := 0) (q0 := 0) rfl rfl)) rfl rfl hl.1 rfl (lv_room (Nat.le_of_ble_eq_true rfl)) dX5_way_2 ⟨Nat.le_of_ble_eq_true rfl, Nat.le_of_ble_eq_true rfl⟩) hD hS hA (fun H locs hP hD hS => ?_)
  have hP : va_P E.1 CL (MW E o (us (us sc 7 0) 8 (c_none (ar 1) t)) ar) H := hP
  have hD : va_D A (MW E o (us (us sc 7 0) 8 (c_none (ar 1) t)) ar) := hD
  refine n_ifd_eq (tgt := 10) hx hb dX5_way_5 (by decide) (fun c_1 => ?_) (fun c_1 => ?_)
  · have hnz : ¬ 0 < c_none (ar 1) t := by assumption
    have hz := c_none_ok (by assumption)
    refine lv_aload_n hx hb dX5_way_10 rfl (lv_at hl 0 rfl) ?_
    refine lv_iload_n hx hb dX5_way_11 rfl (lv_at hl 1 rfl) ?_
    refine lv_bipush (v := iI 97) hx hb dX5_way_12 (by decide) ?_
    refine n_isub hx hb dX5_way_14 ?_
    refine lv_iconst (v := iI 0) hx hb dX5_way_15 rfl ?_
    refine n_csi (x := bsI (m_reach (ar 1) false (t - 97))) (va_runV (As := [iv (t - 97), iv 0]) (rest := []) ⟨hx, hb, hml, hown, hts⟩ (mt_X5_reached l E o (us (us sc 7 0) 8 (c_none (ar 1) t)) ar (t - 97) false hB (by omega) (by assumption) (by assumption)) (cwV 2 hts (lw_V q2250 q2252 qs67 q113 q2253) rfl rfl rfl (by decide +kernel) ⟨Nat.le_of_ble_eq_true rfl, Nat.le_of_ble_eq_true rfl⟩) (PW_V hP hK (va_recv hK.1 hP (ci := 0) (q0 := 0) rfl rfl)) rfl rfl hl.1 rfl (lv_room (Nat.le_of_ble_eq_true rfl)) dX5_way_16 ⟨Nat.le_of_ble_eq_true rfl, Nat.le_of_ble_eq_true rfl⟩) ?_
    refine lv_istore_n (lv' := [(2, iv (bsI (m_reach (ar 1) false (t - 97)))), (0, .ref (o 0)), (1, iv t)]) hx hb dX5_way_19 rfl hl (by decide) rfl (fun ls hl => ?_)
    refine lv_iconst (v := iI 0) hx hb dX5_way_20 rfl ?_
    refine lv_istore_n (lv' := [(3, iv 0), (2, iv (bsI (m_reach (ar 1) false (t - 97)))), (0, .ref (o 0)), (1, iv t)]) hx hb dX5_way_21 rfl hl (by decide) rfl (fun ls hl => ?_)
    have l22 : ∀ (fu : Nat) (x3 : Int) (v8 : Int) (v7 : Int), (0 ≤ x3 ∧ x3 ≤ 8) → (exB (fun k => m_reach (ar 1) false (t - 97) k && !(m_has (ar 1) k)) x3 = false) → (v8 = 0 ∧ v7 = 0) → (8 - x3 < (fu : Int)) → ∀ (H : Heap) (locs : List Loc), va_P E.1 CL (MW E o (us (us sc 7 v7) 8 v8) ar) H → va_D A (MW E o (us (us sc 7 v7) 8 v8) ar) → va_S A s.heap H locs → ∀ ls : Array Slot, lv_has ls 4 [(3, iv x3), (2, iv (bsI (m_reach (ar 1) false (t - 97)))), (0, .ref (o 0)), (1, iv t)] → W p l e (headSpec (ws_ yX5_way cX5_way 4 (some .int)) { frames := 11, cells := 0, slots := 0, locals := 251 }).room s m ([.ref (o 0), iv t] : List Value).toArray below meth c H locs 0 0 (MQ below (UQi E (if 0 < c_way (ar 1) t then 0 else m_lng (ar 1) 8 (t - 97)) (MW E o (us (us sc 7 0) 8 (c_way (ar 1) t)) ar) A) ([.ref (o 0), iv t] : List Value).toArray s 0 0 A) (F0 m 22 ls []) := by
      intro fu
      induction fu with
      | zero =>
        intro x3 v8 v7 il22_0 il22_1 il22_2 hm
        exfalso; omega
      | succ fu ih =>
        intro x3 v8 v7 il22_0 il22_1 il22_2 hm H locs hP hD hS ls hl
        have ihl22 := ih
        refine lv_iload_n hx hb dX5_way_22 rfl (lv_at hl 0 rfl) ?_
        refine lv_bipush (v := iI 8) hx hb dX5_way_23 (by decide) ?_
        refine n_icmp_ge (tgt := 65) hx hb dX5_way_25 (by decide) (by omega) (by omega) (fun c_2 => ?_) (fun c_2 => ?_)
        · have hx8 : x3 = 8 := by omega
          have hcw := c_way_0 hnz (by rw [hx8] at il22_1; exact il22_1)
          refine lv_aload_n hx hb dX5_way_65 rfl (lv_at hl 2 rfl) ?_
          refine lv_iload_n hx hb dX5_way_66 rfl (lv_at hl 3 rfl) ?_
          refine lv_bipush (v := iI 97) hx hb dX5_way_67 (by decide) ?_
          refine n_isub hx hb dX5_way_69 ?_
          have hr9 := hr8 (t - 97) (by omega) (by omega)
          refine n_csi (x := m_lng (ar 1) 8 (t - 97)) (va_runV (As := [iv (t - 97)]) (rest := []) ⟨hx, hb, hml, hown, hts⟩ (mt_X5_longest l E 8 o (us (us sc 7 v7) 8 v8) ar (t - 97) r hB (by omega) (by assumption) (by assumption) (by assumption) (by assumption) (by omega) (by omega)) (cwV 1 hts (lw_V q2281 q2283 qs70 q113 q2284) rfl rfl rfl (by decide +kernel) ⟨Nat.le_of_ble_eq_true rfl, Nat.le_of_ble_eq_true rfl⟩) (PW_V hP hK (va_recv hK.1 hP (ci := 0) (q0 := 0) rfl rfl)) rfl rfl hl.1 rfl (lv_room (Nat.le_of_ble_eq_true rfl)) dX5_way_70 ⟨Nat.le_of_ble_eq_true rfl, Nat.le_of_ble_eq_true rfl⟩) ?_
          have hfin : m_lng (ar 1) 8 (t - 97) = if 0 < c_way (ar 1) t then 0 else m_lng (ar 1) 8 (t - 97) := by
            rw [hcw]
            rfl
          have w_3 : v7 = 0 := by
            exact il22_2.2
          rw [show (us (us sc 7 v7) 8 v8) = (us (us sc 7 0) 8 v8) from congrArg (fun z0 : Int => (us (us sc 7 z0) 8 v8)) w_3] at hP hD
          have w_4 : v8 = c_way (ar 1) t := by
            rw [hcw, il22_2.1]
          rw [show (us (us sc 7 0) 8 v8) = (us (us sc 7 0) 8 (c_way (ar 1) t)) from congrArg (fun z0 : Int => (us (us sc 7 0) 8 z0)) w_4] at hP hD
          exact W.iret (v := iI (m_lng (ar 1) 8 (t - 97))) hx hb hr (fun tt_ ht_ hW_ => ⟨⟨iI (m_lng (ar 1) 8 (t - 97)), (), rfl, (congrArg iI hfin), by rw [ht_]; exact hP, hD⟩, hS.F ht_⟩) hS.2.2 dX5_way_73
        · refine lv_aload_n hx hb dX5_way_28 rfl (lv_at hl 2 rfl) ?_
          have j_5 : W p l e (headSpec (ws_ yX5_way cX5_way 4 (some .int)) { frames := 11, cells := 0, slots := 0, locals := 251 }).room s m ([.ref (o 0), iv t] : List Value).toArray below meth c H locs 0 0 (MQ below (UQi E (if 0 < c_way (ar 1) t then 0 else m_lng (ar 1) 8 (t - 97)) (MW E o (us (us sc 7 0) 8 (c_way (ar 1) t)) ar) A) ([.ref (o 0), iv t] : List Value).toArray s 0 0 A) (F0 m 51 ls [iv (c_two (m_reach (ar 1) false (t - 97) x3 && !(m_has (ar 1) x3))), .ref (o 0)]) := by
            have b_6 := c_two_r (m_reach (ar 1) false (t - 97) x3 && !(m_has (ar 1) x3))
            refine n_cui (x := b2 (decide (0 < (c_two (m_reach (ar 1) false (t - 97) x3 && !(m_has (ar 1) x3)))))) (va_runV (As := [iv (c_two (m_reach (ar 1) false (t - 97) x3 && !(m_has (ar 1) x3)))]) (rest := []) ⟨hx, hb, hml, hown, hts⟩ (mt_X5_fails l E o (us (us sc 7 v7) 8 v8) ar (c_two (m_reach (ar 1) false (t - 97) x3 && !(m_has (ar 1) x3))) (by omega) _) (cwV 1 hts (lw_V q2124 q2126 qs50 q113 q2127) rfl rfl rfl (by decide +kernel) ⟨Nat.le_of_ble_eq_true rfl, Nat.le_of_ble_eq_true rfl⟩) (UW_V hP hK (hD) (va_recv hK.1 hP (ci := 0) (q0 := 0) rfl rfl)) rfl rfl hl.1 rfl (lv_room (Nat.le_of_ble_eq_true rfl)) dX5_way_51 ⟨Nat.le_of_ble_eq_true rfl, Nat.le_of_ble_eq_true rfl⟩) hD hS hA (fun H locs hP hD hS => ?_)
            have hP : va_P E.1 CL (MW E o (us (us sc 7 0) 8 (c_two (m_reach (ar 1) false (t - 97) x3 && !(m_has (ar 1) x3)))) ar) H := hP
            have hD : va_D A (MW E o (us (us sc 7 0) 8 (c_two (m_reach (ar 1) false (t - 97) x3 && !(m_has (ar 1) x3)))) ar) := hD
            refine n_ifd_eq (tgt := 59) hx hb dX5_way_54 (by decide) (fun c_7 => ?_) (fun c_7 => ?_)
            · have hm2 := c_two_no (by assumption)
              refine lv_iinc (v := iI (x3 + 1)) (lv' := [(3, iv (x3 + 1)), (2, iv (bsI (m_reach (ar 1) false (t - 97)))), (0, .ref (o 0)), (1, iv t)]) hx hb dX5_way_59 hl (k := 0) rfl (iI_add _ _) (by decide) rfl (fun ls hl => ?_)
              refine lv_goto (tgt := 22) hx hb dX5_way_62 (by decide) ?_
              exact ihl22 (x3 + 1) (c_two (m_reach (ar 1) false (t - 97) x3 && !(m_has (ar 1) x3))) 0 (by first | omega | rfl) (by rw [exB_s (by omega), il22_1, hm2.1]; rfl) (by exact ⟨hm2.2, rfl⟩) (by omega) H locs hP hD hS ls (lv_sub hl [0, 1, 2, 3] rfl)
            · have hm2 := c_two_yes (by assumption)
              have hcw := c_way_2 hnz (by omega) hm2.1
              refine lv_iconst (v := iI 0) hx hb dX5_way_57 rfl ?_
              have hfin : 0 = if 0 < c_way (ar 1) t then 0 else m_lng (ar 1) 8 (t - 97) := by
                rw [hcw]
                rfl
              have w_8 : (c_two (m_reach (ar 1) false (t - 97) x3 && !(m_has (ar 1) x3))) = c_way (ar 1) t := by
                rw [hcw, hm2.2]
              rw [show (us (us sc 7 0) 8 (c_two (m_reach (ar 1) false (t - 97) x3 && !(m_has (ar 1) x3)))) = (us (us sc 7 0) 8 (c_way (ar 1) t)) from congrArg (fun z0 : Int => (us (us sc 7 0) 8 z0)) w_8] at hP hD
              exact W.iret (v := iI 0) hx hb hr (fun tt_ ht_ hW_ => ⟨⟨iI 0, (), rfl, (congrArg iI hfin), by rw [ht_]; exact hP, hD⟩, hS.F ht_⟩) hS.2.2 dX5_way_58
          refine lv_iload_n hx hb dX5_way_29 rfl (lv_at hl 1 rfl) ?_
          refine lv_iload_n hx hb dX5_way_30 rfl (lv_at hl 0 rfl) ?_
          have b_9 := bsI_r (m_reach (ar 1) false (t - 97))
          refine n_ishr hx hb (by omega) (by omega) dX5_way_31 ?_
          refine lv_iconst (v := iI 1) hx hb dX5_way_32 rfl ?_
          refine n_iand1 hx hb dX5_way_33 ?_
          rw [bsI_bit (m_reach (ar 1) false (t - 97)) (by omega)]
          refine lv_iconst (v := iI 1) hx hb dX5_way_34 rfl ?_
          refine n_icmpb_ne (tgt := 50) hx hb dX5_way_35 (by decide) (fun c_10 => ?_) (fun c_10 => ?_)
          · refine lv_iconst (v := iI 0) hx hb dX5_way_50 rfl ?_
            refine n_top (y := c_two (m_reach (ar 1) false (t - 97) x3 && !(m_has (ar 1) x3))) (by simp [c_1, c_2, c_10, b2_t, c_two]) ?_
            exact j_5
          · refine lv_aload_n hx hb dX5_way_38 rfl (lv_at hl 2 rfl) ?_
            refine lv_iload_n hx hb dX5_way_39 rfl (lv_at hl 0 rfl) ?_
            refine n_csi (x := b2 (m_has (ar 1) x3)) (va_runV (As := [iv x3]) (rest := [.ref (o 0)]) ⟨hx, hb, hml, hown, hts⟩ (mt_X5_has l E o (us (us sc 7 v7) 8 v8) ar x3 hB (by omega)) (cwV 1 hts (lw_V q2116 q2118 qs48 q113 q2119) rfl rfl rfl (by decide +kernel) ⟨Nat.le_of_ble_eq_true rfl, Nat.le_of_ble_eq_true rfl⟩) (PW_V hP hK (va_recv hK.1 hP (ci := 0) (q0 := 0) rfl rfl)) rfl rfl hl.1 rfl (lv_room (Nat.le_of_ble_eq_true rfl)) dX5_way_40 ⟨Nat.le_of_ble_eq_true rfl, Nat.le_of_ble_eq_true rfl⟩) ?_
            refine n_ifb_ne (tgt := 50) hx hb dX5_way_43 (by decide) (fun c_11 => ?_) (fun c_11 => ?_)
            · refine lv_iconst (v := iI 0) hx hb dX5_way_50 rfl ?_
              refine n_top (y := c_two (m_reach (ar 1) false (t - 97) x3 && !(m_has (ar 1) x3))) (by simp [c_1, c_2, c_10, c_11, b2_t, c_two]) ?_
              exact j_5
            · refine lv_iconst (v := iI 2) hx hb dX5_way_46 rfl ?_
              refine lv_goto (tgt := 51) hx hb dX5_way_47 (by decide) ?_
              refine n_top (y := c_two (m_reach (ar 1) false (t - 97) x3 && !(m_has (ar 1) x3))) (by simp [c_1, c_2, c_10, c_11, b2_t, c_two]) ?_
              exact j_5
    exact l22 9 0 (c_none (ar 1) t) 0 (by first | omega | rfl | trivial) (by rfl) (by have := c_none_r (ar 1) t; omega) (by omega) H locs hP hD hS ls hl
  · refine lv_iconst (v := iI 0) hx hb dX5_way_8 rfl ?_
    have hfin : 0 = if 0 < c_way (ar 1) t then 0 else m_lng (ar 1) 8 (t - 97) := by
      rw [show c_way (ar 1) t = c_none (ar 1) t from if_pos (by assumption), if_pos (by assumption)]
    have w_12 : c_none (ar 1) t = c_way (ar 1) t := by
      exact (if_pos (by assumption)).symm
    rw [show (us (us sc 7 0) 8 (c_none (ar 1) t)) = (us (us sc 7 0) 8 (c_way (ar 1) t)) from congrArg (fun z0 : Int => (us (us sc 7 0) 8 z0)) w_12] at hP hD
    exact W.iret (v := iI 0) hx hb hr (fun tt_ ht_ hW_ => ⟨⟨iI 0, (), rfl, (congrArg iI hfin), by rw [ht_]; exact hP, hD⟩, hS.F ht_⟩) hS.2.2 dX5_way_9
set_option maxHeartbeats 4000000 in
set_option maxRecDepth 100000 in
theorem mt_X5_longestWay (l : Launch) (E : EE) (o : Nat → Nat) (sc : Nat → Int) (ar : Nat → Int → Int) (t : Int) (r : Int → Nat) (hB : ∀ k x, 0 ≤ ar k x ∧ ar k x < 2147483648) (ht : 0 ≤ t ∧ t < 65536) (htw : TW (ar 1)) (hsw : SwOK (ar 1)) (htm : TM (ar 1)) (hrk : RK (ar 1) r) (hr8 : ∀ t, 0 ≤ t → t < 8 → r t < 8) (sz : Nat) : Met l yX5_longestWay (ws_ yX5_longestWay cX5_longestWay 2 (some .int)) { frames := 12, cells := 0, slots := 0, locals := 274 } (va_Pc [.ref (o 0), iv t] (UW E (MW E o sc ar) sz)) (UQi E (if 0 < c_way (ar 1) t then 0 else m_lng (ar 1) 8 (t - 97)) (MW E o (us (us sc 7 0) 8 (c_way (ar 1) t)) ar) (va_A (MW E o sc ar) sz)) 0 0 (va_A (MW E o sc ar) sz) := by
  refine Met.ofW (cc := cX5_longestWay) (maxL := 2) (ret := (some .int)) (by decide) rfl ?_
  intro p e s m args below meth c s₁ B hml hv
  obtain ⟨rfl, hsz, hP, hK, hD0⟩ := hv
  have hx := B.exec
  have hb := B.bytes
  have hr := B.returns
  have hts := atoms_spec (ws := (ws_ yX5_longestWay cX5_longestWay 2 (some .int))) B.pre
  have hts : ∀ w ∈ lw_all, w.before _ s = true := fun w h => hts w (List.mem_cons_of_mem _ h)
  have hown : s.vm.findClass RX5 = some m.cls := findClass_of_methodNamed B.named
  have hlocks := B.notSynchronized
  subst hsz
  have hD := hD0.self (sz := s.heap.size)
  generalize hAe : va_A (MW E o sc ar) s.heap.size = A at hD ⊢
  have hA : ∀ q : Nat, s.heap.size ≤ q → A q := fun q h => by rw [← hAe]; exact Or.inr h
  have hS : va_S A s.heap s.heap [] := va_S.rf
  have hl := lv_entry ([.ref (o 0), iv t]) (n := 2) (Nat.le_of_ble_eq_true rfl)
  rw [lg_entry_eq]
  generalize (lg_sl ([.ref (o 0), iv t]) ++ List.replicate (2 - (lg_sl ([.ref (o 0), iv t])).length) Slot.unset).toArray = ls at hl ⊢
  have hl : lv_has ls 2 [(0, .ref (o 0)), (1, iv t)] := hl
  refine lv_aload_n hx hb dX5_longestWay_0 rfl (lv_at hl 0 rfl) ?_
  refine lv_iload_n hx hb dX5_longestWay_1 rfl (lv_at hl 1 rfl) ?_
  refine n_cui (x := if 0 < c_way (ar 1) t then 0 else m_lng (ar 1) 8 (t - 97)) (va_runV (As := [iv t]) (rest := []) ⟨hx, hb, hml, hown, hts⟩ (mt_X5_way l E o sc ar t r hB (by omega) (by assumption) (by assumption) (by assumption) (by assumption) (by assumption) _) (cwV 1 hts (lw_V q2277 q2279 qs69 q113 q2280) rfl rfl rfl (by decide +kernel) ⟨Nat.le_of_ble_eq_true rfl, Nat.le_of_ble_eq_true rfl⟩) (UW_V hP hK (hD) (va_recv hK.1 hP (ci := 0) (q0 := 0) rfl rfl)) rfl rfl hl.1 rfl (lv_room (Nat.le_of_ble_eq_true rfl)) dX5_longestWay_2 ⟨Nat.le_of_ble_eq_true rfl, Nat.le_of_ble_eq_true rfl⟩) hD hS hA (fun H locs hP hD hS => ?_)
  have hP : va_P E.1 CL (MW E o (us (us sc 7 0) 8 (c_way (ar 1) t)) ar) H := hP
  have hD : va_D A (MW E o (us (us sc 7 0) 8 (c_way (ar 1) t)) ar) := hD
  exact W.iret (v := iI (if 0 < c_way (ar 1) t then 0 else m_lng (ar 1) 8 (t - 97))) hx hb hr (fun tt_ ht_ hW_ => ⟨⟨iI (if 0 < c_way (ar 1) t then 0 else m_lng (ar 1) 8 (t - 97)), (), rfl, rfl, by rw [ht_]; exact hP, hD⟩, hS.F ht_⟩) hS.2.2 dX5_longestWay_5
set_option maxHeartbeats 4000000 in
set_option maxRecDepth 100000 in
theorem mt_X5_longestByRounds (l : Launch) (E : EE) (o : Nat → Nat) (sc : Nat → Int) (ar : Nat → Int → Int) (t : Int) (r : Int → Nat) (hB : ∀ k x, 0 ≤ ar k x ∧ ar k x < 2147483648) (ht : 0 ≤ t ∧ t < 65536) (htw : TW (ar 1)) (hsw : SwOK (ar 1)) (htm : TM (ar 1)) (hrk : RK (ar 1) r) (hr8 : ∀ t, 0 ≤ t → t < 8 → r t < 8) (sz : Nat) : Met l yX5_longestByRounds (ws_ yX5_longestByRounds cX5_longestByRounds 2 (some .int)) { frames := 12, cells := 0, slots := 0, locals := 274 } (va_Pc [.ref (o 0), iv t] (UW E (MW E o sc ar) sz)) (UQi E (if 0 < c_way (ar 1) t then 0 else m_lng (ar 1) 8 (t - 97)) (MW E o (us (us sc 7 0) 8 (c_way (ar 1) t)) ar) (va_A (MW E o sc ar) sz)) 0 0 (va_A (MW E o sc ar) sz) := by
  refine Met.ofW (cc := cX5_longestByRounds) (maxL := 2) (ret := (some .int)) (by decide) rfl ?_
  intro p e s m args below meth c s₁ B hml hv
  obtain ⟨rfl, hsz, hP, hK, hD0⟩ := hv
  have hx := B.exec
  have hb := B.bytes
  have hr := B.returns
  have hts := atoms_spec (ws := (ws_ yX5_longestByRounds cX5_longestByRounds 2 (some .int))) B.pre
  have hts : ∀ w ∈ lw_all, w.before _ s = true := fun w h => hts w (List.mem_cons_of_mem _ h)
  have hown : s.vm.findClass RX5 = some m.cls := findClass_of_methodNamed B.named
  have hlocks := B.notSynchronized
  subst hsz
  have hD := hD0.self (sz := s.heap.size)
  generalize hAe : va_A (MW E o sc ar) s.heap.size = A at hD ⊢
  have hA : ∀ q : Nat, s.heap.size ≤ q → A q := fun q h => by rw [← hAe]; exact Or.inr h
  have hS : va_S A s.heap s.heap [] := va_S.rf
  have hl := lv_entry ([.ref (o 0), iv t]) (n := 2) (Nat.le_of_ble_eq_true rfl)
  rw [lg_entry_eq]
  generalize (lg_sl ([.ref (o 0), iv t]) ++ List.replicate (2 - (lg_sl ([.ref (o 0), iv t])).length) Slot.unset).toArray = ls at hl ⊢
  have hl : lv_has ls 2 [(0, .ref (o 0)), (1, iv t)] := hl
  refine lv_aload_n hx hb dX5_longestByRounds_0 rfl (lv_at hl 0 rfl) ?_
  refine lv_iload_n hx hb dX5_longestByRounds_1 rfl (lv_at hl 1 rfl) ?_
  refine n_cui (x := if 0 < c_way (ar 1) t then 0 else m_lng (ar 1) 8 (t - 97)) (va_runV (As := [iv t]) (rest := []) ⟨hx, hb, hml, hown, hts⟩ (mt_X5_way l E o sc ar t r hB (by omega) (by assumption) (by assumption) (by assumption) (by assumption) (by assumption) _) (cwV 1 hts (lw_V q2277 q2279 qs69 q113 q2280) rfl rfl rfl (by decide +kernel) ⟨Nat.le_of_ble_eq_true rfl, Nat.le_of_ble_eq_true rfl⟩) (UW_V hP hK (hD) (va_recv hK.1 hP (ci := 0) (q0 := 0) rfl rfl)) rfl rfl hl.1 rfl (lv_room (Nat.le_of_ble_eq_true rfl)) dX5_longestByRounds_2 ⟨Nat.le_of_ble_eq_true rfl, Nat.le_of_ble_eq_true rfl⟩) hD hS hA (fun H locs hP hD hS => ?_)
  have hP : va_P E.1 CL (MW E o (us (us sc 7 0) 8 (c_way (ar 1) t)) ar) H := hP
  have hD : va_D A (MW E o (us (us sc 7 0) 8 (c_way (ar 1) t)) ar) := hD
  exact W.iret (v := iI (if 0 < c_way (ar 1) t then 0 else m_lng (ar 1) 8 (t - 97))) hx hb hr (fun tt_ ht_ hW_ => ⟨⟨iI (if 0 < c_way (ar 1) t then 0 else m_lng (ar 1) 8 (t - 97)), (), rfl, rfl, by rw [ht_]; exact hP, hD⟩, hS.F ht_⟩) hS.2.2 dX5_longestByRounds_5
set_option maxHeartbeats 4000000 in
set_option maxRecDepth 100000 in
theorem mt_X5_isOpen (l : Launch) (E : EE) (o : Nat → Nat) (sc : Nat → Int) (ar : Nat → Int → Int) (k : Int) (hB : ∀ k x, 0 ≤ ar k x ∧ ar k x < 2147483648) (h : -2147483648 ≤ k ∧ k < 2147483648) (sz : Nat) : Met l yX5_isOpen (ws_ yX5_isOpen cX5_isOpen 2 (some .boolean)) { frames := 2, cells := 0, slots := 0, locals := 43 } (va_Pc [.ref (o 0), iv k] (UW E (MW E o sc ar) sz)) (UQi E (b2 (!(decide (0 < c_in k 0 3 1)) && m_opened (ar 1) k)) (MW E o (us (us sc 7 0) 8 (c_in k 0 3 1)) ar) (va_A (MW E o sc ar) sz)) 0 0 (va_A (MW E o sc ar) sz) := by
  refine Met.ofW (cc := cX5_isOpen) (maxL := 2) (ret := (some .boolean)) (by decide) rfl ?_
  intro p e s m args below meth c s₁ B hml hv
  obtain ⟨rfl, hsz, hP, hK, hD0⟩ := hv
  have hx := B.exec
  have hb := B.bytes
  have hr := B.returns
  have hts := atoms_spec (ws := (ws_ yX5_isOpen cX5_isOpen 2 (some .boolean))) B.pre
  have hts : ∀ w ∈ lw_all, w.before _ s = true := fun w h => hts w (List.mem_cons_of_mem _ h)
  have hown : s.vm.findClass RX5 = some m.cls := findClass_of_methodNamed B.named
  have hlocks := B.notSynchronized
  subst hsz
  have hD := hD0.self (sz := s.heap.size)
  generalize hAe : va_A (MW E o sc ar) s.heap.size = A at hD ⊢
  have hA : ∀ q : Nat, s.heap.size ≤ q → A q := fun q h => by rw [← hAe]; exact Or.inr h
  have hS : va_S A s.heap s.heap [] := va_S.rf
  have hl := lv_entry ([.ref (o 0), iv k]) (n := 2) (Nat.le_of_ble_eq_true rfl)
  rw [lg_entry_eq]
  generalize (lg_sl ([.ref (o 0), iv k]) ++ List.replicate (2 - (lg_sl ([.ref (o 0), iv k])).length) Slot.unset).toArray = ls at hl ⊢
  have hl : lv_has ls 2 [(0, .ref (o 0)), (1, iv k)] := hl
  refine lv_aload_n hx hb dX5_isOpen_0 rfl (lv_at hl 0 rfl) ?_
  have j_1 : W p l e (headSpec (ws_ yX5_isOpen cX5_isOpen 2 (some .boolean)) { frames := 2, cells := 0, slots := 0, locals := 43 }).room s m ([.ref (o 0), iv k] : List Value).toArray below meth c s.heap [] 0 0 (MQ below (UQi E (b2 (!(decide (0 < c_in k 0 3 1)) && m_opened (ar 1) k)) (MW E o (us (us sc 7 0) 8 (c_in k 0 3 1)) ar) A) ([.ref (o 0), iv k] : List Value).toArray s 0 0 A) (F0 m 15 ls [iv (c_in k 0 3 1), .ref (o 0)]) := by
    have b_2 := c_in_r (v := k) (lo := 0) (hi := 3) (k := 1) (by decide)
    refine n_cui (x := b2 (decide (0 < (c_in k 0 3 1)))) (va_runV (As := [iv (c_in k 0 3 1)]) (rest := []) ⟨hx, hb, hml, hown, hts⟩ (mt_X5_fails l E o sc ar (c_in k 0 3 1) (by omega) _) (cwV 1 hts (lw_V q2124 q2126 qs50 q113 q2127) rfl rfl rfl (by decide +kernel) ⟨Nat.le_of_ble_eq_true rfl, Nat.le_of_ble_eq_true rfl⟩) (UW_V hP hK (hD) (va_recv hK.1 hP (ci := 0) (q0 := 0) rfl rfl)) rfl rfl hl.1 rfl (lv_room (Nat.le_of_ble_eq_true rfl)) dX5_isOpen_15 ⟨Nat.le_of_ble_eq_true rfl, Nat.le_of_ble_eq_true rfl⟩) hD hS hA (fun H locs hP hD hS => ?_)
    have hP : va_P E.1 CL (MW E o (us (us sc 7 0) 8 (c_in k 0 3 1)) ar) H := hP
    have hD : va_D A (MW E o (us (us sc 7 0) 8 (c_in k 0 3 1)) ar) := hD
    refine n_ifd_ne (tgt := 33) hx hb dX5_isOpen_18 (by decide) (fun c_3 => ?_) (fun c_3 => ?_)
    · refine lv_iconst (v := iI 0) hx hb dX5_isOpen_33 rfl ?_
      have hfin : 0 = b2 (!(decide (0 < c_in k 0 3 1)) && m_opened (ar 1) k) := by
        simp [*, b2]
      exact W.zret (v := iI 0) hx hb hr (nr_b (by decide)) (fun tt_ ht_ hW_ => ⟨⟨iI 0, (), rfl, (congrArg iI hfin), by rw [ht_]; exact hP, hD⟩, hS.F ht_⟩) hS.2.2 dX5_isOpen_34
    · refine lv_aload_n hx hb dX5_isOpen_21 rfl (lv_at hl 0 rfl) ?_
      refine lv_iload_n hx hb dX5_isOpen_22 rfl (lv_at hl 1 rfl) ?_
      refine n_csi (x := b2 (m_opened (ar 1) k)) (va_runV (As := [iv k]) (rest := []) ⟨hx, hb, hml, hown, hts⟩ (mt_X5_isOpened l E o (us (us sc 7 0) 8 (c_in k 0 3 1)) ar k hB (by omega)) (cwV 1 hts (lw_V q2300 q2302 qs71 q113 q2303) rfl rfl rfl (by decide +kernel) ⟨Nat.le_of_ble_eq_true rfl, Nat.le_of_ble_eq_true rfl⟩) (PW_V hP hK (va_recv hK.1 hP (ci := 0) (q0 := 0) rfl rfl)) rfl rfl hl.1 rfl (lv_room (Nat.le_of_ble_eq_true rfl)) dX5_isOpen_23 ⟨Nat.le_of_ble_eq_true rfl, Nat.le_of_ble_eq_true rfl⟩) ?_
      refine n_ifb_eq (tgt := 33) hx hb dX5_isOpen_26 (by decide) (fun c_4 => ?_) (fun c_4 => ?_)
      · refine lv_iconst (v := iI 0) hx hb dX5_isOpen_33 rfl ?_
        have hfin : 0 = b2 (!(decide (0 < c_in k 0 3 1)) && m_opened (ar 1) k) := by
          simp [*, b2]
        exact W.zret (v := iI 0) hx hb hr (nr_b (by decide)) (fun tt_ ht_ hW_ => ⟨⟨iI 0, (), rfl, (congrArg iI hfin), by rw [ht_]; exact hP, hD⟩, hS.F ht_⟩) hS.2.2 dX5_isOpen_34
      · refine lv_iconst (v := iI 1) hx hb dX5_isOpen_29 rfl ?_
        refine lv_goto (tgt := 34) hx hb dX5_isOpen_30 (by decide) ?_
        have hfin : 1 = b2 (!(decide (0 < c_in k 0 3 1)) && m_opened (ar 1) k) := by
          simp [*, b2]
        exact W.zret (v := iI 1) hx hb hr (nr_b (by decide)) (fun tt_ ht_ hW_ => ⟨⟨iI 1, (), rfl, (congrArg iI hfin), by rw [ht_]; exact hP, hD⟩, hS.F ht_⟩) hS.2.2 dX5_isOpen_34
  refine lv_iload_n hx hb dX5_isOpen_1 rfl (lv_at hl 1 rfl) ?_
  refine lv_iconst (v := iI 0) hx hb dX5_isOpen_2 rfl ?_
  refine lv_iconst (v := iI 3) hx hb dX5_isOpen_3 rfl ?_
  refine n_csi (x := b2 (decide (0 ≤ k ∧ k ≤ 3))) (va_runS (As := [iv k, iv 0, iv 3]) (rest := [.ref (o 0)]) ⟨hx, hb, hml, hown, hts⟩ (mt_X5_in l E o sc ar k 0 3 (by omega) (by omega) (by omega)) (va_cwS 3 hts (lw_S q2110 q2111 q113 q2112) rfl rfl rfl (by decide +kernel) ⟨Nat.le_of_ble_eq_true rfl, Nat.le_of_ble_eq_true rfl⟩) (PW_S hP hK) rfl rfl hl.1 rfl (lv_room (Nat.le_of_ble_eq_true rfl)) dX5_isOpen_4 ⟨Nat.le_of_ble_eq_true rfl, Nat.le_of_ble_eq_true rfl⟩) ?_
  refine n_ifd_eq (tgt := 14) hx hb dX5_isOpen_7 (by decide) (fun c_5 => ?_) (fun c_5 => ?_)
  · refine lv_iconst (v := iI 1) hx hb dX5_isOpen_14 rfl ?_
    refine n_top (y := c_in k 0 3 1) (by (try unfold c_in); (repeat' split) <;> first | rfl | omega | contradiction | (exfalso; omega) | (simp_all; done)) ?_
    exact j_1
  · refine lv_iconst (v := iI 0) hx hb dX5_isOpen_10 rfl ?_
    refine lv_goto (tgt := 15) hx hb dX5_isOpen_11 (by decide) ?_
    refine n_top (y := c_in k 0 3 1) (by (try unfold c_in); (repeat' split) <;> first | rfl | omega | contradiction | (exfalso; omega) | (simp_all; done)) ?_
    exact j_1
set_option maxHeartbeats 4000000 in
set_option maxRecDepth 100000 in
theorem mt_X5_counts (l : Launch) (E : EE) (d : Nat) : ∀ (o : Nat → Nat) (sc : Nat → Int) (ar : Nat → Int → Int) (t : Int) (th : Int) (r : Int → Nat) (f : Int → Bool) (ms : Int) (hB : ∀ k x, 0 ≤ ar k x ∧ ar k x < 2147483648) (h : 0 ≤ t ∧ t < 8) (hth : -2147483648 ≤ th ∧ th < 2147483648) (htw : TW (ar 1)) (hsw : SwOK (ar 1)) (how : OW (ar 1)) (hrk : RK (ar 1) r) (hms : -1 ≤ ms ∧ ms < 8) (hd : r (m_stands (ar 1) t) < d) (hd9 : d ≤ 8) (sz : Nat), Met l yX5_counts (ws_ yX5_counts cX5_counts 6 (some .int)) { frames := 3 + d, cells := 0, slots := 0, locals := 66 + 25 * d } (va_Pc [.ref (o 0), iv t, iv th] (UW E (MW E o (us (us sc 17 (bsI f)) 18 ms) ar) sz)) (UQi E ((m_cnt (ar 1) th d t (f, ms)).1) (MW E o (us (us sc 17 (bsI (m_cnt (ar 1) th d t (f, ms)).2.1)) 18 ((m_cnt (ar 1) th d t (f, ms)).2.2)) ar) (va_A (MW E o (us (us sc 17 (bsI f)) 18 ms) ar) sz)) 0 0 (va_A (MW E o (us (us sc 17 (bsI f)) 18 ms) ar) sz) := by
  induction d with
  | zero => intro o sc ar t th r f ms hB h hth htw hsw how hrk hms hd hd9 sz; exfalso; omega
  | succ d ihd =>
    intro o sc ar t th r f ms hB h hth htw hsw how hrk hms hd hd9 sz
    refine Met.ofW (cc := cX5_counts) (maxL := 6) (ret := (some .int)) (by decide) rfl ?_
    intro p e s m args below meth c s₁ B hml hv
    obtain ⟨rfl, hsz, hP, hK, hD0⟩ := hv
    have hx := B.exec
    have hb := B.bytes
    have hr := B.returns
    have hts := atoms_spec (ws := (ws_ yX5_counts cX5_counts 6 (some .int))) B.pre
    have hts : ∀ w ∈ lw_all, w.before _ s = true := fun w h => hts w (List.mem_cons_of_mem _ h)
    have hown : s.vm.findClass RX5 = some m.cls := findClass_of_methodNamed B.named
    have hlocks := B.notSynchronized
    subst hsz
    have hD := hD0.self (sz := s.heap.size)
    generalize hAe : va_A (MW E o (us (us sc 17 (bsI f)) 18 ms) ar) s.heap.size = A at hD ⊢
    have hA : ∀ q : Nat, s.heap.size ≤ q → A q := fun q h => by rw [← hAe]; exact Or.inr h
    have hS : va_S A s.heap s.heap [] := va_S.rf
    have hl := lv_entry ([.ref (o 0), iv t, iv th]) (n := 6) (Nat.le_of_ble_eq_true rfl)
    rw [lg_entry_eq]
    generalize (lg_sl ([.ref (o 0), iv t, iv th]) ++ List.replicate (6 - (lg_sl ([.ref (o 0), iv t, iv th])).length) Slot.unset).toArray = ls at hl ⊢
    have hl : lv_has ls 6 [(0, .ref (o 0)), (1, iv t), (2, iv th)] := hl
    have hur := m_stands_r hsw h
    have hnn := htw (m_stands (ar 1) t) hur.1 hur.2
    refine lv_aload_n hx hb dX5_counts_0 rfl (lv_at hl 0 rfl) ?_
    refine lv_iload_n hx hb dX5_counts_1 rfl (lv_at hl 1 rfl) ?_
    refine n_csi (x := m_stands (ar 1) t) (va_runV (As := [iv t]) (rest := []) ⟨hx, hb, hml, hown, hts⟩ (mt_X5_stands l E o (us (us sc 17 (bsI f)) 18 ms) ar t hB (by omega) (by assumption)) (cwV 1 hts (lw_V q2191 q2193 qs64 q113 q2194) rfl rfl rfl (by decide +kernel) ⟨(show 1 + 1 ≤ 3 + (d + 1) by omega), (show 8 + (3 + 11) + 22 ≤ 66 + 25 * (d + 1) by omega)⟩) (PW_V hP hK (va_recv hK.1 hP (ci := 0) (q0 := 0) rfl rfl)) rfl rfl hl.1 rfl (lv_room (Nat.le_of_ble_eq_true rfl)) dX5_counts_2 ⟨Nat.le_of_ble_eq_true rfl, Nat.le_of_ble_eq_true rfl⟩) ?_
    refine lv_istore_n (lv' := [(3, iv (m_stands (ar 1) t)), (0, .ref (o 0)), (1, iv t), (2, iv th)]) hx hb dX5_counts_5 rfl hl (by decide) rfl (fun ls hl => ?_)
    refine lv_aload_n hx hb dX5_counts_6 rfl (lv_at hl 1 rfl) ?_
    refine lv_iload_n hx hb dX5_counts_7 rfl (lv_at hl 0 rfl) ?_
    have b_1 := m_stands_r (g := (ar 1)) (by assumption) (t := t) (by omega)
    refine n_csi (x := b2 (m_has (ar 1) (m_stands (ar 1) t))) (va_runV (As := [iv (m_stands (ar 1) t)]) (rest := []) ⟨hx, hb, hml, hown, hts⟩ (mt_X5_has l E o (us (us sc 17 (bsI f)) 18 ms) ar (m_stands (ar 1) t) hB (by omega)) (cwV 1 hts (lw_V q2116 q2118 qs48 q113 q2119) rfl rfl rfl (by decide +kernel) ⟨(show 1 + 1 ≤ 3 + (d + 1) by omega), (show 8 + (2 + 11) + 22 ≤ 66 + 25 * (d + 1) by omega)⟩) (PW_V hP hK (va_recv hK.1 hP (ci := 0) (q0 := 0) rfl rfl)) rfl rfl hl.1 rfl (lv_room (Nat.le_of_ble_eq_true rfl)) dX5_counts_8 ⟨Nat.le_of_ble_eq_true rfl, Nat.le_of_ble_eq_true rfl⟩) ?_
    refine n_ifb_ne (tgt := 35) hx hb dX5_counts_11 (by decide) (fun c_2 => ?_) (fun c_2 => ?_)
    · refine lv_aload_n hx hb dX5_counts_35 rfl (lv_at hl 1 rfl) ?_
      refine lv_iload_n hx hb dX5_counts_36 rfl (lv_at hl 0 rfl) ?_
      refine lv_iload_n hx hb dX5_counts_37 rfl (lv_at hl 3 rfl) ?_
      refine n_csi (x := m_exist (ar 1) (m_stands (ar 1) t) th) (va_runV (As := [iv (m_stands (ar 1) t), iv th]) (rest := []) ⟨hx, hb, hml, hown, hts⟩ (mt_X5_existing l E o (us (us sc 17 (bsI f)) 18 ms) ar (m_stands (ar 1) t) th hB (by omega) (by omega) (by first | exact hom | exact ⟨how.1, how.2.1⟩ | omega)) (cwV 2 hts (lw_V q2328 q2330 qs75 q113 q2331) rfl rfl rfl (by decide +kernel) ⟨(show 2 + 1 ≤ 3 + (d + 1) by omega), (show 8 + (4 + 11) + 43 ≤ 66 + 25 * (d + 1) by omega)⟩) (PW_V hP hK (va_recv hK.1 hP (ci := 0) (q0 := 0) rfl rfl)) rfl rfl hl.1 rfl (lv_room (Nat.le_of_ble_eq_true rfl)) dX5_counts_38 ⟨Nat.le_of_ble_eq_true rfl, Nat.le_of_ble_eq_true rfl⟩) ?_
      have b_3 := m_exist_r (g := (ar 1)) (by first | exact hom | exact ⟨how.1, how.2.1⟩ | omega) (m_stands (ar 1) t) th
      refine n_if_ge (tgt := 56) hx hb dX5_counts_41 (by decide) (by omega) (fun c_4 => ?_) (fun c_4 => ?_)
      · refine lv_iconst (v := iI 0) hx hb dX5_counts_56 rfl ?_
        have hfin : 0 = (m_cnt (ar 1) th (d + 1) t (f, ms)).1 := by
          rw [m_cnt_s, if_neg (by simp [c_2, c_4, b2_t]), if_pos (by first | exact Or.inl (by assumption) | exact Or.inr (by assumption))]
        have w_5 : bsI f = bsI (m_cnt (ar 1) th (d + 1) t (f, ms)).2.1 := by
          rw [m_cnt_s, if_neg (by simp [c_2, c_4, b2_t]), if_pos (by first | exact Or.inl (by assumption) | exact Or.inr (by assumption))]
        rw [show (us (us sc 17 (bsI f)) 18 ms) = (us (us sc 17 (bsI (m_cnt (ar 1) th (d + 1) t (f, ms)).2.1)) 18 ms) from congrArg (fun z0 : Int => (us (us sc 17 z0) 18 ms)) w_5] at hP hD
        have w_6 : ms = (m_cnt (ar 1) th (d + 1) t (f, ms)).2.2 := by
          rw [m_cnt_s, if_neg (by simp [c_2, c_4, b2_t]), if_pos (by first | exact Or.inl (by assumption) | exact Or.inr (by assumption))]
        rw [show (us (us sc 17 (bsI (m_cnt (ar 1) th (d + 1) t (f, ms)).2.1)) 18 ms) = (us (us sc 17 (bsI (m_cnt (ar 1) th (d + 1) t (f, ms)).2.1)) 18 ((m_cnt (ar 1) th (d + 1) t (f, ms)).2.2)) from congrArg (fun z0 : Int => (us (us sc 17 (bsI (m_cnt (ar 1) th (d + 1) t (f, ms)).2.1)) 18 z0)) w_6] at hP hD
        exact W.iret (v := iI 0) hx hb hr (fun tt_ ht_ hW_ => ⟨⟨iI 0, (), rfl, (congrArg iI hfin), by rw [ht_]; exact hP, hD⟩, hS.F ht_⟩) hS.2.2 dX5_counts_57
      · refine lv_aload_n hx hb dX5_counts_44 rfl (lv_at hl 1 rfl) ?_
        refine va_get (D := E.1) (ci := 0) (v := iv (bsI f)) (C := RX5) (T := TX5) (N := 23) hx hb hts in_X5 hown hK.1 hP 0 rfl rfl 17 (by decide) (hts _ q2046) (fun _ h9 => h9) rfl dX5_counts_45 ?_
        refine lv_iload_n hx hb dX5_counts_48 rfl (lv_at hl 0 rfl) ?_
        have b_7 := bsI_r f
        refine n_ishr hx hb (by omega) (by omega) dX5_counts_49 ?_
        refine lv_iconst (v := iI 1) hx hb dX5_counts_50 rfl ?_
        refine n_iand1 hx hb dX5_counts_51 ?_
        rw [bsI_bit f (by omega)]
        refine lv_iconst (v := iI 1) hx hb dX5_counts_52 rfl ?_
        refine n_icmpb_ne (tgt := 58) hx hb dX5_counts_53 (by decide) (fun c_8 => ?_) (fun c_8 => ?_)
        · refine lv_iconst (v := iI 1) hx hb dX5_counts_58 rfl ?_
          refine lv_istore (lv' := [(4, iv 1), (3, iv (m_stands (ar 1) t)), (0, .ref (o 0)), (1, iv t), (2, iv th)]) hx hb dX5_counts_59 hl (by decide) rfl (fun ls hl => ?_)
          refine lv_iconst (v := iI 0) hx hb dX5_counts_61 rfl ?_
          refine lv_istore (lv' := [(5, iv 0), (4, iv 1), (3, iv (m_stands (ar 1) t)), (0, .ref (o 0)), (1, iv t), (2, iv th)]) hx hb dX5_counts_62 hl (by decide) rfl (fun ls hl => ?_)
          have l64 : ∀ (fu : Nat) (x4 : Int) (x5 : Int) (fv : Int → Bool) (mv : Int), (0 ≤ x5 ∧ x5 ≤ m_of (ar 1) (m_stands (ar 1) t) 2) → ((x4, fv, mv) = itI (m_cntF (ar 1) th d (m_stands (ar 1) t)) x5 (1, f, ms)) → (-1 ≤ mv ∧ mv < 8) → (m_of (ar 1) (m_stands (ar 1) t) 2 - x5 < (fu : Int)) → ∀ (H : Heap) (locs : List Loc), va_P E.1 CL (MW E o (us (us sc 17 (bsI fv)) 18 mv) ar) H → va_D A (MW E o (us (us sc 17 (bsI fv)) 18 mv) ar) → va_S A s.heap H locs → ∀ ls : Array Slot, lv_has ls 6 [(5, iv x5), (4, iv x4), (3, iv (m_stands (ar 1) t)), (0, .ref (o 0)), (1, iv t), (2, iv th)] → W p l e (headSpec (ws_ yX5_counts cX5_counts 6 (some .int)) { frames := 3 + (d + 1), cells := 0, slots := 0, locals := 66 + 25 * (d + 1) }).room s m ([.ref (o 0), iv t, iv th] : List Value).toArray below meth c H locs 0 0 (MQ below (UQi E ((m_cnt (ar 1) th (d + 1) t (f, ms)).1) (MW E o (us (us sc 17 (bsI (m_cnt (ar 1) th (d + 1) t (f, ms)).2.1)) 18 ((m_cnt (ar 1) th (d + 1) t (f, ms)).2.2)) ar) A) ([.ref (o 0), iv t, iv th] : List Value).toArray s 0 0 A) (F0 m 64 ls []) := by
            intro fu
            induction fu with
            | zero =>
              intro x4 x5 fv mv il64_0 il64_1 il64_2 hm
              exfalso; omega
            | succ fu ih =>
              intro x4 x5 fv mv il64_0 il64_1 il64_2 hm H locs hP hD hS ls hl
              have ihl64 := ih
              refine lv_iload hx hb dX5_counts_64 (lv_at hl 0 rfl) ?_
              refine lv_aload_n hx hb dX5_counts_66 rfl (lv_at hl 3 rfl) ?_
              refine lv_iload_n hx hb dX5_counts_67 rfl (lv_at hl 2 rfl) ?_
              refine lv_iconst (v := iI 2) hx hb dX5_counts_68 rfl ?_
              refine n_csi (x := m_of (ar 1) (m_stands (ar 1) t) 2) (va_runV (As := [iv (m_stands (ar 1) t), iv 2]) (rest := [iv x5]) ⟨hx, hb, hml, hown, hts⟩ (mt_X5_of l E o (us (us sc 17 (bsI fv)) 18 mv) ar (m_stands (ar 1) t) 2 (by omega)) (cwV 2 hts (lw_V q2120 q2122 qs49 q113 q2123) rfl rfl rfl (by decide +kernel) ⟨(show 0 + 1 ≤ 3 + (d + 1) by omega), (show 8 + (3 + 11) + 0 ≤ 66 + 25 * (d + 1) by omega)⟩) (PW_V hP hK (va_recv hK.1 hP (ci := 0) (q0 := 0) rfl rfl)) rfl rfl hl.1 rfl (lv_room (Nat.le_of_ble_eq_true rfl)) dX5_counts_69 ⟨Nat.le_of_ble_eq_true rfl, Nat.le_of_ble_eq_true rfl⟩) ?_
              have b_9 := (show 0 ≤ m_of (ar 1) (m_stands (ar 1) t) 2 ∧ m_of (ar 1) (m_stands (ar 1) t) 2 < 2147483648 from (hB 1) _)
              refine n_icmp_ge (tgt := 108) hx hb dX5_counts_72 (by decide) (by omega) (by omega) (fun c_10 => ?_) (fun c_10 => ?_)
              · have hx5 : x5 = m_of (ar 1) (m_stands (ar 1) t) 2 := by omega
                refine lv_aload_n hx hb dX5_counts_108 rfl (lv_at hl 3 rfl) ?_
                refine lv_iload_n hx hb dX5_counts_109 rfl (lv_at hl 2 rfl) ?_
                refine lv_iconst (v := iI 0) hx hb dX5_counts_110 rfl ?_
                refine n_csi (x := m_of (ar 1) (m_stands (ar 1) t) 0) (va_runV (As := [iv (m_stands (ar 1) t), iv 0]) (rest := []) ⟨hx, hb, hml, hown, hts⟩ (mt_X5_of l E o (us (us sc 17 (bsI fv)) 18 mv) ar (m_stands (ar 1) t) 0 (by omega)) (cwV 2 hts (lw_V q2120 q2122 qs49 q113 q2123) rfl rfl rfl (by decide +kernel) ⟨(show 0 + 1 ≤ 3 + (d + 1) by omega), (show 8 + (3 + 11) + 0 ≤ 66 + 25 * (d + 1) by omega)⟩) (PW_V hP hK (va_recv hK.1 hP (ci := 0) (q0 := 0) rfl rfl)) rfl rfl hl.1 rfl (lv_room (Nat.le_of_ble_eq_true rfl)) dX5_counts_111 ⟨Nat.le_of_ble_eq_true rfl, Nat.le_of_ble_eq_true rfl⟩) ?_
                refine lv_bipush (v := iI 101) hx hb dX5_counts_114 (by decide) ?_
                have b_11 := (show 0 ≤ m_of (ar 1) (m_stands (ar 1) t) 0 ∧ m_of (ar 1) (m_stands (ar 1) t) 0 < 2147483648 from (hB 1) _)
                refine n_icmp_eq (tgt := 131) hx hb dX5_counts_116 (by decide) (by omega) (by omega) (fun c_12 => ?_) (fun c_12 => ?_)
                · refine lv_iload hx hb dX5_counts_131 (lv_at hl 1 rfl) ?_
                  have hfin : x4 = (m_cnt (ar 1) th (d + 1) t (f, ms)).1 := by
                    rw [m_cnt_s, if_neg (by simp [c_2, c_4, c_8, c_10, c_12, b2_t]), if_neg (by simp [c_2, c_4, c_8, c_10, c_12, b2_t]; try omega), ← hx5, ← il64_1]
                    try first | rw [if_pos (by assumption)] | rw [if_neg (by assumption)]
                  have w_13 : bsI fv = bsI (m_cnt (ar 1) th (d + 1) t (f, ms)).2.1 := by
                    rw [m_cnt_s, if_neg (by simp [c_2, c_4, c_8, c_10, c_12, b2_t]), if_neg (by simp [c_2, c_4, c_8, c_10, c_12, b2_t]; try omega), ← hx5, ← il64_1]
                    try first | rw [if_pos (by assumption)] | rw [if_neg (by assumption)]
                  rw [show (us (us sc 17 (bsI fv)) 18 mv) = (us (us sc 17 (bsI (m_cnt (ar 1) th (d + 1) t (f, ms)).2.1)) 18 mv) from congrArg (fun z0 : Int => (us (us sc 17 z0) 18 mv)) w_13] at hP hD
                  have w_14 : mv = (m_cnt (ar 1) th (d + 1) t (f, ms)).2.2 := by
                    rw [m_cnt_s, if_neg (by simp [c_2, c_4, c_8, c_10, c_12, b2_t]), if_neg (by simp [c_2, c_4, c_8, c_10, c_12, b2_t]; try omega), ← hx5, ← il64_1]
                    try first | rw [if_pos (by assumption)] | rw [if_neg (by assumption)]
                  rw [show (us (us sc 17 (bsI (m_cnt (ar 1) th (d + 1) t (f, ms)).2.1)) 18 mv) = (us (us sc 17 (bsI (m_cnt (ar 1) th (d + 1) t (f, ms)).2.1)) 18 ((m_cnt (ar 1) th (d + 1) t (f, ms)).2.2)) from congrArg (fun z0 : Int => (us (us sc 17 (bsI (m_cnt (ar 1) th (d + 1) t (f, ms)).2.1)) 18 z0)) w_14] at hP hD
                  exact W.iret (v := iI x4) hx hb hr (fun tt_ ht_ hW_ => ⟨⟨iI x4, (), rfl, (congrArg iI hfin), by rw [ht_]; exact hP, hD⟩, hS.F ht_⟩) hS.2.2 dX5_counts_133
                · refine lv_aload_n hx hb dX5_counts_119 rfl (lv_at hl 3 rfl) ?_
                  refine lv_dup hx hb dX5_counts_120 rfl ?_
                  refine va_get (D := E.1) (ci := 0) (v := iv (bsI fv)) (C := RX5) (T := TX5) (N := 23) hx hb hts in_X5 hown hK.1 hP 0 rfl rfl 17 (by decide) (hts _ q2046) (fun _ h9 => h9) rfl dX5_counts_121 ?_
                  refine lv_iconst (v := iI 1) hx hb dX5_counts_124 rfl ?_
                  refine lv_iload_n hx hb dX5_counts_125 rfl (lv_at hl 2 rfl) ?_
                  refine n_ishl1_bs hx hb (by omega) dX5_counts_126 ?_
                  refine n_ior_bs hx hb dX5_counts_127 ?_
                  refine va_put (D := E.1) (ci := 0) (v := iv (bsI (fun v => fv v || (fun v => decide (v = m_stands (ar 1) t)) v))) (ty := .int) (C := RX5) (T := TX5) (N := 23) hx hb hts in_X5 tyX5 tyX5_ok nmX5 hown hK.1 hP hD hS 0 rfl rfl 17 (by decide) (hts _ q2046) (fun _ h9 => h9) rfl (by decide +kernel) rfl rfl (Nat.le_of_ble_eq_true rfl) dX5_counts_128 (fun H locs hP hD hS => ?_)
                  have hP : va_P E.1 CL (MW E o (us (us sc 17 (bsI (fun v => fv v || (fun v => decide (v = m_stands (ar 1) t)) v))) 18 mv) ar) H := hP
                  have hD : va_D A (MW E o (us (us sc 17 (bsI (fun v => fv v || (fun v => decide (v = m_stands (ar 1) t)) v))) 18 mv) ar) := hD
                  refine lv_iload hx hb dX5_counts_131 (lv_at hl 1 rfl) ?_
                  have hfin : x4 = (m_cnt (ar 1) th (d + 1) t (f, ms)).1 := by
                    rw [m_cnt_s, if_neg (by simp [c_2, c_4, c_8, c_10, c_12, b2_t]), if_neg (by simp [c_2, c_4, c_8, c_10, c_12, b2_t]; try omega), ← hx5, ← il64_1]
                    try first | rw [if_pos (by assumption)] | rw [if_neg (by assumption)]
                  have w_15 : bsI (fun v => fv v || (fun v => decide (v = m_stands (ar 1) t)) v) = bsI (m_cnt (ar 1) th (d + 1) t (f, ms)).2.1 := by
                    rw [m_cnt_s, if_neg (by simp [c_2, c_4, c_8, c_10, c_12, b2_t]), if_neg (by simp [c_2, c_4, c_8, c_10, c_12, b2_t]; try omega), ← hx5, ← il64_1]
                    try first | rw [if_pos (by assumption)] | rw [if_neg (by assumption)]
                  rw [show (us (us sc 17 (bsI (fun v => fv v || (fun v => decide (v = m_stands (ar 1) t)) v))) 18 mv) = (us (us sc 17 (bsI (m_cnt (ar 1) th (d + 1) t (f, ms)).2.1)) 18 mv) from congrArg (fun z0 : Int => (us (us sc 17 z0) 18 mv)) w_15] at hP hD
                  have w_16 : mv = (m_cnt (ar 1) th (d + 1) t (f, ms)).2.2 := by
                    rw [m_cnt_s, if_neg (by simp [c_2, c_4, c_8, c_10, c_12, b2_t]), if_neg (by simp [c_2, c_4, c_8, c_10, c_12, b2_t]; try omega), ← hx5, ← il64_1]
                    try first | rw [if_pos (by assumption)] | rw [if_neg (by assumption)]
                  rw [show (us (us sc 17 (bsI (m_cnt (ar 1) th (d + 1) t (f, ms)).2.1)) 18 mv) = (us (us sc 17 (bsI (m_cnt (ar 1) th (d + 1) t (f, ms)).2.1)) 18 ((m_cnt (ar 1) th (d + 1) t (f, ms)).2.2)) from congrArg (fun z0 : Int => (us (us sc 17 (bsI (m_cnt (ar 1) th (d + 1) t (f, ms)).2.1)) 18 z0)) w_16] at hP hD
                  exact W.iret (v := iI x4) hx hb hr (fun tt_ ht_ hW_ => ⟨⟨iI x4, (), rfl, (congrArg iI hfin), by rw [ht_]; exact hP, hD⟩, hS.F ht_⟩) hS.2.2 dX5_counts_133
              · refine lv_aload_n hx hb dX5_counts_75 rfl (lv_at hl 3 rfl) ?_
                refine lv_iload_n hx hb dX5_counts_76 rfl (lv_at hl 2 rfl) ?_
                refine lv_iload hx hb dX5_counts_77 (lv_at hl 0 rfl) ?_
                refine n_csi (x := b2 (m_dir (ar 1) (m_stands (ar 1) t) x5)) (va_runV (As := [iv (m_stands (ar 1) t), iv x5]) (rest := []) ⟨hx, hb, hml, hown, hts⟩ (mt_X5_isDirect l E o (us (us sc 17 (bsI fv)) 18 mv) ar (m_stands (ar 1) t) x5 hB (by omega) (by omega)) (cwV 2 hts (lw_V q2187 q2189 qs63 q113 q2190) rfl rfl rfl (by decide +kernel) ⟨(show 1 + 1 ≤ 3 + (d + 1) by omega), (show 8 + (3 + 11) + 22 ≤ 66 + 25 * (d + 1) by omega)⟩) (PW_V hP hK (va_recv hK.1 hP (ci := 0) (q0 := 0) rfl rfl)) rfl rfl hl.1 rfl (lv_room (Nat.le_of_ble_eq_true rfl)) dX5_counts_79 ⟨Nat.le_of_ble_eq_true rfl, Nat.le_of_ble_eq_true rfl⟩) ?_
                refine n_ifb_eq (tgt := 102) hx hb dX5_counts_82 (by decide) (fun c_17 => ?_) (fun c_17 => ?_)
                · refine lv_iinc (v := iI (x5 + 1)) (lv' := [(5, iv (x5 + 1)), (4, iv x4), (3, iv (m_stands (ar 1) t)), (0, .ref (o 0)), (1, iv t), (2, iv th)]) hx hb dX5_counts_102 hl (k := 0) rfl (iI_add _ _) (by decide) rfl (fun ls hl => ?_)
                  refine lv_goto (tgt := 64) hx hb dX5_counts_105 (by decide) ?_
                  exact ihl64 x4 (x5 + 1) fv mv (by first | omega | rfl) (by rw [itI_s (by omega), ← il64_1]; unfold m_cntF; first | rw [if_pos (by assumption)] | rw [if_neg (by simp [c_2, c_4, c_8, c_10, c_17, b2_t])]) (by first | omega | rfl) (by omega) H locs hP hD hS ls (lv_sub hl [0, 1, 2, 3, 4, 5] rfl)
                · refine lv_iload hx hb dX5_counts_85 (lv_at hl 1 rfl) ?_
                  refine lv_aload_n hx hb dX5_counts_87 rfl (lv_at hl 3 rfl) ?_
                  refine lv_aload_n hx hb dX5_counts_88 rfl (lv_at hl 3 rfl) ?_
                  refine lv_iload_n hx hb dX5_counts_89 rfl (lv_at hl 2 rfl) ?_
                  refine lv_iload hx hb dX5_counts_90 (lv_at hl 0 rfl) ?_
                  refine n_csi (x := m_need (ar 1) (m_stands (ar 1) t) x5) (va_runV (As := [iv (m_stands (ar 1) t), iv x5]) (rest := [.ref (o 0), iv x4]) ⟨hx, hb, hml, hown, hts⟩ (mt_X5_need l E o (us (us sc 17 (bsI fv)) 18 mv) ar (m_stands (ar 1) t) x5 hB (by omega) (by omega)) (cwV 2 hts (lw_V q2167 q2169 qs58 q113 q2170) rfl rfl rfl (by decide +kernel) ⟨(show 1 + 1 ≤ 3 + (d + 1) by omega), (show 8 + (3 + 11) + 22 ≤ 66 + 25 * (d + 1) by omega)⟩) (PW_V hP hK (va_recv hK.1 hP (ci := 0) (q0 := 0) rfl rfl)) rfl rfl hl.1 rfl (lv_room (Nat.le_of_ble_eq_true rfl)) dX5_counts_92 ⟨Nat.le_of_ble_eq_true rfl, Nat.le_of_ble_eq_true rfl⟩) ?_
                  refine lv_iload_n hx hb dX5_counts_95 rfl (lv_at hl 5 rfl) ?_
                  have hq := hrk (m_stands (ar 1) t) x5 hur.1 hur.2 (by omega) (by omega) (by assumption)
                  have b_18 := (show 0 ≤ m_need (ar 1) (m_stands (ar 1) t) x5 ∧ m_need (ar 1) (m_stands (ar 1) t) x5 < 8 from ⟨Int.emod_nonneg _ (by decide), Int.emod_lt_of_pos _ (by decide)⟩)
                  refine n_cui (x := (m_cnt (ar 1) th d (m_need (ar 1) (m_stands (ar 1) t) x5) (fv, mv)).1) (va_runV (As := [iv (m_need (ar 1) (m_stands (ar 1) t) x5), iv th]) (rest := [iv x4]) ⟨hx, hb, hml, hown, hts⟩ (ihd o (us (us sc 17 (bsI fv)) 18 mv) ar (m_need (ar 1) (m_stands (ar 1) t) x5) th r fv mv hB (by omega) (by omega) (by assumption) (by assumption) (by assumption) (by assumption) (by omega) (by omega) (by omega) _) (cwV 2 hts (lw_V q2324 q2326 qs74 q113 q2327) rfl rfl rfl (by decide +kernel) ⟨(show 3 + d + 1 ≤ 3 + (d + 1) by omega), (show 8 + (6 + 11) + (66 + 25 * d) ≤ 66 + 25 * (d + 1) by omega)⟩) (UW_V hP hK (hD) (va_recv hK.1 hP (ci := 0) (q0 := 0) rfl rfl)) rfl rfl hl.1 rfl (lv_room (Nat.le_of_ble_eq_true rfl)) dX5_counts_96 ⟨Nat.le_of_ble_eq_true rfl, Nat.le_of_ble_eq_true rfl⟩) hD hS hA (fun H locs hP hD hS => ?_)
                  have hP : va_P E.1 CL (MW E o (us (us sc 17 (bsI (m_cnt (ar 1) th d (m_need (ar 1) (m_stands (ar 1) t) x5) (fv, mv)).2.1)) 18 ((m_cnt (ar 1) th d (m_need (ar 1) (m_stands (ar 1) t) x5) (fv, mv)).2.2)) ar) H := hP
                  have hD : va_D A (MW E o (us (us sc 17 (bsI (m_cnt (ar 1) th d (m_need (ar 1) (m_stands (ar 1) t) x5) (fv, mv)).2.1)) 18 ((m_cnt (ar 1) th d (m_need (ar 1) (m_stands (ar 1) t) x5) (fv, mv)).2.2)) ar) := hD
                  have hcr := m_cnt_r htw hsw th d (m_need (ar 1) (m_stands (ar 1) t) x5) (fv, mv) (by omega) (by omega) (by omega) (by omega)
                  refine n_iadd hx hb dX5_counts_99 ?_
                  refine lv_istore (lv' := [(4, iv (x4 + ((m_cnt (ar 1) th d (m_need (ar 1) (m_stands (ar 1) t) x5) (fv, mv)).1))), (5, iv x5), (3, iv (m_stands (ar 1) t)), (0, .ref (o 0)), (1, iv t), (2, iv th)]) hx hb dX5_counts_100 hl (by decide) rfl (fun ls hl => ?_)
                  refine lv_iinc (v := iI (x5 + 1)) (lv' := [(5, iv (x5 + 1)), (4, iv (x4 + ((m_cnt (ar 1) th d (m_need (ar 1) (m_stands (ar 1) t) x5) (fv, mv)).1))), (3, iv (m_stands (ar 1) t)), (0, .ref (o 0)), (1, iv t), (2, iv th)]) hx hb dX5_counts_102 hl (k := 1) rfl (iI_add _ _) (by decide) rfl (fun ls hl => ?_)
                  refine lv_goto (tgt := 64) hx hb dX5_counts_105 (by decide) ?_
                  exact ihl64 (x4 + ((m_cnt (ar 1) th d (m_need (ar 1) (m_stands (ar 1) t) x5) (fv, mv)).1)) (x5 + 1) ((m_cnt (ar 1) th d (m_need (ar 1) (m_stands (ar 1) t) x5) (fv, mv)).2.1) ((m_cnt (ar 1) th d (m_need (ar 1) (m_stands (ar 1) t) x5) (fv, mv)).2.2) (by first | omega | rfl) (by rw [itI_s (by omega), ← il64_1]; unfold m_cntF; first | rw [if_pos (by assumption)] | rw [if_neg (by simp [c_2, c_4, c_8, c_10, c_17, b2_t])]) (by first | omega | rfl) (by omega) H locs hP hD hS ls (lv_sub hl [0, 1, 2, 3, 4, 5] rfl)
          exact l64 4 1 0 f ms (by first | omega | rfl | trivial) (by rfl) (by first | omega | rfl | trivial) (by omega) s.heap [] hP hD hS ls hl
        · refine lv_iconst (v := iI 0) hx hb dX5_counts_56 rfl ?_
          have hfin : 0 = (m_cnt (ar 1) th (d + 1) t (f, ms)).1 := by
            rw [m_cnt_s, if_neg (by simp [c_2, c_4, c_8, b2_t]), if_pos (by first | exact Or.inl (by assumption) | exact Or.inr (by assumption))]
          have w_19 : bsI f = bsI (m_cnt (ar 1) th (d + 1) t (f, ms)).2.1 := by
            rw [m_cnt_s, if_neg (by simp [c_2, c_4, c_8, b2_t]), if_pos (by first | exact Or.inl (by assumption) | exact Or.inr (by assumption))]
          rw [show (us (us sc 17 (bsI f)) 18 ms) = (us (us sc 17 (bsI (m_cnt (ar 1) th (d + 1) t (f, ms)).2.1)) 18 ms) from congrArg (fun z0 : Int => (us (us sc 17 z0) 18 ms)) w_19] at hP hD
          have w_20 : ms = (m_cnt (ar 1) th (d + 1) t (f, ms)).2.2 := by
            rw [m_cnt_s, if_neg (by simp [c_2, c_4, c_8, b2_t]), if_pos (by first | exact Or.inl (by assumption) | exact Or.inr (by assumption))]
          rw [show (us (us sc 17 (bsI (m_cnt (ar 1) th (d + 1) t (f, ms)).2.1)) 18 ms) = (us (us sc 17 (bsI (m_cnt (ar 1) th (d + 1) t (f, ms)).2.1)) 18 ((m_cnt (ar 1) th (d + 1) t (f, ms)).2.2)) from congrArg (fun z0 : Int => (us (us sc 17 (bsI (m_cnt (ar 1) th (d + 1) t (f, ms)).2.1)) 18 z0)) w_20] at hP hD
          exact W.iret (v := iI 0) hx hb hr (fun tt_ ht_ hW_ => ⟨⟨iI 0, (), rfl, (congrArg iI hfin), by rw [ht_]; exact hP, hD⟩, hS.F ht_⟩) hS.2.2 dX5_counts_57
    · refine lv_aload_n hx hb dX5_counts_14 rfl (lv_at hl 1 rfl) ?_
      refine lv_aload_n hx hb dX5_counts_15 rfl (lv_at hl 1 rfl) ?_
      refine va_get (D := E.1) (ci := 0) (v := iv ms) (C := RX5) (T := TX5) (N := 23) hx hb hts in_X5 hown hK.1 hP 0 rfl rfl 18 (by decide) (hts _ q2047) (fun _ h9 => h9) rfl dX5_counts_16 ?_
      refine n_if_ge (tgt := 26) hx hb dX5_counts_19 (by decide) (by omega) (fun c_21 => ?_) (fun c_21 => ?_)
      · refine lv_aload_n hx hb dX5_counts_26 rfl (lv_at hl 1 rfl) ?_
        refine va_get (D := E.1) (ci := 0) (v := iv ms) (C := RX5) (T := TX5) (N := 23) hx hb hts in_X5 hown hK.1 hP 0 rfl rfl 18 (by decide) (hts _ q2047) (fun _ h9 => h9) rfl dX5_counts_27 ?_
        refine va_put (D := E.1) (ci := 0) (v := iv ms) (ty := .int) (C := RX5) (T := TX5) (N := 23) hx hb hts in_X5 tyX5 tyX5_ok nmX5 hown hK.1 hP hD hS 0 rfl rfl 18 (by decide) (hts _ q2047) (fun _ h9 => h9) rfl (by decide +kernel) rfl rfl (Nat.le_of_ble_eq_true rfl) dX5_counts_30 (fun H locs hP hD hS => ?_)
        have hP : va_P E.1 CL (MW E o (us (us sc 17 (bsI f)) 18 ms) ar) H := hP
        have hD : va_D A (MW E o (us (us sc 17 (bsI f)) 18 ms) ar) := hD
        refine lv_iconst (v := iI 0) hx hb dX5_counts_33 rfl ?_
        have hfin : 0 = (m_cnt (ar 1) th (d + 1) t (f, ms)).1 := by
          rw [m_cnt_s, if_pos (by assumption)]
        have w_22 : bsI f = bsI (m_cnt (ar 1) th (d + 1) t (f, ms)).2.1 := by
          rw [m_cnt_s, if_pos (by assumption)]
        rw [show (us (us sc 17 (bsI f)) 18 ms) = (us (us sc 17 (bsI (m_cnt (ar 1) th (d + 1) t (f, ms)).2.1)) 18 ms) from congrArg (fun z0 : Int => (us (us sc 17 z0) 18 ms)) w_22] at hP hD
        have w_23 : ms = (m_cnt (ar 1) th (d + 1) t (f, ms)).2.2 := by
          rw [m_cnt_s, if_pos (by assumption)]
          first | exact (if_pos (by omega)).symm | exact (if_neg (by omega)).symm
        rw [show (us (us sc 17 (bsI (m_cnt (ar 1) th (d + 1) t (f, ms)).2.1)) 18 ms) = (us (us sc 17 (bsI (m_cnt (ar 1) th (d + 1) t (f, ms)).2.1)) 18 ((m_cnt (ar 1) th (d + 1) t (f, ms)).2.2)) from congrArg (fun z0 : Int => (us (us sc 17 (bsI (m_cnt (ar 1) th (d + 1) t (f, ms)).2.1)) 18 z0)) w_23] at hP hD
        exact W.iret (v := iI 0) hx hb hr (fun tt_ ht_ hW_ => ⟨⟨iI 0, (), rfl, (congrArg iI hfin), by rw [ht_]; exact hP, hD⟩, hS.F ht_⟩) hS.2.2 dX5_counts_34
      · refine lv_iload_n hx hb dX5_counts_22 rfl (lv_at hl 0 rfl) ?_
        refine lv_goto (tgt := 30) hx hb dX5_counts_23 (by decide) ?_
        refine va_put (D := E.1) (ci := 0) (v := iv (m_stands (ar 1) t)) (ty := .int) (C := RX5) (T := TX5) (N := 23) hx hb hts in_X5 tyX5 tyX5_ok nmX5 hown hK.1 hP hD hS 0 rfl rfl 18 (by decide) (hts _ q2047) (fun _ h9 => h9) rfl (by decide +kernel) rfl rfl (Nat.le_of_ble_eq_true rfl) dX5_counts_30 (fun H locs hP hD hS => ?_)
        have hP : va_P E.1 CL (MW E o (us (us sc 17 (bsI f)) 18 (m_stands (ar 1) t)) ar) H := hP
        have hD : va_D A (MW E o (us (us sc 17 (bsI f)) 18 (m_stands (ar 1) t)) ar) := hD
        refine lv_iconst (v := iI 0) hx hb dX5_counts_33 rfl ?_
        have hfin : 0 = (m_cnt (ar 1) th (d + 1) t (f, ms)).1 := by
          rw [m_cnt_s, if_pos (by assumption)]
        have w_24 : bsI f = bsI (m_cnt (ar 1) th (d + 1) t (f, ms)).2.1 := by
          rw [m_cnt_s, if_pos (by assumption)]
        rw [show (us (us sc 17 (bsI f)) 18 (m_stands (ar 1) t)) = (us (us sc 17 (bsI (m_cnt (ar 1) th (d + 1) t (f, ms)).2.1)) 18 (m_stands (ar 1) t)) from congrArg (fun z0 : Int => (us (us sc 17 z0) 18 (m_stands (ar 1) t))) w_24] at hP hD
        have w_25 : m_stands (ar 1) t = (m_cnt (ar 1) th (d + 1) t (f, ms)).2.2 := by
          rw [m_cnt_s, if_pos (by assumption)]
          first | exact (if_pos (by omega)).symm | exact (if_neg (by omega)).symm
        rw [show (us (us sc 17 (bsI (m_cnt (ar 1) th (d + 1) t (f, ms)).2.1)) 18 (m_stands (ar 1) t)) = (us (us sc 17 (bsI (m_cnt (ar 1) th (d + 1) t (f, ms)).2.1)) 18 ((m_cnt (ar 1) th (d + 1) t (f, ms)).2.2)) from congrArg (fun z0 : Int => (us (us sc 17 (bsI (m_cnt (ar 1) th (d + 1) t (f, ms)).2.1)) 18 z0)) w_25] at hP hD
        exact W.iret (v := iI 0) hx hb hr (fun tt_ ht_ hW_ => ⟨⟨iI 0, (), rfl, (congrArg iI hfin), by rw [ht_]; exact hP, hD⟩, hS.F ht_⟩) hS.2.2 dX5_counts_34
