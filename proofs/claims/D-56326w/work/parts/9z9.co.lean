set_option maxHeartbeats 1000000 in
set_option maxRecDepth 100000 in
theorem mt_X4_at (l : Launch) (E : EE) (pr : Nat) (ps : Int) (al : Nat) (bf : Nat) (bm : Int) (bc : Int) (bv : Nat) (bg : Int → Int) (i : Int) (bn : Nat) (hbb : 0 ≤ bc ∧ bc ≤ (bn : Int)) (hbn : bn ≤ 64) (hb7 : B7 bg) (hi : 0 ≤ i ∧ i < 100000) : Met l yX4_at (ws_ yX4_at cX4_at 2 (some .int)) { frames := 4, cells := 0, slots := 0, locals := 88 } (va_Pc [.ref pr, iv i] (PX E (([(pr, .inr (4, [.ref bf, iv ps, .ref al]))] : va_W) ++ ([(bf, .inr (10, [.ref bv, iv 0, iv bm, iv bc]))] : va_W) ++ ([(bv, ia (E.2 3) bn bg)] : va_W)))) (NP (p_here bg bc i)) 0 0 (fun _ => False) := by
  refine Met.ofW (cc := cX4_at) (maxL := 2) (ret := (some .int)) (by decide) rfl ?_
  intro p e s m args below meth c s₁ B hml hv
  obtain ⟨rfl, hP, hK, hE⟩ := hv
  have hS : va_S (fun _ => False) s.heap s.heap [] := va_S.rf
  have hx := B.exec
  have hb := B.bytes
  have hr := B.returns
  have hts := atoms_spec (ws := (ws_ yX4_at cX4_at 2 (some .int))) B.pre
  have hts : ∀ w ∈ lw_all, w.before _ s = true := fun w h => hts w (List.mem_cons_of_mem _ h)
  have hown : s.vm.findClass RX4 = some m.cls := findClass_of_methodNamed B.named
  have hlocks := B.notSynchronized
  have hl := lv_entry ([.ref pr, iv i]) (n := 2) (Nat.le_of_ble_eq_true rfl)
  rw [lg_entry_eq]
  generalize (lg_sl ([.ref pr, iv i]) ++ List.replicate (2 - (lg_sl ([.ref pr, iv i])).length) Slot.unset).toArray = ls at hl ⊢
  have hl : lv_has ls 2 [(0, .ref pr), (1, iv i)] := hl
  have hcb := hb7 i
  refine lv_iload_n hx hb dX4_at_0 rfl (lv_at hl 1 rfl) ?_
  refine lv_aload_n hx hb dX4_at_1 rfl (lv_at hl 0 rfl) ?_
  refine va_get (D := E.1) (ci := 4) (v := .ref bf) (C := RX4) (T := TX4) (N := 3) hx hb hts in_X4 hown hK.1 hP 0 rfl rfl 0 (by decide) (hts _ q328) (fun _ h9 => h9) rfl dX4_at_2 ?_
  refine n_csi (x := bc) (va_runV (As := []) (rest := [iv i]) ⟨hx, hb, hml, hown, hts⟩ (mt_J3_length l E bf bv bm bc ) (cwV 0 hts (lw_V q1769 q1585 q2544 q100 q1586) rfl rfl rfl (by decide +kernel) ⟨Nat.le_of_ble_eq_true rfl, Nat.le_of_ble_eq_true rfl⟩) (PW_V (hP.sub (ws' := [(bf, .inr (10, [.ref bv, iv 0, iv bm, iv bc]))]) [1] rfl) hK (va_recv hK.1 hP (ci := 10) (q0 := 1) rfl rfl)) rfl rfl hl.1 rfl (lv_room (Nat.le_of_ble_eq_true rfl)) dX4_at_5 ⟨Nat.le_of_ble_eq_true rfl, Nat.le_of_ble_eq_true rfl⟩) ?_
  refine n_icmp_ge (tgt := 22) hx hb dX4_at_8 (by decide) (by omega) (by omega) (fun c_1 => ?_) (fun c_1 => ?_)
  · refine lv_iconst (v := iI (-1)) hx hb dX4_at_22 rfl ?_
    have hfin : (-1) = p_here bg bc i := by
      unfold p_here
      first | (rw [if_pos (by omega)]; done) | (rw [if_neg (by omega)]; done)
    exact W.iret (v := iI (-1)) hx hb hr (fun tt_ ht_ hW_ => ⟨iI (-1), rfl, (congrArg iI hfin), ht_⟩) (fun q h => by cases h) dX4_at_23
  · refine lv_aload_n hx hb dX4_at_11 rfl (lv_at hl 0 rfl) ?_
    refine va_get (D := E.1) (ci := 4) (v := .ref bf) (C := RX4) (T := TX4) (N := 3) hx hb hts in_X4 hown hK.1 hP 0 rfl rfl 0 (by decide) (hts _ q328) (fun _ h9 => h9) rfl dX4_at_12 ?_
    refine lv_iload_n hx hb dX4_at_15 rfl (lv_at hl 1 rfl) ?_
    refine n_csi (x := bg i) (va_runV (As := [iv i]) (rest := []) ⟨hx, hb, hml, hown, hts⟩ (mt_J3_charAt l E bf bm bc bv bg i (bn) (by omega) (by omega) (by exact hb7 _)) (cwV 1 hts (lw_V q1770 q1719 q1720 q100 q1721) rfl rfl rfl (by decide +kernel) ⟨Nat.le_of_ble_eq_true rfl, Nat.le_of_ble_eq_true rfl⟩) (PX_V (hP.sub (ws' := ([(bf, .inr (10, [.ref bv, iv 0, iv bm, iv bc]))] : va_W) ++ ([(bv, ia (E.2 3) bn bg)] : va_W)) [1, 2] rfl) hK hE hS (va_recv hK.1 hP (ci := 10) (q0 := 1) rfl rfl)) rfl rfl hl.1 rfl (lv_room (Nat.le_of_ble_eq_true rfl)) dX4_at_16 ⟨Nat.le_of_ble_eq_true rfl, Nat.le_of_ble_eq_true rfl⟩) ?_
    refine lv_goto (tgt := 23) hx hb dX4_at_19 (by decide) ?_
    have hfin : bg i = p_here bg bc i := by
      unfold p_here
      first | (rw [if_pos (by omega)]; done) | (rw [if_neg (by omega)]; done)
    exact W.iret (v := iI (bg i)) hx hb hr (fun tt_ ht_ hW_ => ⟨iI (bg i), rfl, (congrArg iI hfin), ht_⟩) (fun q h => by cases h) dX4_at_23
set_option maxHeartbeats 1000000 in
set_option maxRecDepth 100000 in
theorem mt_X4_current (l : Launch) (E : EE) (pr : Nat) (ps : Int) (al : Nat) (bf : Nat) (bm : Int) (bc : Int) (bv : Nat) (bg : Int → Int)  (bn : Nat) (hbb : 0 ≤ bc ∧ bc ≤ (bn : Int)) (hbn : bn ≤ 64) (hb7 : B7 bg) (hps : 0 ≤ ps ∧ ps ≤ bc) : Met l yX4_current (ws_ yX4_current cX4_current 1 (some .int)) { frames := 5, cells := 0, slots := 0, locals := 109 } (va_Pc [.ref pr] (PX E (([(pr, .inr (4, [.ref bf, iv ps, .ref al]))] : va_W) ++ ([(bf, .inr (10, [.ref bv, iv 0, iv bm, iv bc]))] : va_W) ++ ([(bv, ia (E.2 3) bn bg)] : va_W)))) (NP (p_here bg bc ps)) 0 0 (fun _ => False) := by
  refine Met.ofW (cc := cX4_current) (maxL := 1) (ret := (some .int)) (by decide) rfl ?_
  intro p e s m args below meth c s₁ B hml hv
  obtain ⟨rfl, hP, hK, hE⟩ := hv
  have hS : va_S (fun _ => False) s.heap s.heap [] := va_S.rf
  have hx := B.exec
  have hb := B.bytes
  have hr := B.returns
  have hts := atoms_spec (ws := (ws_ yX4_current cX4_current 1 (some .int))) B.pre
  have hts : ∀ w ∈ lw_all, w.before _ s = true := fun w h => hts w (List.mem_cons_of_mem _ h)
  have hown : s.vm.findClass RX4 = some m.cls := findClass_of_methodNamed B.named
  have hlocks := B.notSynchronized
  have hl := lv_entry ([.ref pr]) (n := 1) (Nat.le_of_ble_eq_true rfl)
  rw [lg_entry_eq]
  generalize (lg_sl ([.ref pr]) ++ List.replicate (1 - (lg_sl ([.ref pr])).length) Slot.unset).toArray = ls at hl ⊢
  have hl : lv_has ls 1 [(0, .ref pr)] := hl
  refine lv_aload_n hx hb dX4_current_0 rfl (lv_at hl 0 rfl) ?_
  refine lv_aload_n hx hb dX4_current_1 rfl (lv_at hl 0 rfl) ?_
  refine va_get (D := E.1) (ci := 4) (v := iv ps) (C := RX4) (T := TX4) (N := 3) hx hb hts in_X4 hown hK.1 hP 0 rfl rfl 1 (by decide) (hts _ q329) (fun _ h9 => h9) rfl dX4_current_2 ?_
  refine n_csi (x := p_here bg bc ps) (va_runV (As := [iv ps]) (rest := []) ⟨hx, hb, hml, hown, hts⟩ (mt_X4_at l E pr ps al bf bm bc bv bg ps (bn) (by omega) (by omega) (by assumption) (by omega)) (cwV 1 hts (lw_V q1765 q1767 qs26 q103 q1768) rfl rfl rfl (by decide +kernel) ⟨Nat.le_of_ble_eq_true rfl, Nat.le_of_ble_eq_true rfl⟩) (PX_V hP hK hE hS (va_recv hK.1 hP (ci := 4) (q0 := 0) rfl rfl)) rfl rfl hl.1 rfl (lv_room (Nat.le_of_ble_eq_true rfl)) dX4_current_5 ⟨Nat.le_of_ble_eq_true rfl, Nat.le_of_ble_eq_true rfl⟩) ?_
  exact W.iret (v := iI (p_here bg bc ps)) hx hb hr (fun tt_ ht_ hW_ => ⟨iI (p_here bg bc ps), rfl, rfl, ht_⟩) (fun q h => by cases h) dX4_current_8
set_option maxHeartbeats 1000000 in
set_option maxRecDepth 100000 in
theorem mt_X4_accept (l : Launch) (E : EE) (pr : Nat) (ps : Int) (al : Nat) (bf : Nat) (bm : Int) (bc : Int) (bv : Nat) (bg : Int → Int) (v : Int) (bn : Nat) (hbb : 0 ≤ bc ∧ bc ≤ (bn : Int)) (hbn : bn ≤ 64) (hb7 : B7 bg) (hps : 0 ≤ ps ∧ ps ≤ bc) (hv : 0 ≤ v ∧ v < 65536) (sz : Nat) : Met l yX4_accept (ws_ yX4_accept cX4_accept 2 (some .boolean)) { frames := 6, cells := 0, slots := 0, locals := 129 } (va_Pc [.ref pr, iv v] (UX E (([(pr, .inr (4, [.ref bf, iv ps, .ref al]))] : va_W) ++ ([(bf, .inr (10, [.ref bv, iv 0, iv bm, iv bc]))] : va_W) ++ ([(bv, ia (E.2 3) bn bg)] : va_W)) sz)) (UQi E (b2 (decide (p_here bg bc ps = v))) (([(pr, .inr (4, [.ref bf, iv (if p_here bg bc ps = v then ps + 1 else ps), .ref al]))] : va_W) ++ ([(bf, .inr (10, [.ref bv, iv 0, iv bm, iv bc]))] : va_W) ++ ([(bv, ia (E.2 3) bn bg)] : va_W)) (va_A (([(pr, .inr (4, [.ref bf, iv ps, .ref al]))] : va_W) ++ ([(bf, .inr (10, [.ref bv, iv 0, iv bm, iv bc]))] : va_W) ++ ([(bv, ia (E.2 3) bn bg)] : va_W)) sz)) 0 0 (va_A (([(pr, .inr (4, [.ref bf, iv ps, .ref al]))] : va_W) ++ ([(bf, .inr (10, [.ref bv, iv 0, iv bm, iv bc]))] : va_W) ++ ([(bv, ia (E.2 3) bn bg)] : va_W)) sz) := by
  refine Met.ofW (cc := cX4_accept) (maxL := 2) (ret := (some .boolean)) (by decide) rfl ?_
  intro p e s m args below meth c s₁ B hml hv
  obtain ⟨rfl, hsz, hP, hK, hD0, hE⟩ := hv
  have hx := B.exec
  have hb := B.bytes
  have hr := B.returns
  have hts := atoms_spec (ws := (ws_ yX4_accept cX4_accept 2 (some .boolean))) B.pre
  have hts : ∀ w ∈ lw_all, w.before _ s = true := fun w h => hts w (List.mem_cons_of_mem _ h)
  have hown : s.vm.findClass RX4 = some m.cls := findClass_of_methodNamed B.named
  have hlocks := B.notSynchronized
  subst hsz
  have hD := hD0.self (sz := s.heap.size)
  generalize hAe : va_A (([(pr, .inr (4, [.ref bf, iv ps, .ref al]))] : va_W) ++ ([(bf, .inr (10, [.ref bv, iv 0, iv bm, iv bc]))] : va_W) ++ ([(bv, ia (E.2 3) bn bg)] : va_W)) s.heap.size = A at hD hE ⊢
  have hA : ∀ q : Nat, s.heap.size ≤ q → A q := fun q h => by rw [← hAe]; exact Or.inr h
  have hS : va_S A s.heap s.heap [] := va_S.rf
  have hl := lv_entry ([.ref pr, iv v]) (n := 2) (Nat.le_of_ble_eq_true rfl)
  rw [lg_entry_eq]
  generalize (lg_sl ([.ref pr, iv v]) ++ List.replicate (2 - (lg_sl ([.ref pr, iv v])).length) Slot.unset).toArray = ls at hl ⊢
  have hl : lv_has ls 2 [(0, .ref pr), (1, iv v)] := hl
  refine lv_aload_n hx hb dX4_accept_0 rfl (lv_at hl 0 rfl) ?_
  refine n_csi (x := p_here bg bc ps) (va_runV (As := []) (rest := []) ⟨hx, hb, hml, hown, hts⟩ (mt_X4_current l E pr ps al bf bm bc bv bg  (bn) (by omega) (by omega) (by assumption) (by omega)) (cwV 0 hts (lw_V q1761 q1763 qs25 q103 q1764) rfl rfl rfl (by decide +kernel) ⟨Nat.le_of_ble_eq_true rfl, Nat.le_of_ble_eq_true rfl⟩) (PX_V hP hK hE hS (va_recv hK.1 hP (ci := 4) (q0 := 0) rfl rfl)) rfl rfl hl.1 rfl (lv_room (Nat.le_of_ble_eq_true rfl)) dX4_accept_1 ⟨Nat.le_of_ble_eq_true rfl, Nat.le_of_ble_eq_true rfl⟩) ?_
  refine lv_iload_n hx hb dX4_accept_4 rfl (lv_at hl 1 rfl) ?_
  have b_1 := p_here_7 hb7 bc ps
  refine n_icmp_eq (tgt := 10) hx hb dX4_accept_5 (by decide) (by omega) (by omega) (fun c_2 => ?_) (fun c_2 => ?_)
  · refine lv_aload_n hx hb dX4_accept_10 rfl (lv_at hl 0 rfl) ?_
    refine lv_dup hx hb dX4_accept_11 rfl ?_
    refine va_get (D := E.1) (ci := 4) (v := iv ps) (C := RX4) (T := TX4) (N := 3) hx hb hts in_X4 hown hK.1 hP 0 rfl rfl 1 (by decide) (hts _ q329) (fun _ h9 => h9) rfl dX4_accept_12 ?_
    refine lv_iconst (v := iI 1) hx hb dX4_accept_15 rfl ?_
    refine n_iadd hx hb dX4_accept_16 ?_
    refine va_put (D := E.1) (ci := 4) (v := iv (ps + 1)) (ty := .int) (C := RX4) (T := TX4) (N := 3) hx hb hts in_X4 tyX4 tyX4_ok nmX4 hown hK.1 hP hD hS 0 rfl rfl 1 (by decide) (hts _ q329) (fun _ h9 => h9) rfl (by decide +kernel) rfl rfl (Nat.le_of_ble_eq_true rfl) dX4_accept_17 (fun H locs hP hD hS => ?_)
    have hP : va_P E.1 CL (([(pr, .inr (4, [.ref bf, iv (ps + 1), .ref al]))] : va_W) ++ ([(bf, .inr (10, [.ref bv, iv 0, iv bm, iv bc]))] : va_W) ++ ([(bv, ia (E.2 3) bn bg)] : va_W)) H := hP
    have hD : va_D A (([(pr, .inr (4, [.ref bf, iv (ps + 1), .ref al]))] : va_W) ++ ([(bf, .inr (10, [.ref bv, iv 0, iv bm, iv bc]))] : va_W) ++ ([(bv, ia (E.2 3) bn bg)] : va_W)) := hD
    have w_3 : (ps + 1 : Int) = (if p_here bg bc ps = v then ps + 1 else ps) := by rw [if_pos (by assumption)]
    rw [w_3] at hP hD
    have hP : va_P E.1 CL (([(pr, .inr (4, [.ref bf, iv (if p_here bg bc ps = v then ps + 1 else ps), .ref al]))] : va_W) ++ ([(bf, .inr (10, [.ref bv, iv 0, iv bm, iv bc]))] : va_W) ++ ([(bv, ia (E.2 3) bn bg)] : va_W)) H := hP
    have hD : va_D A (([(pr, .inr (4, [.ref bf, iv (if p_here bg bc ps = v then ps + 1 else ps), .ref al]))] : va_W) ++ ([(bf, .inr (10, [.ref bv, iv 0, iv bm, iv bc]))] : va_W) ++ ([(bv, ia (E.2 3) bn bg)] : va_W)) := hD
    refine lv_iconst (v := iI 1) hx hb dX4_accept_20 rfl ?_
    have hfin : 1 = b2 (decide (p_here bg bc ps = v)) := by
      first | exact (b2_pos (by assumption)).symm | exact (b2_neg (by assumption)).symm
    exact W.zret (v := iI 1) hx hb hr (nr_b (by decide)) (fun tt_ ht_ hW_ => ⟨⟨iI 1, (), rfl, (congrArg iI hfin), by rw [ht_]; exact hP, hD⟩, hS.F ht_⟩) hS.2.2 dX4_accept_21
  · have w_4 : (ps : Int) = (if p_here bg bc ps = v then ps + 1 else ps) := by rw [if_neg (by assumption)]
    rw [w_4] at hP hD
    have hP : va_P E.1 CL (([(pr, .inr (4, [.ref bf, iv (if p_here bg bc ps = v then ps + 1 else ps), .ref al]))] : va_W) ++ ([(bf, .inr (10, [.ref bv, iv 0, iv bm, iv bc]))] : va_W) ++ ([(bv, ia (E.2 3) bn bg)] : va_W)) s.heap := hP
    have hD : va_D A (([(pr, .inr (4, [.ref bf, iv (if p_here bg bc ps = v then ps + 1 else ps), .ref al]))] : va_W) ++ ([(bf, .inr (10, [.ref bv, iv 0, iv bm, iv bc]))] : va_W) ++ ([(bv, ia (E.2 3) bn bg)] : va_W)) := hD
    refine lv_iconst (v := iI 0) hx hb dX4_accept_8 rfl ?_
    have hfin : 0 = b2 (decide (p_here bg bc ps = v)) := by
      first | exact (b2_pos (by assumption)).symm | exact (b2_neg (by assumption)).symm
    exact W.zret (v := iI 0) hx hb hr (nr_b (by decide)) (fun tt_ ht_ hW_ => ⟨⟨iI 0, (), rfl, (congrArg iI hfin), by rw [ht_]; exact hP, hD⟩, hS.F ht_⟩) hS.2.2 dX4_accept_9
set_option maxHeartbeats 1000000 in
set_option maxRecDepth 100000 in
theorem mt_X4_isDigit (l : Launch) (E : EE) (pr : Nat) (ps : Int) (al : Nat) (bf : Nat) (bm : Int) (bc : Int) (bv : Nat) (bg : Int → Int)  (bn : Nat) (hbb : 0 ≤ bc ∧ bc ≤ (bn : Int)) (hbn : bn ≤ 64) (hb7 : B7 bg) (hps : 0 ≤ ps ∧ ps ≤ bc) : Met l yX4_isDigit (ws_ yX4_isDigit cX4_isDigit 1 (some .boolean)) { frames := 6, cells := 0, slots := 0, locals := 129 } (va_Pc [.ref pr] (PX E (([(pr, .inr (4, [.ref bf, iv ps, .ref al]))] : va_W) ++ ([(bf, .inr (10, [.ref bv, iv 0, iv bm, iv bc]))] : va_W) ++ ([(bv, ia (E.2 3) bn bg)] : va_W)))) (NP (b2 (p_dg (p_here bg bc ps)))) 0 0 (fun _ => False) := by
  refine Met.ofW (cc := cX4_isDigit) (maxL := 1) (ret := (some .boolean)) (by decide) rfl ?_
  intro p e s m args below meth c s₁ B hml hv
  obtain ⟨rfl, hP, hK, hE⟩ := hv
  have hS : va_S (fun _ => False) s.heap s.heap [] := va_S.rf
  have hx := B.exec
  have hb := B.bytes
  have hr := B.returns
  have hts := atoms_spec (ws := (ws_ yX4_isDigit cX4_isDigit 1 (some .boolean))) B.pre
  have hts : ∀ w ∈ lw_all, w.before _ s = true := fun w h => hts w (List.mem_cons_of_mem _ h)
  have hown : s.vm.findClass RX4 = some m.cls := findClass_of_methodNamed B.named
  have hlocks := B.notSynchronized
  have hl := lv_entry ([.ref pr]) (n := 1) (Nat.le_of_ble_eq_true rfl)
  rw [lg_entry_eq]
  generalize (lg_sl ([.ref pr]) ++ List.replicate (1 - (lg_sl ([.ref pr])).length) Slot.unset).toArray = ls at hl ⊢
  have hl : lv_has ls 1 [(0, .ref pr)] := hl
  refine lv_aload_n hx hb dX4_isDigit_0 rfl (lv_at hl 0 rfl) ?_
  refine n_csi (x := p_here bg bc ps) (va_runV (As := []) (rest := []) ⟨hx, hb, hml, hown, hts⟩ (mt_X4_current l E pr ps al bf bm bc bv bg  (bn) (by omega) (by omega) (by assumption) (by omega)) (cwV 0 hts (lw_V q1761 q1763 qs25 q103 q1764) rfl rfl rfl (by decide +kernel) ⟨Nat.le_of_ble_eq_true rfl, Nat.le_of_ble_eq_true rfl⟩) (PX_V hP hK hE hS (va_recv hK.1 hP (ci := 4) (q0 := 0) rfl rfl)) rfl rfl hl.1 rfl (lv_room (Nat.le_of_ble_eq_true rfl)) dX4_isDigit_1 ⟨Nat.le_of_ble_eq_true rfl, Nat.le_of_ble_eq_true rfl⟩) ?_
  refine lv_bipush (v := iI 48) hx hb dX4_isDigit_4 (by decide) ?_
  refine lv_bipush (v := iI 57) hx hb dX4_isDigit_6 (by decide) ?_
  have b_1 := p_here_7 hb7 bc ps
  refine n_csi (x := b2 (decide (48 ≤ p_here bg bc ps ∧ p_here bg bc ps ≤ 57))) (va_runSN (As := [iv (p_here bg bc ps), iv 48, iv 57]) (rest := []) ⟨hx, hb, hml, hown, hts⟩ (mt_X1_inRange l E (p_here bg bc ps) 48 57 (by omega) (by omega) (by omega)) ⟨(va_cnB 3 hts (lw_meth q884) rfl rfl rfl (hK.nv q1837) (hts _ q94) (by decide +kernel) ⟨Nat.le_of_ble_eq_true rfl, Nat.le_of_ble_eq_true rfl⟩), hts _ q883, trivial⟩ (PW_S (hP.sub (ws' := []) [] rfl) hK) rfl rfl hl.1 rfl (lv_room (Nat.le_of_ble_eq_true rfl)) dX4_isDigit_8 ⟨Nat.le_of_ble_eq_true rfl, Nat.le_of_ble_eq_true rfl⟩) ?_
  have hfin : b2 (decide (48 ≤ p_here bg bc ps ∧ p_here bg bc ps ≤ 57)) = b2 (p_dg (p_here bg bc ps)) := by
    rfl
  exact W.zret (v := iI (b2 (decide (48 ≤ p_here bg bc ps ∧ p_here bg bc ps ≤ 57)))) hx hb hr (nr_b (b2_r _)) (fun tt_ ht_ hW_ => ⟨iI (b2 (decide (48 ≤ p_here bg bc ps ∧ p_here bg bc ps ≤ 57))), rfl, (congrArg iI hfin), ht_⟩) (fun q h => by cases h) dX4_isDigit_11
set_option maxHeartbeats 1000000 in
set_option maxRecDepth 100000 in
theorem mt_X4_expect (l : Launch) (E : EE) (pr : Nat) (bfA : Nat) (ps : Int) (al : Nat) (z : Bool) (hst : l.stackTraces = false) (sz : Nat) : vx_Met l yX4_expect (ws_ yX4_expect cX4_expect 2 none) { frames := 5, cells := 1, slots := 7, locals := 81 } (va_Pc [.ref pr, iv (b2 z)] (UX E ([(pr, .inr (4, [.ref bfA, iv ps, .ref al]))]) sz)) (UQxv E (fun u : Unit => z = true) (fun u : Unit => [(pr, .inr (4, [.ref bfA, iv ps, .ref al]))]) (va_A ([(pr, .inr (4, [.ref bfA, iv ps, .ref al]))]) sz)) (UXx E (fun (En : String) (u : Unit) => En = "ClockworkTailor$SyntaxError" ∧ z = false) (fun u : Unit => [(pr, .inr (4, [.ref bfA, iv ps, .ref al]))]) (fun u : Unit => some (8, [iv ps])) (va_A ([(pr, .inr (4, [.ref bfA, iv ps, .ref al]))]) sz)) 1 7 (va_A ([(pr, .inr (4, [.ref bfA, iv ps, .ref al]))]) sz) := by
  refine vx_ofW (cc := cX4_expect) (maxL := 2) (ret := none) (by decide) rfl ?_
  intro p e s m args below meth c s₁ B hml htb hv
  obtain ⟨rfl, hsz, hP, hK, hD0, hE⟩ := hv
  have hx := B.exec
  have hb := B.bytes
  have hr := B.returns
  have hts := atoms_spec (ws := (ws_ yX4_expect cX4_expect 2 none)) B.pre
  have hts : ∀ w ∈ lw_all, w.before _ s = true := fun w h => hts w (List.mem_cons_of_mem _ h)
  have hown : s.vm.findClass RX4 = some m.cls := findClass_of_methodNamed B.named
  have hlocks := B.notSynchronized
  subst hsz
  have hD := hD0.self (sz := s.heap.size)
  generalize hAe : va_A ([(pr, .inr (4, [.ref bfA, iv ps, .ref al]))]) s.heap.size = A at hD hE ⊢
  have hA : ∀ q : Nat, s.heap.size ≤ q → A q := fun q h => by rw [← hAe]; exact Or.inr h
  have hS : va_S A s.heap s.heap [] := va_S.rf
  have hl := lv_entry ([.ref pr, iv (b2 z)]) (n := 2) (Nat.le_of_ble_eq_true rfl)
  rw [lg_entry_eq]
  generalize (lg_sl ([.ref pr, iv (b2 z)]) ++ List.replicate (2 - (lg_sl ([.ref pr, iv (b2 z)])).length) Slot.unset).toArray = ls at hl ⊢
  have hl : lv_has ls 2 [(0, .ref pr), (1, iv (b2 z))] := hl
  refine lv_iload_n hx hb dX4_expect_0 rfl (lv_at hl 1 rfl) ?_
  refine n_ifb_ne (tgt := 16) hx hb dX4_expect_1 (by decide) (fun c_1 => ?_) (fun c_1 => ?_)
  · refine vx_ret ?_
    refine W.widen (k := 1) (n := 7) (Nat.le_of_ble_eq_true rfl) (Nat.le_of_ble_eq_true rfl) ?_
    exact W.vret hx hb hr (fun tt_ ht_ hW_ => ⟨⟨(), rfl, by assumption, by rw [ht_]; exact hP, hD⟩, hS.F ht_⟩) hS.2.2 dX4_expect_16
  · have hz9_q_2 : s.heap.size ≤ (s.heap).size := hS.1
    refine n_newK (ci := 8) (fs := [.null, .null, .null, .null, .null, iv 0, iv 0]) (C := RX9) (T := TX9) (N := 7) hx hb hts in_X9 tyX9 tyX9_ok hown (hts _ q1804) (hts _ q1805) (hts _ q130) hK hP hD hS hA rfl (fun j hj => by rcases (show j = 0 ∨ j = 1 ∨ j = 2 ∨ j = 3 ∨ j = 4 ∨ j = 5 ∨ j = 6 by omega) with rfl | rfl | rfl | rfl | rfl | rfl | rfl <;> rfl) (Nat.le_of_ble_eq_true rfl) (Nat.le_of_ble_eq_true rfl) dX4_expect_4 (fun q_2 H hfr_q_2 o_3 hsz_q_2 hP hD hS => ?_)
    have hge_q_2 : s.heap.size ≤ q_2 := Nat.le_trans hz9_q_2 hsz_q_2
    have hP : va_P E.1 CL (([(pr, .inr (4, [.ref bfA, iv ps, .ref al]))] : va_W) ++ ([(q_2, .inr (8, [.null, .null, .null, .null, .null, iv 0, iv 0]))] : va_W)) H := hP
    have hD : va_D A (([(pr, .inr (4, [.ref bfA, iv ps, .ref al]))] : va_W) ++ ([(q_2, .inr (8, [.null, .null, .null, .null, .null, iv 0, iv 0]))] : va_W)) := hD
    refine lv_dup hx hb dX4_expect_7 rfl ?_
    refine lv_aload_n hx hb dX4_expect_8 rfl (lv_at hl 0 rfl) ?_
    refine va_get (D := E.1) (ci := 4) (v := iv ps) (C := RX4) (T := TX4) (N := 3) hx hb hts in_X4 hown hK.1 hP 0 rfl rfl 1 (by decide) (hts _ q329) (fun _ h9 => h9) rfl dX4_expect_9 ?_
    refine n_cuxvSK (w2 := fun u_4 => ([(pr, .inr (4, [.ref bfA, iv ps, .ref al]))] : va_W) ++ ([(q_2, .inr (8, u_4 ++ [iv ps]))] : va_W)) (va_runI (As := [iv ps]) (rest := [.ref q_2]) ⟨hx, hb, hml, hown, hts⟩ (mt_X9_init l E q_2 [.null, .null, .null, .null, .null, iv 0, iv 0] ps hst _) (n_cwI 1 hts q1813 q1814 q130 q1815 rfl rfl rfl (by decide +kernel) ⟨Nat.le_of_ble_eq_true rfl, Nat.le_of_ble_eq_true rfl⟩) (UF_S (hP.sub (ws' := [(q_2, .inr (8, [.null, .null, .null, .null, .null, iv 0, iv 0]))]) [1] rfl) hK (hD.sub (ws' := [(q_2, .inr (8, [.null, .null, .null, .null, .null, iv 0, iv 0]))]) [1] rfl rfl) hE hS (va_sub_free hD hS hA [1] rfl) hfr_q_2) rfl rfl hl.1 rfl (lv_room (Nat.le_of_ble_eq_true rfl)) dX4_expect_12 ⟨Nat.le_of_ble_eq_true rfl, Nat.le_of_ble_eq_true rfl⟩) hP hD hS hA [1] [0] [0, 1] rfl rfl rfl rfl rfl (fun _ => rfl) (fun u_4 H locs hk_5 hu_4 hP hD hS => ?_)
    have hu_4 : u_4.length = 6 := hu_4
    have hP : va_P E.1 CL (([(pr, .inr (4, [.ref bfA, iv ps, .ref al]))] : va_W) ++ ([(q_2, .inr (8, u_4 ++ [iv ps]))] : va_W)) H := hP
    have hD : va_D A (([(pr, .inr (4, [.ref bfA, iv ps, .ref al]))] : va_W) ++ ([(q_2, .inr (8, u_4 ++ [iv ps]))] : va_W)) := hD
    have hP9 := hP.sub (ws' := [(pr, .inr (4, [.ref bfA, iv ps, .ref al]))]) [0] rfl
    have hD9 := hD.sub (ws' := [(pr, .inr (4, [.ref bfA, iv ps, .ref al]))]) [0] (by decide) rfl
    have hPq := hP.sub (ws' := [(q_2, .inr (8, u_4 ++ [iv ps]))]) [1] rfl
    exact n_athrow () hx hb dX4_expect_15 (k0 := 1) (ci := 8) (C0 := "ClockworkTailor$SyntaxError") (T0 := TX9) (N0 := 7) rfl rfl hK hP (by exact ⟨rfl, by assumption⟩) hP9 hD9 hS (by exact fun y hy => by cases hy; exact ⟨u_4, hu_4, hPq⟩) hge_q_2 (fun x hx9 => (htb x hx9).elim) hlocks (Nat.le_of_ble_eq_true rfl) (Nat.le_of_ble_eq_true rfl)
set_option maxHeartbeats 1000000 in
set_option maxRecDepth 100000 in
theorem mt_X4_expect_y (l : Launch) (E : EE) (pr : Nat) (bfA : Nat) (ps : Int) (al : Nat) : Met l yX4_expect (ws_ yX4_expect cX4_expect 2 none) { frames := 0, cells := 0, slots := 0, locals := 0 } (va_Pc [.ref pr, iv 1] (PW E ([(pr, .inr (4, [.ref bfA, iv ps, .ref al]))]))) NPv 0 0 (fun _ => False) := by
  refine Met.ofW (cc := cX4_expect) (maxL := 2) (ret := none) (by decide) rfl ?_
  intro p e s m args below meth c s₁ B hml hv
  obtain ⟨rfl, hP, hK⟩ := hv
  have hx := B.exec
  have hb := B.bytes
  have hr := B.returns
  have hts := atoms_spec (ws := (ws_ yX4_expect cX4_expect 2 none)) B.pre
  have hts : ∀ w ∈ lw_all, w.before _ s = true := fun w h => hts w (List.mem_cons_of_mem _ h)
  have hown : s.vm.findClass RX4 = some m.cls := findClass_of_methodNamed B.named
  have hlocks := B.notSynchronized
  have hl := lv_entry ([.ref pr, iv 1]) (n := 2) (Nat.le_of_ble_eq_true rfl)
  rw [lg_entry_eq]
  generalize (lg_sl ([.ref pr, iv 1]) ++ List.replicate (2 - (lg_sl ([.ref pr, iv 1])).length) Slot.unset).toArray = ls at hl ⊢
  have hl : lv_has ls 2 [(0, .ref pr), (1, iv 1)] := hl
  refine lv_iload_n hx hb dX4_expect_0 rfl (lv_at hl 1 rfl) ?_
  refine n_if_ne (tgt := 16) hx hb dX4_expect_1 (by decide) (by omega) (fun _ => ?_) (fun c_1 => absurd c_1 (by decide))
  exact W.vret hx hb hr (fun tt_ ht_ hW_ => ⟨rfl, ht_⟩) (fun q h => by cases h) dX4_expect_16
set_option maxHeartbeats 1000000 in
set_option maxRecDepth 100000 in
theorem mt_X4_expectWord (l : Launch) (E : EE) (pr : Nat) (ps : Int) (al : Nat) (bf : Nat) (bm : Int) (bc : Int) (bv : Nat) (bg : Int → Int) (k : Nat) (bn : Nat) (hst : l.stackTraces = false) (hbb : 0 ≤ bc ∧ bc ≤ (bn : Int)) (hbn : bn ≤ 64) (hb7 : B7 bg) (hps : 0 ≤ ps ∧ ps ≤ bc) (hk : k < 32) (sz : Nat) : vx_Met l yX4_expectWord (ws_ yX4_expectWord cX4_expectWord 3 none) { frames := 7, cells := 1, slots := 7, locals := 150 } (va_Pc [.ref pr, .ref (EX E (2 * k))] (UX E (([(pr, .inr (4, [.ref bf, iv ps, .ref al]))] : va_W) ++ ([(bf, .inr (10, [.ref bv, iv 0, iv bm, iv bc]))] : va_W) ++ ([(bv, ia (E.2 3) bn bg)] : va_W)) sz)) (UQxv E (fun u : Unit => (kWd k bg bc ps).1 = true) (fun u : Unit => ([(pr, .inr (4, [.ref bf, iv ((kWd k bg bc ps).2.1), .ref al]))] : va_W) ++ ([(bf, .inr (10, [.ref bv, iv 0, iv bm, iv bc]))] : va_W) ++ ([(bv, ia (E.2 3) bn bg)] : va_W)) (va_A (([(pr, .inr (4, [.ref bf, iv ps, .ref al]))] : va_W) ++ ([(bf, .inr (10, [.ref bv, iv 0, iv bm, iv bc]))] : va_W) ++ ([(bv, ia (E.2 3) bn bg)] : va_W)) sz)) (UXx E (fun (En : String) (u : Unit) => En = "ClockworkTailor$SyntaxError" ∧ (kWd k bg bc ps).1 = false) (fun u : Unit => ([(pr, .inr (4, [.ref bf, iv ((kWd k bg bc ps).2.1), .ref al]))] : va_W) ++ ([(bf, .inr (10, [.ref bv, iv 0, iv bm, iv bc]))] : va_W) ++ ([(bv, ia (E.2 3) bn bg)] : va_W)) (fun u : Unit => some (8, [iv (kWd k bg bc ps).2.1])) (va_A (([(pr, .inr (4, [.ref bf, iv ps, .ref al]))] : va_W) ++ ([(bf, .inr (10, [.ref bv, iv 0, iv bm, iv bc]))] : va_W) ++ ([(bv, ia (E.2 3) bn bg)] : va_W)) sz)) 1 7 (va_A (([(pr, .inr (4, [.ref bf, iv ps, .ref al]))] : va_W) ++ ([(bf, .inr (10, [.ref bv, iv 0, iv bm, iv bc]))] : va_W) ++ ([(bv, ia (E.2 3) bn bg)] : va_W)) sz) := by
  refine vx_ofW (cc := cX4_expectWord) (maxL := 3) (ret := none) (by decide) rfl ?_
  intro p e s m args below meth c s₁ B hml htb hv
  obtain ⟨rfl, hsz, hP, hK, hD0, hE⟩ := hv
  have hx := B.exec
  have hb := B.bytes
  have hr := B.returns
  have hts := atoms_spec (ws := (ws_ yX4_expectWord cX4_expectWord 3 none)) B.pre
  have hts : ∀ w ∈ lw_all, w.before _ s = true := fun w h => hts w (List.mem_cons_of_mem _ h)
  have hown : s.vm.findClass RX4 = some m.cls := findClass_of_methodNamed B.named
  have hlocks := B.notSynchronized
  subst hsz
  have hD := hD0.self (sz := s.heap.size)
  generalize hAe : va_A (([(pr, .inr (4, [.ref bf, iv ps, .ref al]))] : va_W) ++ ([(bf, .inr (10, [.ref bv, iv 0, iv bm, iv bc]))] : va_W) ++ ([(bv, ia (E.2 3) bn bg)] : va_W)) s.heap.size = A at hD hE ⊢
  have hA : ∀ q : Nat, s.heap.size ≤ q → A q := fun q h => by rw [← hAe]; exact Or.inr h
  have hS : va_S A s.heap s.heap [] := va_S.rf
  have hl := lv_entry ([.ref pr, .ref (EX E (2 * k))]) (n := 3) (Nat.le_of_ble_eq_true rfl)
  rw [lg_entry_eq]
  generalize (lg_sl ([.ref pr, .ref (EX E (2 * k))]) ++ List.replicate (3 - (lg_sl ([.ref pr, .ref (EX E (2 * k))])).length) Slot.unset).toArray = ls at hl ⊢
  have hl : lv_has ls 3 [(0, .ref pr), (1, .ref (EX E (2 * k)))] := hl
  have htl := tx_l k
  refine lv_iconst (v := iI 0) hx hb dX4_expectWord_0 rfl ?_
  refine lv_istore_n (lv' := [(2, iv 0), (0, .ref pr), (1, .ref (EX E (2 * k)))]) hx hb dX4_expectWord_1 rfl hl (by decide) rfl (fun ls hl => ?_)
  have l2 : ∀ (fu : Nat) (x2 : Int) (pv : Int), (0 ≤ x2 ∧ x2 ≤ ((TX.getD k []).length : Int) ∧ 0 ≤ pv ∧ pv ≤ bc) → (p_wd bg bc ((TX.getD k []).drop x2.toNat) (pv, kT0) = kWd k bg bc ps) → (((TX.getD k []).length : Int) - x2 < (fu : Int)) → ∀ (H : Heap) (locs : List Loc), va_P E.1 CL (([(pr, .inr (4, [.ref bf, iv pv, .ref al]))] : va_W) ++ ([(bf, .inr (10, [.ref bv, iv 0, iv bm, iv bc]))] : va_W) ++ ([(bv, ia (E.2 3) bn bg)] : va_W)) H → va_D A (([(pr, .inr (4, [.ref bf, iv pv, .ref al]))] : va_W) ++ ([(bf, .inr (10, [.ref bv, iv 0, iv bm, iv bc]))] : va_W) ++ ([(bv, ia (E.2 3) bn bg)] : va_W)) → va_S A s.heap H locs → ∀ ls : Array Slot, lv_has ls 3 [(2, iv x2), (0, .ref pr), (1, .ref (EX E (2 * k)))] → W p l e (headSpec (ws_ yX4_expectWord cX4_expectWord 3 none) { frames := 7, cells := 1, slots := 7, locals := 150 }).room s m ([.ref pr, .ref (EX E (2 * k))] : List Value).toArray below meth c H locs 0 0 (vx_MQ below (UQxv E (fun u : Unit => (kWd k bg bc ps).1 = true) (fun u : Unit => ([(pr, .inr (4, [.ref bf, iv ((kWd k bg bc ps).2.1), .ref al]))] : va_W) ++ ([(bf, .inr (10, [.ref bv, iv 0, iv bm, iv bc]))] : va_W) ++ ([(bv, ia (E.2 3) bn bg)] : va_W)) A) (UXx E (fun (En : String) (u : Unit) => En = "ClockworkTailor$SyntaxError" ∧ (kWd k bg bc ps).1 = false) (fun u : Unit => ([(pr, .inr (4, [.ref bf, iv ((kWd k bg bc ps).2.1), .ref al]))] : va_W) ++ ([(bf, .inr (10, [.ref bv, iv 0, iv bm, iv bc]))] : va_W) ++ ([(bv, ia (E.2 3) bn bg)] : va_W)) (fun u : Unit => some (8, [iv (kWd k bg bc ps).2.1])) A) ([.ref pr, .ref (EX E (2 * k))] : List Value).toArray s 1 7 A) (F0 m 2 ls []) := by
    intro fu
    induction fu with
    | zero =>
      intro x2 pv il2_0 il2_1 hm
      exfalso; omega
    | succ fu ih =>
      intro x2 pv il2_0 il2_1 hm H locs hP hD hS ls hl
      have ihl2 := ih
      refine lv_iload_n hx hb dX4_expectWord_2 rfl (lv_at hl 0 rfl) ?_
      refine lv_aload_n hx hb dX4_expectWord_3 rfl (lv_at hl 2 rfl) ?_
      refine n_csi (x := ((TX.getD k []).length : Int)) (va_runV (As := []) (rest := [iv x2]) ⟨hx, hb, hml, hown, hts⟩ (mt_J4_length l E k (by exact hk)) (cwV 0 hts (lw_V q1780 q1497 q1498 q101 q1499) rfl rfl rfl (by decide +kernel) ⟨Nat.le_of_ble_eq_true rfl, Nat.le_of_ble_eq_true rfl⟩) (PX_V (hP.sub (ws' := []) [] rfl) hK hE hS (SQ.recv (hE.hs k hk) hS)) rfl rfl hl.1 rfl (lv_room (Nat.le_of_ble_eq_true rfl)) dX4_expectWord_4 ⟨Nat.le_of_ble_eq_true rfl, Nat.le_of_ble_eq_true rfl⟩) ?_
      have b_1 := tx_l k
      refine n_icmp_ge (tgt := 29) hx hb dX4_expectWord_7 (by decide) (by omega) (by omega) (fun c_2 => ?_) (fun c_2 => ?_)
      · have hK8 : (kWd k bg bc ps).1 = true ∧ (kWd k bg bc ps).2.1 = pv ∧ True := by rw [p_wd_e (by omega) il2_1]; exact ⟨rfl, rfl, trivial⟩
        have w_3 : (pv : Int) = (kWd k bg bc ps).2.1 := by exact hK8.2.1.symm
        rw [w_3] at hP hD
        have hP : va_P E.1 CL (([(pr, .inr (4, [.ref bf, iv ((kWd k bg bc ps).2.1), .ref al]))] : va_W) ++ ([(bf, .inr (10, [.ref bv, iv 0, iv bm, iv bc]))] : va_W) ++ ([(bv, ia (E.2 3) bn bg)] : va_W)) H := hP
        have hD : va_D A (([(pr, .inr (4, [.ref bf, iv ((kWd k bg bc ps).2.1), .ref al]))] : va_W) ++ ([(bf, .inr (10, [.ref bv, iv 0, iv bm, iv bc]))] : va_W) ++ ([(bv, ia (E.2 3) bn bg)] : va_W)) := hD
        refine vx_ret ?_
        refine W.widen (k := 1) (n := 7) (Nat.le_of_ble_eq_true rfl) (Nat.le_of_ble_eq_true rfl) ?_
        exact W.vret hx hb hr (fun tt_ ht_ hW_ => ⟨⟨(), rfl, hK8.1, by rw [ht_]; exact hP, hD⟩, hS.F ht_⟩) hS.2.2 dX4_expectWord_29
      · refine lv_aload_n hx hb dX4_expectWord_10 rfl (lv_at hl 1 rfl) ?_
        refine lv_aload_n hx hb dX4_expectWord_11 rfl (lv_at hl 1 rfl) ?_
        refine lv_aload_n hx hb dX4_expectWord_12 rfl (lv_at hl 2 rfl) ?_
        refine lv_iload_n hx hb dX4_expectWord_13 rfl (lv_at hl 0 rfl) ?_
        refine n_csi (x := (TX.getD k []).getD (x2).toNat 0) (va_runV (As := [iv x2]) (rest := [.ref pr, .ref pr]) ⟨hx, hb, hml, hown, hts⟩ (mt_J4_charAt l E k x2 (by exact hk) (by omega)) (cwV 1 hts (lw_V q1781 q1782 q1783 q101 q1784) rfl rfl rfl (by decide +kernel) ⟨Nat.le_of_ble_eq_true rfl, Nat.le_of_ble_eq_true rfl⟩) (PX_V (hP.sub (ws' := []) [] rfl) hK hE hS (SQ.recv (hE.hs k hk) hS)) rfl rfl hl.1 rfl (lv_room (Nat.le_of_ble_eq_true rfl)) dX4_expectWord_14 ⟨Nat.le_of_ble_eq_true rfl, Nat.le_of_ble_eq_true rfl⟩) ?_
        have b_4 := tx_b k (x2).toNat
        refine n_cui (x := b2 (decide (p_here bg bc pv = (TX.getD k []).getD (x2).toNat 0))) (va_runV (As := [iv ((TX.getD k []).getD (x2).toNat 0)]) (rest := [.ref pr]) ⟨hx, hb, hml, hown, hts⟩ (mt_X4_accept l E pr pv al bf bm bc bv bg ((TX.getD k []).getD (x2).toNat 0) (bn) (by omega) (by omega) (by assumption) (by omega) (by omega) _) (cwV 1 hts (lw_V q1796 q1798 qs29 q103 q1799) rfl rfl rfl (by decide +kernel) ⟨Nat.le_of_ble_eq_true rfl, Nat.le_of_ble_eq_true rfl⟩) (UX_V hP hK (hD) hE hS (va_A_in hD hS hA) (va_recv hK.1 hP (ci := 4) (q0 := 0) rfl rfl)) rfl rfl hl.1 rfl (lv_room (Nat.le_of_ble_eq_true rfl)) dX4_expectWord_17 ⟨Nat.le_of_ble_eq_true rfl, Nat.le_of_ble_eq_true rfl⟩) hD hS hA (fun H locs hP hD hS => ?_)
        have hP : va_P E.1 CL (([(pr, .inr (4, [.ref bf, iv (if p_here bg bc pv = ((TX.getD k []).getD (x2).toNat 0) then pv + 1 else pv), .ref al]))] : va_W) ++ ([(bf, .inr (10, [.ref bv, iv 0, iv bm, iv bc]))] : va_W) ++ ([(bv, ia (E.2 3) bn bg)] : va_W)) H := hP
        have hD : va_D A (([(pr, .inr (4, [.ref bf, iv (if p_here bg bc pv = ((TX.getD k []).getD (x2).toNat 0) then pv + 1 else pv), .ref al]))] : va_W) ++ ([(bf, .inr (10, [.ref bv, iv 0, iv bm, iv bc]))] : va_W) ++ ([(bv, ia (E.2 3) bn bg)] : va_W)) := hD
        cases hz_5 : (decide (p_here bg bc pv = (TX.getD k []).getD (x2).toNat 0)) with
        | true =>
          refine n_top (y := 1) (by rfl) ?_
          refine n_csv ((va_runV (As := [iv 1]) (rest := []) ⟨hx, hb, hml, hown, hts⟩ (mt_X4_expect_y l E pr bf (if p_here bg bc pv = ((TX.getD k []).getD (x2).toNat 0) then pv + 1 else pv) al ) (cwV 1 hts (lw_V q1800 q1802 qs30 q103 q1803) rfl rfl rfl (by decide +kernel) ⟨Nat.le_of_ble_eq_true rfl, Nat.le_of_ble_eq_true rfl⟩) (PW_V (hP.sub (ws' := [(pr, .inr (4, [.ref bf, iv (if p_here bg bc pv = ((TX.getD k []).getD (x2).toNat 0) then pv + 1 else pv), .ref al]))]) [0] rfl) hK (va_recv hK.1 hP (ci := 4) (q0 := 0) rfl rfl)) rfl rfl hl.1 rfl (lv_room (Nat.le_of_ble_eq_true rfl)) dX4_expectWord_20 ⟨Nat.le_of_ble_eq_true rfl, Nat.le_of_ble_eq_true rfl⟩).run) ?_
          have hac := of_decide_eq_true hz_5
          have w_6 : ((if p_here bg bc pv = ((TX.getD k []).getD (x2).toNat 0) then pv + 1 else pv) : Int) = pv + 1 := by rw [if_pos hac]
          rw [w_6] at hP hD
          have hP : va_P E.1 CL (([(pr, .inr (4, [.ref bf, iv (pv + 1), .ref al]))] : va_W) ++ ([(bf, .inr (10, [.ref bv, iv 0, iv bm, iv bc]))] : va_W) ++ ([(bv, ia (E.2 3) bn bg)] : va_W)) H := hP
          have hD : va_D A (([(pr, .inr (4, [.ref bf, iv (pv + 1), .ref al]))] : va_W) ++ ([(bf, .inr (10, [.ref bv, iv 0, iv bm, iv bc]))] : va_W) ++ ([(bv, ia (E.2 3) bn bg)] : va_W)) := hD
          have hps9 := p_here_7 hb7 bc pv
          have hch9 := tx_b k x2.toNat
          have hq9 := p_wd_1 (by omega) (by omega) il2_1 rfl (show (p_skip bg bc ((TX.getD k []).getD x2.toNat 0) (pv, kT0)).1 = true from by rw [p_skip_y hac])
          rw [p_skip_y hac] at hq9
          refine lv_iinc (v := iI (x2 + 1)) (lv' := [(2, iv (x2 + 1)), (0, .ref pr), (1, .ref (EX E (2 * k)))]) hx hb dX4_expectWord_23 hl (k := 0) rfl (iI_add _ _) (by decide) rfl (fun ls hl => ?_)
          refine lv_goto (tgt := 2) hx hb dX4_expectWord_26 (by decide) ?_
          exact ihl2 (x2 + 1) (pv + 1) (by first | omega | rfl) (by exact hq9) (by omega) H locs hP hD hS ls (lv_sub hl [0, 1, 2] rfl)
        | false =>
          refine n_top (y := 0) (by rfl) ?_
          have hz_7 : s.heap.size ≤ H.size := hS.1
          refine n_txvS (w2 := fun u_8 => ([(pr, .inr (4, [.ref bf, iv (if p_here bg bc pv = ((TX.getD k []).getD (x2).toNat 0) then pv + 1 else pv), .ref al]))] : va_W) ++ ([(bf, .inr (10, [.ref bv, iv 0, iv bm, iv bc]))] : va_W) ++ ([(bv, ia (E.2 3) bn bg)] : va_W)) (w3 := fun u_9 => ([(pr, .inr (4, [.ref bf, iv (if p_here bg bc pv = ((TX.getD k []).getD (x2).toNat 0) then pv + 1 else pv), .ref al]))] : va_W) ++ ([(bf, .inr (10, [.ref bv, iv 0, iv bm, iv bc]))] : va_W) ++ ([(bv, ia (E.2 3) bn bg)] : va_W)) (vx_runV (As := [iv 0]) (rest := []) ⟨hx, hb, hml, hown, hts⟩ (mt_X4_expect l E pr bf (if p_here bg bc pv = ((TX.getD k []).getD (x2).toNat 0) then pv + 1 else pv) al false (by exact hst) _) (cwV 1 hts (lw_V q1800 q1802 qs30 q103 q1803) rfl rfl rfl (by decide +kernel) ⟨Nat.le_of_ble_eq_true rfl, Nat.le_of_ble_eq_true rfl⟩) (UX_V (hP.sub (ws' := [(pr, .inr (4, [.ref bf, iv (if p_here bg bc pv = ((TX.getD k []).getD (x2).toNat 0) then pv + 1 else pv), .ref al]))]) [0] rfl) hK (hD.sub (ws' := [(pr, .inr (4, [.ref bf, iv (if p_here bg bc pv = ((TX.getD k []).getD (x2).toNat 0) then pv + 1 else pv), .ref al]))]) [0] rfl rfl) hE hS (va_sub_free hD hS hA [0] rfl) (va_recv hK.1 hP (ci := 4) (q0 := 0) rfl rfl)) rfl rfl hl.1 rfl (lv_room (Nat.le_of_ble_eq_true rfl)) dX4_expectWord_20 ⟨Nat.le_of_ble_eq_true rfl, Nat.le_of_ble_eq_true rfl⟩) hP hD hS hA [0] [1, 2] [2, 0, 1] [2, 0, 1] rfl rfl rfl rfl rfl (fun _ => rfl) rfl (fun _ => rfl) ?_ ?_
          · intro En ce q9 u_9 H locs hCx hP hD hS hxf hq9 hce hcv hcl
            have hCx : En = "ClockworkTailor$SyntaxError" ∧ false = false := hCx
            have hP : va_P E.1 CL (([(pr, .inr (4, [.ref bf, iv (if p_here bg bc pv = ((TX.getD k []).getD (x2).toNat 0) then pv + 1 else pv), .ref al]))] : va_W) ++ ([(bf, .inr (10, [.ref bv, iv 0, iv bm, iv bc]))] : va_W) ++ ([(bv, ia (E.2 3) bn bg)] : va_W)) H := hP
            have hD : va_D A (([(pr, .inr (4, [.ref bf, iv (if p_here bg bc pv = ((TX.getD k []).getD (x2).toNat 0) then pv + 1 else pv), .ref al]))] : va_W) ++ ([(bf, .inr (10, [.ref bv, iv 0, iv bm, iv bc]))] : va_W) ++ ([(bv, ia (E.2 3) bn bg)] : va_W)) := hD
            have hK9 : kFl (kWd k bg bc ps) ((if p_here bg bc pv = ((TX.getD k []).getD (x2).toNat 0) then pv + 1 else pv)) := by
              have hq9 := p_wd_0 (by omega) (by omega) il2_1 rfl (show (p_skip bg bc ((TX.getD k []).getD x2.toNat 0) (pv, kT0)).1 = false from by rw [p_skip_n (of_decide_eq_false hz_5)])
              unfold kFl
              rw [hq9, p_skip_n (of_decide_eq_false hz_5), if_neg (of_decide_eq_false hz_5)]
              exact ⟨rfl, rfl⟩
            have hw9 : ((if p_here bg bc pv = ((TX.getD k []).getD (x2).toNat 0) then pv + 1 else pv) : Int) = (kWd k bg bc ps).2.1 := hK9.2.symm
            have hxf : XF E q9 (some (8, [iv ((if p_here bg bc pv = ((TX.getD k []).getD (x2).toNat 0) then pv + 1 else pv))])) H := hxf
            rw [hw9] at hP hD hxf
            exact n_out () (by exact ⟨hCx.1, hK9.1⟩) hP hD hS hxf (Nat.le_trans hz_7 hq9) hce hcv hcl (fun x hx9 => (htb x hx9).elim) hlocks (Nat.le_of_ble_eq_true rfl) (Nat.le_of_ble_eq_true rfl)
          · intro u_8 H locs hC hP hD hS
            exact absurd hC (by decide)
  exact l2 31 0 ps (by omega) (by rfl) (by omega) s.heap [] hP hD hS ls hl
set_option maxHeartbeats 1000000 in
set_option maxRecDepth 100000 in
theorem mt_X4_letter (l : Launch) (E : EE) (pr : Nat) (ps : Int) (al : Nat) (bf : Nat) (bm : Int) (bc : Int) (bv : Nat) (bg : Int → Int) (z : Bool) (bn : Nat) (hst : l.stackTraces = false) (hbb : 0 ≤ bc ∧ bc ≤ (bn : Int)) (hbn : bn ≤ 64) (hb7 : B7 bg) (hps : 0 ≤ ps ∧ ps ≤ bc) (sz : Nat) : vx_Met l yX4_letter (ws_ yX4_letter cX4_letter 2 (some .char)) { frames := 7, cells := 1, slots := 7, locals := 150 } (va_Pc [.ref pr, iv (b2 z)] (UX E (([(pr, .inr (4, [.ref bf, iv ps, .ref al]))] : va_W) ++ ([(bf, .inr (10, [.ref bv, iv 0, iv bm, iv bc]))] : va_W) ++ ([(bv, ia (E.2 3) bn bg)] : va_W)) sz)) (UQx E (fun u : Unit => (kLt z bg bc ps).1 = true) (fun u : Unit => (kLt z bg bc ps).2.2 1) (fun u : Unit => ([(pr, .inr (4, [.ref bf, iv ((kLt z bg bc ps).2.1), .ref al]))] : va_W) ++ ([(bf, .inr (10, [.ref bv, iv 0, iv bm, iv bc]))] : va_W) ++ ([(bv, ia (E.2 3) bn bg)] : va_W)) (va_A (([(pr, .inr (4, [.ref bf, iv ps, .ref al]))] : va_W) ++ ([(bf, .inr (10, [.ref bv, iv 0, iv bm, iv bc]))] : va_W) ++ ([(bv, ia (E.2 3) bn bg)] : va_W)) sz)) (UXx E (fun (En : String) (u : Unit) => En = "ClockworkTailor$SyntaxError" ∧ (kLt z bg bc ps).1 = false) (fun u : Unit => ([(pr, .inr (4, [.ref bf, iv ((kLt z bg bc ps).2.1), .ref al]))] : va_W) ++ ([(bf, .inr (10, [.ref bv, iv 0, iv bm, iv bc]))] : va_W) ++ ([(bv, ia (E.2 3) bn bg)] : va_W)) (fun u : Unit => some (8, [iv (kLt z bg bc ps).2.1])) (va_A (([(pr, .inr (4, [.ref bf, iv ps, .ref al]))] : va_W) ++ ([(bf, .inr (10, [.ref bv, iv 0, iv bm, iv bc]))] : va_W) ++ ([(bv, ia (E.2 3) bn bg)] : va_W)) sz)) 1 7 (va_A (([(pr, .inr (4, [.ref bf, iv ps, .ref al]))] : va_W) ++ ([(bf, .inr (10, [.ref bv, iv 0, iv bm, iv bc]))] : va_W) ++ ([(bv, ia (E.2 3) bn bg)] : va_W)) sz) := by
  refine vx_ofW (cc := cX4_letter) (maxL := 2) (ret := (some .char)) (by decide) rfl ?_
  intro p e s m args below meth c s₁ B hml htb hv
  obtain ⟨rfl, hsz, hP, hK, hD0, hE⟩ := hv
  have hx := B.exec
  have hb := B.bytes
  have hr := B.returns
  have hts := atoms_spec (ws := (ws_ yX4_letter cX4_letter 2 (some .char))) B.pre
  have hts : ∀ w ∈ lw_all, w.before _ s = true := fun w h => hts w (List.mem_cons_of_mem _ h)
  have hown : s.vm.findClass RX4 = some m.cls := findClass_of_methodNamed B.named
  have hlocks := B.notSynchronized
  subst hsz
  have hD := hD0.self (sz := s.heap.size)
  generalize hAe : va_A (([(pr, .inr (4, [.ref bf, iv ps, .ref al]))] : va_W) ++ ([(bf, .inr (10, [.ref bv, iv 0, iv bm, iv bc]))] : va_W) ++ ([(bv, ia (E.2 3) bn bg)] : va_W)) s.heap.size = A at hD hE ⊢
  have hA : ∀ q : Nat, s.heap.size ≤ q → A q := fun q h => by rw [← hAe]; exact Or.inr h
  have hS : va_S A s.heap s.heap [] := va_S.rf
  have hl := lv_entry ([.ref pr, iv (b2 z)]) (n := 2) (Nat.le_of_ble_eq_true rfl)
  rw [lg_entry_eq]
  generalize (lg_sl ([.ref pr, iv (b2 z)]) ++ List.replicate (2 - (lg_sl ([.ref pr, iv (b2 z)])).length) Slot.unset).toArray = ls at hl ⊢
  have hl : lv_has ls 2 [(0, .ref pr), (1, iv (b2 z))] := hl
  refine lv_aload_n hx hb dX4_letter_0 rfl (lv_at hl 0 rfl) ?_
  refine lv_aload_n hx hb dX4_letter_1 rfl (lv_at hl 0 rfl) ?_
  refine lv_bipush (v := iI 32) hx hb dX4_letter_2 (by decide) ?_
  refine n_cui (x := b2 (decide (p_here bg bc ps = 32))) (va_runV (As := [iv 32]) (rest := [.ref pr]) ⟨hx, hb, hml, hown, hts⟩ (mt_X4_accept l E pr ps al bf bm bc bv bg 32 (bn) (by omega) (by omega) (by assumption) (by omega) (by omega) _) (cwV 1 hts (lw_V q1796 q1798 qs29 q103 q1799) rfl rfl rfl (by decide +kernel) ⟨Nat.le_of_ble_eq_true rfl, Nat.le_of_ble_eq_true rfl⟩) (UX_V hP hK (hD) hE hS (va_A_in hD hS hA) (va_recv hK.1 hP (ci := 4) (q0 := 0) rfl rfl)) rfl rfl hl.1 rfl (lv_room (Nat.le_of_ble_eq_true rfl)) dX4_letter_4 ⟨Nat.le_of_ble_eq_true rfl, Nat.le_of_ble_eq_true rfl⟩) hD hS hA (fun H locs hP hD hS => ?_)
  have hP : va_P E.1 CL (([(pr, .inr (4, [.ref bf, iv (if p_here bg bc ps = 32 then ps + 1 else ps), .ref al]))] : va_W) ++ ([(bf, .inr (10, [.ref bv, iv 0, iv bm, iv bc]))] : va_W) ++ ([(bv, ia (E.2 3) bn bg)] : va_W)) H := hP
  have hD : va_D A (([(pr, .inr (4, [.ref bf, iv (if p_here bg bc ps = 32 then ps + 1 else ps), .ref al]))] : va_W) ++ ([(bf, .inr (10, [.ref bv, iv 0, iv bm, iv bc]))] : va_W) ++ ([(bv, ia (E.2 3) bn bg)] : va_W)) := hD
  cases hz_1 : (decide (p_here bg bc ps = 32)) with
  | true =>
    refine n_top (y := 1) (by rfl) ?_
    refine n_csv ((va_runV (As := [iv 1]) (rest := []) ⟨hx, hb, hml, hown, hts⟩ (mt_X4_expect_y l E pr bf (if p_here bg bc ps = 32 then ps + 1 else ps) al ) (cwV 1 hts (lw_V q1800 q1802 qs30 q103 q1803) rfl rfl rfl (by decide +kernel) ⟨Nat.le_of_ble_eq_true rfl, Nat.le_of_ble_eq_true rfl⟩) (PW_V (hP.sub (ws' := [(pr, .inr (4, [.ref bf, iv (if p_here bg bc ps = 32 then ps + 1 else ps), .ref al]))]) [0] rfl) hK (va_recv hK.1 hP (ci := 4) (q0 := 0) rfl rfl)) rfl rfl hl.1 rfl (lv_room (Nat.le_of_ble_eq_true rfl)) dX4_letter_7 ⟨Nat.le_of_ble_eq_true rfl, Nat.le_of_ble_eq_true rfl⟩).run) ?_
    have hac := of_decide_eq_true hz_1
    have w_2 : ((if p_here bg bc ps = 32 then ps + 1 else ps) : Int) = ps + 1 := by rw [if_pos hac]
    rw [w_2] at hP hD
    have hP : va_P E.1 CL (([(pr, .inr (4, [.ref bf, iv (ps + 1), .ref al]))] : va_W) ++ ([(bf, .inr (10, [.ref bv, iv 0, iv bm, iv bc]))] : va_W) ++ ([(bv, ia (E.2 3) bn bg)] : va_W)) H := hP
    have hD : va_D A (([(pr, .inr (4, [.ref bf, iv (ps + 1), .ref al]))] : va_W) ++ ([(bf, .inr (10, [.ref bv, iv 0, iv bm, iv bc]))] : va_W) ++ ([(bv, ia (E.2 3) bn bg)] : va_W)) := hD
    have hps9 := p_here_7 hb7 bc ps
    refine lv_aload_n hx hb dX4_letter_10 rfl (lv_at hl 0 rfl) ?_
    refine lv_iload_n hx hb dX4_letter_11 rfl (lv_at hl 1 rfl) ?_
    refine n_ifb_eq (tgt := 25) hx hb dX4_letter_12 (by decide) (fun c_3 => ?_) (fun c_3 => ?_)
    · refine lv_aload_n hx hb dX4_letter_25 rfl (lv_at hl 0 rfl) ?_
      refine n_csi (x := p_here bg bc (ps + 1)) (va_runV (As := []) (rest := [.ref pr]) ⟨hx, hb, hml, hown, hts⟩ (mt_X4_current l E pr (ps + 1) al bf bm bc bv bg  (bn) (by omega) (by omega) (by assumption) (by omega)) (cwV 0 hts (lw_V q1761 q1763 qs25 q103 q1764) rfl rfl rfl (by decide +kernel) ⟨Nat.le_of_ble_eq_true rfl, Nat.le_of_ble_eq_true rfl⟩) (PX_V hP hK hE hS (va_recv hK.1 hP (ci := 4) (q0 := 0) rfl rfl)) rfl rfl hl.1 rfl (lv_room (Nat.le_of_ble_eq_true rfl)) dX4_letter_26 ⟨Nat.le_of_ble_eq_true rfl, Nat.le_of_ble_eq_true rfl⟩) ?_
      have b_4 := p_here_7 hb7 bc (ps + 1)
      refine n_csi (x := b2 (decide (97 ≤ p_here bg bc (ps + 1) ∧ p_here bg bc (ps + 1) ≤ 104))) (va_runSN (As := [iv (p_here bg bc (ps + 1))]) (rest := [.ref pr]) ⟨hx, hb, hml, hown, hts⟩ (mt_X1_isTool l E (p_here bg bc (ps + 1)) (by omega)) ⟨(va_cnB 1 hts (lw_meth q881) rfl rfl rfl (hK.nv q1828) (hts _ q94) (by decide +kernel) ⟨Nat.le_of_ble_eq_true rfl, Nat.le_of_ble_eq_true rfl⟩), hts _ q880, trivial⟩ (PW_S (hP.sub (ws' := []) [] rfl) hK) rfl rfl hl.1 rfl (lv_room (Nat.le_of_ble_eq_true rfl)) dX4_letter_29 ⟨Nat.le_of_ble_eq_true rfl, Nat.le_of_ble_eq_true rfl⟩) ?_
      cases hz_5 : (decide (97 ≤ p_here bg bc (ps + 1) ∧ p_here bg bc (ps + 1) ≤ 104)) with
      | true =>
        refine n_top (y := 1) (by rfl) ?_
        refine n_csv ((va_runV (As := [iv 1]) (rest := []) ⟨hx, hb, hml, hown, hts⟩ (mt_X4_expect_y l E pr bf (ps + 1) al ) (cwV 1 hts (lw_V q1800 q1802 qs30 q103 q1803) rfl rfl rfl (by decide +kernel) ⟨Nat.le_of_ble_eq_true rfl, Nat.le_of_ble_eq_true rfl⟩) (PW_V (hP.sub (ws' := [(pr, .inr (4, [.ref bf, iv (ps + 1), .ref al]))]) [0] rfl) hK (va_recv hK.1 hP (ci := 4) (q0 := 0) rfl rfl)) rfl rfl hl.1 rfl (lv_room (Nat.le_of_ble_eq_true rfl)) dX4_letter_32 ⟨Nat.le_of_ble_eq_true rfl, Nat.le_of_ble_eq_true rfl⟩).run) ?_
        have hko : kSc z (p_here bg bc (ps + 1)) = true := by unfold kSc; first | (rw [if_pos (by assumption)]; exact hz_5) | (rw [if_neg (by simp [*])]; exact hz_5)
        have hps8 := p_here_7 hb7 bc (ps + 1)
        have hk0 := kSc_0 hko
        have hK8 := kLt_2 hac hko
        have hcb := hb7 (ps + 1 + 1 - 1)
        refine lv_aload_n hx hb dX4_letter_35 rfl (lv_at hl 0 rfl) ?_
        refine lv_dup hx hb dX4_letter_36 rfl ?_
        refine va_get (D := E.1) (ci := 4) (v := iv (ps + 1)) (C := RX4) (T := TX4) (N := 3) hx hb hts in_X4 hown hK.1 hP 0 rfl rfl 1 (by decide) (hts _ q329) (fun _ h9 => h9) rfl dX4_letter_37 ?_
        refine lv_iconst (v := iI 1) hx hb dX4_letter_40 rfl ?_
        refine n_iadd hx hb dX4_letter_41 ?_
        refine va_put (D := E.1) (ci := 4) (v := iv ((ps + 1) + 1)) (ty := .int) (C := RX4) (T := TX4) (N := 3) hx hb hts in_X4 tyX4 tyX4_ok nmX4 hown hK.1 hP hD hS 0 rfl rfl 1 (by decide) (hts _ q329) (fun _ h9 => h9) rfl (by decide +kernel) rfl rfl (Nat.le_of_ble_eq_true rfl) dX4_letter_42 (fun H locs hP hD hS => ?_)
        have hP : va_P E.1 CL (([(pr, .inr (4, [.ref bf, iv ((ps + 1) + 1), .ref al]))] : va_W) ++ ([(bf, .inr (10, [.ref bv, iv 0, iv bm, iv bc]))] : va_W) ++ ([(bv, ia (E.2 3) bn bg)] : va_W)) H := hP
        have hD : va_D A (([(pr, .inr (4, [.ref bf, iv ((ps + 1) + 1), .ref al]))] : va_W) ++ ([(bf, .inr (10, [.ref bv, iv 0, iv bm, iv bc]))] : va_W) ++ ([(bv, ia (E.2 3) bn bg)] : va_W)) := hD
        refine lv_aload_n hx hb dX4_letter_45 rfl (lv_at hl 0 rfl) ?_
        refine va_get (D := E.1) (ci := 4) (v := .ref bf) (C := RX4) (T := TX4) (N := 3) hx hb hts in_X4 hown hK.1 hP 0 rfl rfl 0 (by decide) (hts _ q328) (fun _ h9 => h9) rfl dX4_letter_46 ?_
        refine lv_aload_n hx hb dX4_letter_49 rfl (lv_at hl 0 rfl) ?_
        refine va_get (D := E.1) (ci := 4) (v := iv ((ps + 1) + 1)) (C := RX4) (T := TX4) (N := 3) hx hb hts in_X4 hown hK.1 hP 0 rfl rfl 1 (by decide) (hts _ q329) (fun _ h9 => h9) rfl dX4_letter_50 ?_
        refine lv_iconst (v := iI 1) hx hb dX4_letter_53 rfl ?_
        refine n_isub hx hb dX4_letter_54 ?_
        refine n_csi (x := bg (((ps + 1) + 1) - 1)) (va_runV (As := [iv (((ps + 1) + 1) - 1)]) (rest := []) ⟨hx, hb, hml, hown, hts⟩ (mt_J3_charAt l E bf bm bc bv bg (((ps + 1) + 1) - 1) (bn) (by omega) (by omega) (by exact hb7 _)) (cwV 1 hts (lw_V q1770 q1719 q1720 q100 q1721) rfl rfl rfl (by decide +kernel) ⟨Nat.le_of_ble_eq_true rfl, Nat.le_of_ble_eq_true rfl⟩) (PX_V (hP.sub (ws' := ([(bf, .inr (10, [.ref bv, iv 0, iv bm, iv bc]))] : va_W) ++ ([(bv, ia (E.2 3) bn bg)] : va_W)) [1, 2] rfl) hK hE hS (va_recv hK.1 hP (ci := 10) (q0 := 1) rfl rfl)) rfl rfl hl.1 rfl (lv_room (Nat.le_of_ble_eq_true rfl)) dX4_letter_55 ⟨Nat.le_of_ble_eq_true rfl, Nat.le_of_ble_eq_true rfl⟩) ?_
        have hK7 := hK8.1
        have w_6 : ((ps + 1) + 1 : Int) = (kLt z bg bc ps).2.1 := by exact hK8.2.1.symm
        rw [w_6] at hP hD
        have hP : va_P E.1 CL (([(pr, .inr (4, [.ref bf, iv ((kLt z bg bc ps).2.1), .ref al]))] : va_W) ++ ([(bf, .inr (10, [.ref bv, iv 0, iv bm, iv bc]))] : va_W) ++ ([(bv, ia (E.2 3) bn bg)] : va_W)) H := hP
        have hD : va_D A (([(pr, .inr (4, [.ref bf, iv ((kLt z bg bc ps).2.1), .ref al]))] : va_W) ++ ([(bf, .inr (10, [.ref bv, iv 0, iv bm, iv bc]))] : va_W) ++ ([(bv, ia (E.2 3) bn bg)] : va_W)) := hD
        have hfin : bg (((ps + 1) + 1) - 1) = (kLt z bg bc ps).2.2 1 := by
          rw [hK8.2.2, hps8.2.2 hk0 |>.2]
          congr 1
          omega
        refine vx_ret ?_
        refine W.widen (k := 1) (n := 7) (Nat.le_of_ble_eq_true rfl) (Nat.le_of_ble_eq_true rfl) ?_
        exact W.zret (v := iI (bg (((ps + 1) + 1) - 1))) hx hb hr (nr_c (by omega)) (fun tt_ ht_ hW_ => ⟨⟨iI (bg (((ps + 1) + 1) - 1)), (), rfl, ⟨hK8.1, (congrArg iI hfin)⟩, by rw [ht_]; exact hP, hD⟩, hS.F ht_⟩) hS.2.2 dX4_letter_58
      | false =>
        refine n_top (y := 0) (by rfl) ?_
        have hz_7 : s.heap.size ≤ H.size := hS.1
        refine n_txvS (w2 := fun u_8 => ([(pr, .inr (4, [.ref bf, iv (ps + 1), .ref al]))] : va_W) ++ ([(bf, .inr (10, [.ref bv, iv 0, iv bm, iv bc]))] : va_W) ++ ([(bv, ia (E.2 3) bn bg)] : va_W)) (w3 := fun u_9 => ([(pr, .inr (4, [.ref bf, iv (ps + 1), .ref al]))] : va_W) ++ ([(bf, .inr (10, [.ref bv, iv 0, iv bm, iv bc]))] : va_W) ++ ([(bv, ia (E.2 3) bn bg)] : va_W)) (vx_runV (As := [iv 0]) (rest := []) ⟨hx, hb, hml, hown, hts⟩ (mt_X4_expect l E pr bf (ps + 1) al false (by exact hst) _) (cwV 1 hts (lw_V q1800 q1802 qs30 q103 q1803) rfl rfl rfl (by decide +kernel) ⟨Nat.le_of_ble_eq_true rfl, Nat.le_of_ble_eq_true rfl⟩) (UX_V (hP.sub (ws' := [(pr, .inr (4, [.ref bf, iv (ps + 1), .ref al]))]) [0] rfl) hK (hD.sub (ws' := [(pr, .inr (4, [.ref bf, iv (ps + 1), .ref al]))]) [0] rfl rfl) hE hS (va_sub_free hD hS hA [0] rfl) (va_recv hK.1 hP (ci := 4) (q0 := 0) rfl rfl)) rfl rfl hl.1 rfl (lv_room (Nat.le_of_ble_eq_true rfl)) dX4_letter_32 ⟨Nat.le_of_ble_eq_true rfl, Nat.le_of_ble_eq_true rfl⟩) hP hD hS hA [0] [1, 2] [2, 0, 1] [2, 0, 1] rfl rfl rfl rfl rfl (fun _ => rfl) rfl (fun _ => rfl) ?_ ?_
        · intro En ce q9 u_9 H locs hCx hP hD hS hxf hq9 hce hcv hcl
          have hCx : En = "ClockworkTailor$SyntaxError" ∧ false = false := hCx
          have hP : va_P E.1 CL (([(pr, .inr (4, [.ref bf, iv (ps + 1), .ref al]))] : va_W) ++ ([(bf, .inr (10, [.ref bv, iv 0, iv bm, iv bc]))] : va_W) ++ ([(bv, ia (E.2 3) bn bg)] : va_W)) H := hP
          have hD : va_D A (([(pr, .inr (4, [.ref bf, iv (ps + 1), .ref al]))] : va_W) ++ ([(bf, .inr (10, [.ref bv, iv 0, iv bm, iv bc]))] : va_W) ++ ([(bv, ia (E.2 3) bn bg)] : va_W)) := hD
          have hK9 : kFl (kLt z bg bc ps) (ps + 1) := by
            refine kLt_1 hac ?_
            unfold kSc
            first | (rw [if_pos (by assumption)]; exact hz_5) | (rw [if_neg (by simp [*])]; exact hz_5)
          have hw9 : (ps + 1 : Int) = (kLt z bg bc ps).2.1 := hK9.2.symm
          have hxf : XF E q9 (some (8, [iv (ps + 1)])) H := hxf
          rw [hw9] at hP hD hxf
          exact n_out () (by exact ⟨hCx.1, hK9.1⟩) hP hD hS hxf (Nat.le_trans hz_7 hq9) hce hcv hcl (fun x hx9 => (htb x hx9).elim) hlocks (Nat.le_of_ble_eq_true rfl) (Nat.le_of_ble_eq_true rfl)
        · intro u_8 H locs hC hP hD hS
          exact absurd hC (by decide)
    · refine lv_aload_n hx hb dX4_letter_15 rfl (lv_at hl 0 rfl) ?_
      refine n_csi (x := p_here bg bc (ps + 1)) (va_runV (As := []) (rest := [.ref pr]) ⟨hx, hb, hml, hown, hts⟩ (mt_X4_current l E pr (ps + 1) al bf bm bc bv bg  (bn) (by omega) (by omega) (by assumption) (by omega)) (cwV 0 hts (lw_V q1761 q1763 qs25 q103 q1764) rfl rfl rfl (by decide +kernel) ⟨Nat.le_of_ble_eq_true rfl, Nat.le_of_ble_eq_true rfl⟩) (PX_V hP hK hE hS (va_recv hK.1 hP (ci := 4) (q0 := 0) rfl rfl)) rfl rfl hl.1 rfl (lv_room (Nat.le_of_ble_eq_true rfl)) dX4_letter_16 ⟨Nat.le_of_ble_eq_true rfl, Nat.le_of_ble_eq_true rfl⟩) ?_
      have b_10 := p_here_7 hb7 bc (ps + 1)
      refine n_csi (x := b2 (decide (p_here bg bc (ps + 1) = 115 ∨ p_here bg bc (ps + 1) = 116 ∨ p_here bg bc (ps + 1) = 101))) (va_runSN (As := [iv (p_here bg bc (ps + 1))]) (rest := [.ref pr]) ⟨hx, hb, hml, hown, hts⟩ (mt_X1_isScope l E (p_here bg bc (ps + 1)) (by omega)) ⟨(va_cnB 1 hts (lw_meth q887) rfl rfl rfl (hK.nv q1827) (hts _ q94) (by decide +kernel) ⟨Nat.le_of_ble_eq_true rfl, Nat.le_of_ble_eq_true rfl⟩), hts _ q886, trivial⟩ (PW_S (hP.sub (ws' := []) [] rfl) hK) rfl rfl hl.1 rfl (lv_room (Nat.le_of_ble_eq_true rfl)) dX4_letter_19 ⟨Nat.le_of_ble_eq_true rfl, Nat.le_of_ble_eq_true rfl⟩) ?_
      refine lv_goto (tgt := 32) hx hb dX4_letter_22 (by decide) ?_
      cases hz_11 : (decide (p_here bg bc (ps + 1) = 115 ∨ p_here bg bc (ps + 1) = 116 ∨ p_here bg bc (ps + 1) = 101)) with
      | true =>
        refine n_top (y := 1) (by rfl) ?_
        refine n_csv ((va_runV (As := [iv 1]) (rest := []) ⟨hx, hb, hml, hown, hts⟩ (mt_X4_expect_y l E pr bf (ps + 1) al ) (cwV 1 hts (lw_V q1800 q1802 qs30 q103 q1803) rfl rfl rfl (by decide +kernel) ⟨Nat.le_of_ble_eq_true rfl, Nat.le_of_ble_eq_true rfl⟩) (PW_V (hP.sub (ws' := [(pr, .inr (4, [.ref bf, iv (ps + 1), .ref al]))]) [0] rfl) hK (va_recv hK.1 hP (ci := 4) (q0 := 0) rfl rfl)) rfl rfl hl.1 rfl (lv_room (Nat.le_of_ble_eq_true rfl)) dX4_letter_32 ⟨Nat.le_of_ble_eq_true rfl, Nat.le_of_ble_eq_true rfl⟩).run) ?_
        have hko : kSc z (p_here bg bc (ps + 1)) = true := by unfold kSc; first | (rw [if_pos (by assumption)]; exact hz_11) | (rw [if_neg (by simp [*])]; exact hz_11)
        have hps8 := p_here_7 hb7 bc (ps + 1)
        have hk0 := kSc_0 hko
        have hK8 := kLt_2 hac hko
        have hcb := hb7 (ps + 1 + 1 - 1)
        refine lv_aload_n hx hb dX4_letter_35 rfl (lv_at hl 0 rfl) ?_
        refine lv_dup hx hb dX4_letter_36 rfl ?_
        refine va_get (D := E.1) (ci := 4) (v := iv (ps + 1)) (C := RX4) (T := TX4) (N := 3) hx hb hts in_X4 hown hK.1 hP 0 rfl rfl 1 (by decide) (hts _ q329) (fun _ h9 => h9) rfl dX4_letter_37 ?_
        refine lv_iconst (v := iI 1) hx hb dX4_letter_40 rfl ?_
        refine n_iadd hx hb dX4_letter_41 ?_
        refine va_put (D := E.1) (ci := 4) (v := iv ((ps + 1) + 1)) (ty := .int) (C := RX4) (T := TX4) (N := 3) hx hb hts in_X4 tyX4 tyX4_ok nmX4 hown hK.1 hP hD hS 0 rfl rfl 1 (by decide) (hts _ q329) (fun _ h9 => h9) rfl (by decide +kernel) rfl rfl (Nat.le_of_ble_eq_true rfl) dX4_letter_42 (fun H locs hP hD hS => ?_)
        have hP : va_P E.1 CL (([(pr, .inr (4, [.ref bf, iv ((ps + 1) + 1), .ref al]))] : va_W) ++ ([(bf, .inr (10, [.ref bv, iv 0, iv bm, iv bc]))] : va_W) ++ ([(bv, ia (E.2 3) bn bg)] : va_W)) H := hP
        have hD : va_D A (([(pr, .inr (4, [.ref bf, iv ((ps + 1) + 1), .ref al]))] : va_W) ++ ([(bf, .inr (10, [.ref bv, iv 0, iv bm, iv bc]))] : va_W) ++ ([(bv, ia (E.2 3) bn bg)] : va_W)) := hD
        refine lv_aload_n hx hb dX4_letter_45 rfl (lv_at hl 0 rfl) ?_
        refine va_get (D := E.1) (ci := 4) (v := .ref bf) (C := RX4) (T := TX4) (N := 3) hx hb hts in_X4 hown hK.1 hP 0 rfl rfl 0 (by decide) (hts _ q328) (fun _ h9 => h9) rfl dX4_letter_46 ?_
        refine lv_aload_n hx hb dX4_letter_49 rfl (lv_at hl 0 rfl) ?_
        refine va_get (D := E.1) (ci := 4) (v := iv ((ps + 1) + 1)) (C := RX4) (T := TX4) (N := 3) hx hb hts in_X4 hown hK.1 hP 0 rfl rfl 1 (by decide) (hts _ q329) (fun _ h9 => h9) rfl dX4_letter_50 ?_
        refine lv_iconst (v := iI 1) hx hb dX4_letter_53 rfl ?_
        refine n_isub hx hb dX4_letter_54 ?_
        refine n_csi (x := bg (((ps + 1) + 1) - 1)) (va_runV (As := [iv (((ps + 1) + 1) - 1)]) (rest := []) ⟨hx, hb, hml, hown, hts⟩ (mt_J3_charAt l E bf bm bc bv bg (((ps + 1) + 1) - 1) (bn) (by omega) (by omega) (by exact hb7 _)) (cwV 1 hts (lw_V q1770 q1719 q1720 q100 q1721) rfl rfl rfl (by decide +kernel) ⟨Nat.le_of_ble_eq_true rfl, Nat.le_of_ble_eq_true rfl⟩) (PX_V (hP.sub (ws' := ([(bf, .inr (10, [.ref bv, iv 0, iv bm, iv bc]))] : va_W) ++ ([(bv, ia (E.2 3) bn bg)] : va_W)) [1, 2] rfl) hK hE hS (va_recv hK.1 hP (ci := 10) (q0 := 1) rfl rfl)) rfl rfl hl.1 rfl (lv_room (Nat.le_of_ble_eq_true rfl)) dX4_letter_55 ⟨Nat.le_of_ble_eq_true rfl, Nat.le_of_ble_eq_true rfl⟩) ?_
        have hK7 := hK8.1
        have w_12 : ((ps + 1) + 1 : Int) = (kLt z bg bc ps).2.1 := by exact hK8.2.1.symm
        rw [w_12] at hP hD
        have hP : va_P E.1 CL (([(pr, .inr (4, [.ref bf, iv ((kLt z bg bc ps).2.1), .ref al]))] : va_W) ++ ([(bf, .inr (10, [.ref bv, iv 0, iv bm, iv bc]))] : va_W) ++ ([(bv, ia (E.2 3) bn bg)] : va_W)) H := hP
        have hD : va_D A (([(pr, .inr (4, [.ref bf, iv ((kLt z bg bc ps).2.1), .ref al]))] : va_W) ++ ([(bf, .inr (10, [.ref bv, iv 0, iv bm, iv bc]))] : va_W) ++ ([(bv, ia (E.2 3) bn bg)] : va_W)) := hD
        have hfin : bg (((ps + 1) + 1) - 1) = (kLt z bg bc ps).2.2 1 := by
          rw [hK8.2.2, hps8.2.2 hk0 |>.2]
          congr 1
          omega
        refine vx_ret ?_
        refine W.widen (k := 1) (n := 7) (Nat.le_of_ble_eq_true rfl) (Nat.le_of_ble_eq_true rfl) ?_
        exact W.zret (v := iI (bg (((ps + 1) + 1) - 1))) hx hb hr (nr_c (by omega)) (fun tt_ ht_ hW_ => ⟨⟨iI (bg (((ps + 1) + 1) - 1)), (), rfl, ⟨hK8.1, (congrArg iI hfin)⟩, by rw [ht_]; exact hP, hD⟩, hS.F ht_⟩) hS.2.2 dX4_letter_58
      | false =>
        refine n_top (y := 0) (by rfl) ?_
        have hz_13 : s.heap.size ≤ H.size := hS.1
        refine n_txvS (w2 := fun u_14 => ([(pr, .inr (4, [.ref bf, iv (ps + 1), .ref al]))] : va_W) ++ ([(bf, .inr (10, [.ref bv, iv 0, iv bm, iv bc]))] : va_W) ++ ([(bv, ia (E.2 3) bn bg)] : va_W)) (w3 := fun u_15 => ([(pr, .inr (4, [.ref bf, iv (ps + 1), .ref al]))] : va_W) ++ ([(bf, .inr (10, [.ref bv, iv 0, iv bm, iv bc]))] : va_W) ++ ([(bv, ia (E.2 3) bn bg)] : va_W)) (vx_runV (As := [iv 0]) (rest := []) ⟨hx, hb, hml, hown, hts⟩ (mt_X4_expect l E pr bf (ps + 1) al false (by exact hst) _) (cwV 1 hts (lw_V q1800 q1802 qs30 q103 q1803) rfl rfl rfl (by decide +kernel) ⟨Nat.le_of_ble_eq_true rfl, Nat.le_of_ble_eq_true rfl⟩) (UX_V (hP.sub (ws' := [(pr, .inr (4, [.ref bf, iv (ps + 1), .ref al]))]) [0] rfl) hK (hD.sub (ws' := [(pr, .inr (4, [.ref bf, iv (ps + 1), .ref al]))]) [0] rfl rfl) hE hS (va_sub_free hD hS hA [0] rfl) (va_recv hK.1 hP (ci := 4) (q0 := 0) rfl rfl)) rfl rfl hl.1 rfl (lv_room (Nat.le_of_ble_eq_true rfl)) dX4_letter_32 ⟨Nat.le_of_ble_eq_true rfl, Nat.le_of_ble_eq_true rfl⟩) hP hD hS hA [0] [1, 2] [2, 0, 1] [2, 0, 1] rfl rfl rfl rfl rfl (fun _ => rfl) rfl (fun _ => rfl) ?_ ?_
        · intro En ce q9 u_15 H locs hCx hP hD hS hxf hq9 hce hcv hcl
          have hCx : En = "ClockworkTailor$SyntaxError" ∧ false = false := hCx
          have hP : va_P E.1 CL (([(pr, .inr (4, [.ref bf, iv (ps + 1), .ref al]))] : va_W) ++ ([(bf, .inr (10, [.ref bv, iv 0, iv bm, iv bc]))] : va_W) ++ ([(bv, ia (E.2 3) bn bg)] : va_W)) H := hP
          have hD : va_D A (([(pr, .inr (4, [.ref bf, iv (ps + 1), .ref al]))] : va_W) ++ ([(bf, .inr (10, [.ref bv, iv 0, iv bm, iv bc]))] : va_W) ++ ([(bv, ia (E.2 3) bn bg)] : va_W)) := hD
          have hK9 : kFl (kLt z bg bc ps) (ps + 1) := by
            refine kLt_1 hac ?_
            unfold kSc
            first | (rw [if_pos (by assumption)]; exact hz_11) | (rw [if_neg (by simp [*])]; exact hz_11)
          have hw9 : (ps + 1 : Int) = (kLt z bg bc ps).2.1 := hK9.2.symm
          have hxf : XF E q9 (some (8, [iv (ps + 1)])) H := hxf
          rw [hw9] at hP hD hxf
          exact n_out () (by exact ⟨hCx.1, hK9.1⟩) hP hD hS hxf (Nat.le_trans hz_13 hq9) hce hcv hcl (fun x hx9 => (htb x hx9).elim) hlocks (Nat.le_of_ble_eq_true rfl) (Nat.le_of_ble_eq_true rfl)
        · intro u_14 H locs hC hP hD hS
          exact absurd hC (by decide)
  | false =>
    refine n_top (y := 0) (by rfl) ?_
    have hz_16 : s.heap.size ≤ H.size := hS.1
    refine n_txvS (w2 := fun u_17 => ([(pr, .inr (4, [.ref bf, iv (if p_here bg bc ps = 32 then ps + 1 else ps), .ref al]))] : va_W) ++ ([(bf, .inr (10, [.ref bv, iv 0, iv bm, iv bc]))] : va_W) ++ ([(bv, ia (E.2 3) bn bg)] : va_W)) (w3 := fun u_18 => ([(pr, .inr (4, [.ref bf, iv (if p_here bg bc ps = 32 then ps + 1 else ps), .ref al]))] : va_W) ++ ([(bf, .inr (10, [.ref bv, iv 0, iv bm, iv bc]))] : va_W) ++ ([(bv, ia (E.2 3) bn bg)] : va_W)) (vx_runV (As := [iv 0]) (rest := []) ⟨hx, hb, hml, hown, hts⟩ (mt_X4_expect l E pr bf (if p_here bg bc ps = 32 then ps + 1 else ps) al false (by exact hst) _) (cwV 1 hts (lw_V q1800 q1802 qs30 q103 q1803) rfl rfl rfl (by decide +kernel) ⟨Nat.le_of_ble_eq_true rfl, Nat.le_of_ble_eq_true rfl⟩) (UX_V (hP.sub (ws' := [(pr, .inr (4, [.ref bf, iv (if p_here bg bc ps = 32 then ps + 1 else ps), .ref al]))]) [0] rfl) hK (hD.sub (ws' := [(pr, .inr (4, [.ref bf, iv (if p_here bg bc ps = 32 then ps + 1 else ps), .ref al]))]) [0] rfl rfl) hE hS (va_sub_free hD hS hA [0] rfl) (va_recv hK.1 hP (ci := 4) (q0 := 0) rfl rfl)) rfl rfl hl.1 rfl (lv_room (Nat.le_of_ble_eq_true rfl)) dX4_letter_7 ⟨Nat.le_of_ble_eq_true rfl, Nat.le_of_ble_eq_true rfl⟩) hP hD hS hA [0] [1, 2] [2, 0, 1] [2, 0, 1] rfl rfl rfl rfl rfl (fun _ => rfl) rfl (fun _ => rfl) ?_ ?_
    · intro En ce q9 u_18 H locs hCx hP hD hS hxf hq9 hce hcv hcl
      have hCx : En = "ClockworkTailor$SyntaxError" ∧ false = false := hCx
      have hP : va_P E.1 CL (([(pr, .inr (4, [.ref bf, iv (if p_here bg bc ps = 32 then ps + 1 else ps), .ref al]))] : va_W) ++ ([(bf, .inr (10, [.ref bv, iv 0, iv bm, iv bc]))] : va_W) ++ ([(bv, ia (E.2 3) bn bg)] : va_W)) H := hP
      have hD : va_D A (([(pr, .inr (4, [.ref bf, iv (if p_here bg bc ps = 32 then ps + 1 else ps), .ref al]))] : va_W) ++ ([(bf, .inr (10, [.ref bv, iv 0, iv bm, iv bc]))] : va_W) ++ ([(bv, ia (E.2 3) bn bg)] : va_W)) := hD
      have hK9 : kFl (kLt z bg bc ps) ((if p_here bg bc ps = 32 then ps + 1 else ps)) := by
        rw [if_neg (of_decide_eq_false hz_1)]
        exact kLt_0 (of_decide_eq_false hz_1)
      have hw9 : ((if p_here bg bc ps = 32 then ps + 1 else ps) : Int) = (kLt z bg bc ps).2.1 := hK9.2.symm
      have hxf : XF E q9 (some (8, [iv ((if p_here bg bc ps = 32 then ps + 1 else ps))])) H := hxf
      rw [hw9] at hP hD hxf
      exact n_out () (by exact ⟨hCx.1, hK9.1⟩) hP hD hS hxf (Nat.le_trans hz_16 hq9) hce hcv hcl (fun x hx9 => (htb x hx9).elim) hlocks (Nat.le_of_ble_eq_true rfl) (Nat.le_of_ble_eq_true rfl)
    · intro u_17 H locs hC hP hD hS
      exact absurd hC (by decide)
set_option maxHeartbeats 1000000 in
set_option maxRecDepth 100000 in
theorem mt_X4_number (l : Launch) (E : EE) (pr : Nat) (ps : Int) (al : Nat) (bf : Nat) (bm : Int) (bc : Int) (bv : Nat) (bg : Int → Int) (d9 : Int) (bn : Nat) (hst : l.stackTraces = false) (hbb : 0 ≤ bc ∧ bc ≤ (bn : Int)) (hbn : bn ≤ 64) (hb7 : B7 bg) (hps : 0 ≤ ps ∧ ps ≤ bc) (hd : 1 ≤ d9 ∧ d9 ≤ 2) (sz : Nat) : vx_Met l yX4_number (ws_ yX4_number cX4_number 4 (some .int)) { frames := 7, cells := 1, slots := 7, locals := 150 } (va_Pc [.ref pr, iv d9] (UX E (([(pr, .inr (4, [.ref bf, iv ps, .ref al]))] : va_W) ++ ([(bf, .inr (10, [.ref bv, iv 0, iv bm, iv bc]))] : va_W) ++ ([(bv, ia (E.2 3) bn bg)] : va_W)) sz)) (UQx E (fun u : Unit => (kNm d9 bg bc ps).1 = true) (fun u : Unit => (kNm d9 bg bc ps).2.2 1) (fun u : Unit => ([(pr, .inr (4, [.ref bf, iv ((kNm d9 bg bc ps).2.1), .ref al]))] : va_W) ++ ([(bf, .inr (10, [.ref bv, iv 0, iv bm, iv bc]))] : va_W) ++ ([(bv, ia (E.2 3) bn bg)] : va_W)) (va_A (([(pr, .inr (4, [.ref bf, iv ps, .ref al]))] : va_W) ++ ([(bf, .inr (10, [.ref bv, iv 0, iv bm, iv bc]))] : va_W) ++ ([(bv, ia (E.2 3) bn bg)] : va_W)) sz)) (UXx E (fun (En : String) (u : Unit) => En = "ClockworkTailor$SyntaxError" ∧ (kNm d9 bg bc ps).1 = false) (fun u : Unit => ([(pr, .inr (4, [.ref bf, iv ((kNm d9 bg bc ps).2.1), .ref al]))] : va_W) ++ ([(bf, .inr (10, [.ref bv, iv 0, iv bm, iv bc]))] : va_W) ++ ([(bv, ia (E.2 3) bn bg)] : va_W)) (fun u : Unit => some (8, [iv (kNm d9 bg bc ps).2.1])) (va_A (([(pr, .inr (4, [.ref bf, iv ps, .ref al]))] : va_W) ++ ([(bf, .inr (10, [.ref bv, iv 0, iv bm, iv bc]))] : va_W) ++ ([(bv, ia (E.2 3) bn bg)] : va_W)) sz)) 1 7 (va_A (([(pr, .inr (4, [.ref bf, iv ps, .ref al]))] : va_W) ++ ([(bf, .inr (10, [.ref bv, iv 0, iv bm, iv bc]))] : va_W) ++ ([(bv, ia (E.2 3) bn bg)] : va_W)) sz) := by
  refine vx_ofW (cc := cX4_number) (maxL := 4) (ret := (some .int)) (by decide) rfl ?_
  intro p e s m args below meth c s₁ B hml htb hv
  obtain ⟨rfl, hsz, hP, hK, hD0, hE⟩ := hv
  have hx := B.exec
  have hb := B.bytes
  have hr := B.returns
  have hts := atoms_spec (ws := (ws_ yX4_number cX4_number 4 (some .int))) B.pre
  have hts : ∀ w ∈ lw_all, w.before _ s = true := fun w h => hts w (List.mem_cons_of_mem _ h)
  have hown : s.vm.findClass RX4 = some m.cls := findClass_of_methodNamed B.named
  have hlocks := B.notSynchronized
  subst hsz
  have hD := hD0.self (sz := s.heap.size)
  generalize hAe : va_A (([(pr, .inr (4, [.ref bf, iv ps, .ref al]))] : va_W) ++ ([(bf, .inr (10, [.ref bv, iv 0, iv bm, iv bc]))] : va_W) ++ ([(bv, ia (E.2 3) bn bg)] : va_W)) s.heap.size = A at hD hE ⊢
  have hA : ∀ q : Nat, s.heap.size ≤ q → A q := fun q h => by rw [← hAe]; exact Or.inr h
  have hS : va_S A s.heap s.heap [] := va_S.rf
  have hl := lv_entry ([.ref pr, iv d9]) (n := 4) (Nat.le_of_ble_eq_true rfl)
  rw [lg_entry_eq]
  generalize (lg_sl ([.ref pr, iv d9]) ++ List.replicate (4 - (lg_sl ([.ref pr, iv d9])).length) Slot.unset).toArray = ls at hl ⊢
  have hl : lv_has ls 4 [(0, .ref pr), (1, iv d9)] := hl
  refine lv_aload_n hx hb dX4_number_0 rfl (lv_at hl 0 rfl) ?_
  refine lv_aload_n hx hb dX4_number_1 rfl (lv_at hl 0 rfl) ?_
  refine lv_bipush (v := iI 32) hx hb dX4_number_2 (by decide) ?_
  refine n_cui (x := b2 (decide (p_here bg bc ps = 32))) (va_runV (As := [iv 32]) (rest := [.ref pr]) ⟨hx, hb, hml, hown, hts⟩ (mt_X4_accept l E pr ps al bf bm bc bv bg 32 (bn) (by omega) (by omega) (by assumption) (by omega) (by omega) _) (cwV 1 hts (lw_V q1796 q1798 qs29 q103 q1799) rfl rfl rfl (by decide +kernel) ⟨Nat.le_of_ble_eq_true rfl, Nat.le_of_ble_eq_true rfl⟩) (UX_V hP hK (hD) hE hS (va_A_in hD hS hA) (va_recv hK.1 hP (ci := 4) (q0 := 0) rfl rfl)) rfl rfl hl.1 rfl (lv_room (Nat.le_of_ble_eq_true rfl)) dX4_number_4 ⟨Nat.le_of_ble_eq_true rfl, Nat.le_of_ble_eq_true rfl⟩) hD hS hA (fun H locs hP hD hS => ?_)
  have hP : va_P E.1 CL (([(pr, .inr (4, [.ref bf, iv (if p_here bg bc ps = 32 then ps + 1 else ps), .ref al]))] : va_W) ++ ([(bf, .inr (10, [.ref bv, iv 0, iv bm, iv bc]))] : va_W) ++ ([(bv, ia (E.2 3) bn bg)] : va_W)) H := hP
  have hD : va_D A (([(pr, .inr (4, [.ref bf, iv (if p_here bg bc ps = 32 then ps + 1 else ps), .ref al]))] : va_W) ++ ([(bf, .inr (10, [.ref bv, iv 0, iv bm, iv bc]))] : va_W) ++ ([(bv, ia (E.2 3) bn bg)] : va_W)) := hD
  cases hz_1 : (decide (p_here bg bc ps = 32)) with
  | true =>
    refine n_top (y := 1) (by rfl) ?_
    refine n_csv ((va_runV (As := [iv 1]) (rest := []) ⟨hx, hb, hml, hown, hts⟩ (mt_X4_expect_y l E pr bf (if p_here bg bc ps = 32 then ps + 1 else ps) al ) (cwV 1 hts (lw_V q1800 q1802 qs30 q103 q1803) rfl rfl rfl (by decide +kernel) ⟨Nat.le_of_ble_eq_true rfl, Nat.le_of_ble_eq_true rfl⟩) (PW_V (hP.sub (ws' := [(pr, .inr (4, [.ref bf, iv (if p_here bg bc ps = 32 then ps + 1 else ps), .ref al]))]) [0] rfl) hK (va_recv hK.1 hP (ci := 4) (q0 := 0) rfl rfl)) rfl rfl hl.1 rfl (lv_room (Nat.le_of_ble_eq_true rfl)) dX4_number_7 ⟨Nat.le_of_ble_eq_true rfl, Nat.le_of_ble_eq_true rfl⟩).run) ?_
    have hac := of_decide_eq_true hz_1
    have w_2 : ((if p_here bg bc ps = 32 then ps + 1 else ps) : Int) = ps + 1 := by rw [if_pos hac]
    rw [w_2] at hP hD
    have hP : va_P E.1 CL (([(pr, .inr (4, [.ref bf, iv (ps + 1), .ref al]))] : va_W) ++ ([(bf, .inr (10, [.ref bv, iv 0, iv bm, iv bc]))] : va_W) ++ ([(bv, ia (E.2 3) bn bg)] : va_W)) H := hP
    have hD : va_D A (([(pr, .inr (4, [.ref bf, iv (ps + 1), .ref al]))] : va_W) ++ ([(bf, .inr (10, [.ref bv, iv 0, iv bm, iv bc]))] : va_W) ++ ([(bv, ia (E.2 3) bn bg)] : va_W)) := hD
    have hps9 := p_here_7 hb7 bc ps
    refine lv_aload_n hx hb dX4_number_10 rfl (lv_at hl 0 rfl) ?_
    refine lv_aload_n hx hb dX4_number_11 rfl (lv_at hl 0 rfl) ?_
    refine n_csi (x := b2 (p_dg (p_here bg bc (ps + 1)))) (va_runV (As := []) (rest := [.ref pr]) ⟨hx, hb, hml, hown, hts⟩ (mt_X4_isDigit l E pr (ps + 1) al bf bm bc bv bg  (bn) (by omega) (by omega) (by assumption) (by omega)) (cwV 0 hts (lw_V q1833 q1835 qs33 q103 q1836) rfl rfl rfl (by decide +kernel) ⟨Nat.le_of_ble_eq_true rfl, Nat.le_of_ble_eq_true rfl⟩) (PX_V hP hK hE hS (va_recv hK.1 hP (ci := 4) (q0 := 0) rfl rfl)) rfl rfl hl.1 rfl (lv_room (Nat.le_of_ble_eq_true rfl)) dX4_number_12 ⟨Nat.le_of_ble_eq_true rfl, Nat.le_of_ble_eq_true rfl⟩) ?_
    cases hz_3 : (p_dg (p_here bg bc (ps + 1))) with
    | true =>
      refine n_top (y := 1) (by rfl) ?_
      refine n_csv ((va_runV (As := [iv 1]) (rest := []) ⟨hx, hb, hml, hown, hts⟩ (mt_X4_expect_y l E pr bf (ps + 1) al ) (cwV 1 hts (lw_V q1800 q1802 qs30 q103 q1803) rfl rfl rfl (by decide +kernel) ⟨Nat.le_of_ble_eq_true rfl, Nat.le_of_ble_eq_true rfl⟩) (PW_V (hP.sub (ws' := [(pr, .inr (4, [.ref bf, iv (ps + 1), .ref al]))]) [0] rfl) hK (va_recv hK.1 hP (ci := 4) (q0 := 0) rfl rfl)) rfl rfl hl.1 rfl (lv_room (Nat.le_of_ble_eq_true rfl)) dX4_number_15 ⟨Nat.le_of_ble_eq_true rfl, Nat.le_of_ble_eq_true rfl⟩).run) ?_
      have hdg := hz_3
      have hdg9 := of_decide_eq_true hdg
      refine lv_iconst (v := iI 0) hx hb dX4_number_18 rfl ?_
      refine lv_istore_n (lv' := [(2, iv 0), (0, .ref pr), (1, iv d9)]) hx hb dX4_number_19 rfl hl (by decide) rfl (fun ls hl => ?_)
      refine lv_iconst (v := iI 0) hx hb dX4_number_20 rfl ?_
      refine lv_istore_n (lv' := [(3, iv 0), (2, iv 0), (0, .ref pr), (1, iv d9)]) hx hb dX4_number_21 rfl hl (by decide) rfl (fun ls hl => ?_)
      have l22 : ∀ (fu : Nat) (x2 : Int) (x3 : Int) (pv : Int) (zn : Nat), (0 ≤ x3 ∧ x3 + (zn : Int) = d9 ∧ 0 ≤ pv ∧ pv ≤ bc ∧ 0 ≤ x2 ∧ (x3 = 0 → x2 < 1) ∧ (x3 = 1 → x2 < 10)) → (p_figN bg bc (zn : Nat) x2 pv = p_figN bg bc d9.toNat 0 (ps + 1)) → ((zn : Int) < (fu : Int)) → ∀ (H : Heap) (locs : List Loc), va_P E.1 CL (([(pr, .inr (4, [.ref bf, iv pv, .ref al]))] : va_W) ++ ([(bf, .inr (10, [.ref bv, iv 0, iv bm, iv bc]))] : va_W) ++ ([(bv, ia (E.2 3) bn bg)] : va_W)) H → va_D A (([(pr, .inr (4, [.ref bf, iv pv, .ref al]))] : va_W) ++ ([(bf, .inr (10, [.ref bv, iv 0, iv bm, iv bc]))] : va_W) ++ ([(bv, ia (E.2 3) bn bg)] : va_W)) → va_S A s.heap H locs → ∀ ls : Array Slot, lv_has ls 4 [(3, iv x3), (2, iv x2), (0, .ref pr), (1, iv d9)] → W p l e (headSpec (ws_ yX4_number cX4_number 4 (some .int)) { frames := 7, cells := 1, slots := 7, locals := 150 }).room s m ([.ref pr, iv d9] : List Value).toArray below meth c H locs 0 0 (vx_MQ below (UQx E (fun u : Unit => (kNm d9 bg bc ps).1 = true) (fun u : Unit => (kNm d9 bg bc ps).2.2 1) (fun u : Unit => ([(pr, .inr (4, [.ref bf, iv ((kNm d9 bg bc ps).2.1), .ref al]))] : va_W) ++ ([(bf, .inr (10, [.ref bv, iv 0, iv bm, iv bc]))] : va_W) ++ ([(bv, ia (E.2 3) bn bg)] : va_W)) A) (UXx E (fun (En : String) (u : Unit) => En = "ClockworkTailor$SyntaxError" ∧ (kNm d9 bg bc ps).1 = false) (fun u : Unit => ([(pr, .inr (4, [.ref bf, iv ((kNm d9 bg bc ps).2.1), .ref al]))] : va_W) ++ ([(bf, .inr (10, [.ref bv, iv 0, iv bm, iv bc]))] : va_W) ++ ([(bv, ia (E.2 3) bn bg)] : va_W)) (fun u : Unit => some (8, [iv (kNm d9 bg bc ps).2.1])) A) ([.ref pr, iv d9] : List Value).toArray s 1 7 A) (F0 m 22 ls []) := by
        intro fu
        induction fu with
        | zero =>
          intro x2 x3 pv zn il22_0 il22_1 hm
          exfalso; omega
        | succ fu ih =>
          intro x2 x3 pv zn il22_0 il22_1 hm H locs hP hD hS ls hl
          have ihl22 := ih
          refine lv_iload_n hx hb dX4_number_22 rfl (lv_at hl 0 rfl) ?_
          refine lv_iload_n hx hb dX4_number_23 rfl (lv_at hl 3 rfl) ?_
          refine n_icmp_ge (tgt := 63) hx hb dX4_number_24 (by decide) (by omega) (by omega) (fun c_4 => ?_) (fun c_4 => ?_)
          · have hpe : p_figN bg bc zn x2 pv = (x2, pv) := by
                first | exact p_figN_e (Or.inl (by omega)) | exact p_figN_e (Or.inr (of_decide_eq_false (show p_dg (p_here bg bc pv) = false by assumption)))
            have hK8 : kOk (kNm d9 bg bc ps) pv x2 := kNm_2 (t := (x2, pv)) hac hdg (by rw [← il22_1, hpe])
            have hK7 := hK8.1
            have w_5 : (pv : Int) = (kNm d9 bg bc ps).2.1 := by exact hK8.2.1.symm
            rw [w_5] at hP hD
            have hP : va_P E.1 CL (([(pr, .inr (4, [.ref bf, iv ((kNm d9 bg bc ps).2.1), .ref al]))] : va_W) ++ ([(bf, .inr (10, [.ref bv, iv 0, iv bm, iv bc]))] : va_W) ++ ([(bv, ia (E.2 3) bn bg)] : va_W)) H := hP
            have hD : va_D A (([(pr, .inr (4, [.ref bf, iv ((kNm d9 bg bc ps).2.1), .ref al]))] : va_W) ++ ([(bf, .inr (10, [.ref bv, iv 0, iv bm, iv bc]))] : va_W) ++ ([(bv, ia (E.2 3) bn bg)] : va_W)) := hD
            refine lv_iload_n hx hb dX4_number_63 rfl (lv_at hl 1 rfl) ?_
            have hfin : x2 = (kNm d9 bg bc ps).2.2 1 := by
              exact hK8.2.2.symm
            refine vx_ret ?_
            refine W.widen (k := 1) (n := 7) (Nat.le_of_ble_eq_true rfl) (Nat.le_of_ble_eq_true rfl) ?_
            exact W.iret (v := iI x2) hx hb hr (fun tt_ ht_ hW_ => ⟨⟨iI x2, (), rfl, ⟨hK8.1, (congrArg iI hfin)⟩, by rw [ht_]; exact hP, hD⟩, hS.F ht_⟩) hS.2.2 dX4_number_64
          · refine lv_aload_n hx hb dX4_number_27 rfl (lv_at hl 2 rfl) ?_
            refine n_csi (x := b2 (p_dg (p_here bg bc pv))) (va_runV (As := []) (rest := []) ⟨hx, hb, hml, hown, hts⟩ (mt_X4_isDigit l E pr pv al bf bm bc bv bg  (bn) (by omega) (by omega) (by assumption) (by omega)) (cwV 0 hts (lw_V q1833 q1835 qs33 q103 q1836) rfl rfl rfl (by decide +kernel) ⟨Nat.le_of_ble_eq_true rfl, Nat.le_of_ble_eq_true rfl⟩) (PX_V hP hK hE hS (va_recv hK.1 hP (ci := 4) (q0 := 0) rfl rfl)) rfl rfl hl.1 rfl (lv_room (Nat.le_of_ble_eq_true rfl)) dX4_number_28 ⟨Nat.le_of_ble_eq_true rfl, Nat.le_of_ble_eq_true rfl⟩) ?_
            refine n_ifb_eq (tgt := 63) hx hb dX4_number_31 (by decide) (fun c_6 => ?_) (fun c_6 => ?_)
            · have hpe : p_figN bg bc zn x2 pv = (x2, pv) := by
                  first | exact p_figN_e (Or.inl (by omega)) | exact p_figN_e (Or.inr (of_decide_eq_false (show p_dg (p_here bg bc pv) = false by assumption)))
              have hK8 : kOk (kNm d9 bg bc ps) pv x2 := kNm_2 (t := (x2, pv)) hac hdg (by rw [← il22_1, hpe])
              have hK7 := hK8.1
              have w_7 : (pv : Int) = (kNm d9 bg bc ps).2.1 := by exact hK8.2.1.symm
              rw [w_7] at hP hD
              have hP : va_P E.1 CL (([(pr, .inr (4, [.ref bf, iv ((kNm d9 bg bc ps).2.1), .ref al]))] : va_W) ++ ([(bf, .inr (10, [.ref bv, iv 0, iv bm, iv bc]))] : va_W) ++ ([(bv, ia (E.2 3) bn bg)] : va_W)) H := hP
              have hD : va_D A (([(pr, .inr (4, [.ref bf, iv ((kNm d9 bg bc ps).2.1), .ref al]))] : va_W) ++ ([(bf, .inr (10, [.ref bv, iv 0, iv bm, iv bc]))] : va_W) ++ ([(bv, ia (E.2 3) bn bg)] : va_W)) := hD
              refine lv_iload_n hx hb dX4_number_63 rfl (lv_at hl 1 rfl) ?_
              have hfin : x2 = (kNm d9 bg bc ps).2.2 1 := by
                exact hK8.2.2.symm
              refine vx_ret ?_
              refine W.widen (k := 1) (n := 7) (Nat.le_of_ble_eq_true rfl) (Nat.le_of_ble_eq_true rfl) ?_
              exact W.iret (v := iI x2) hx hb hr (fun tt_ ht_ hW_ => ⟨⟨iI x2, (), rfl, ⟨hK8.1, (congrArg iI hfin)⟩, by rw [ht_]; exact hP, hD⟩, hS.F ht_⟩) hS.2.2 dX4_number_64
            · have hdd := of_decide_eq_true (show p_dg (p_here bg bc pv) = true by assumption)
              have hps8 := p_here_7 hb7 bc pv
              refine lv_bipush (v := iI 10) hx hb dX4_number_34 (by decide) ?_
              refine lv_iload_n hx hb dX4_number_36 rfl (lv_at hl 1 rfl) ?_
              refine n_imul hx hb dX4_number_37 ?_
              refine lv_aload_n hx hb dX4_number_38 rfl (lv_at hl 2 rfl) ?_
              refine n_csi (x := p_here bg bc pv) (va_runV (As := []) (rest := [iv (10 * x2)]) ⟨hx, hb, hml, hown, hts⟩ (mt_X4_current l E pr pv al bf bm bc bv bg  (bn) (by omega) (by omega) (by assumption) (by omega)) (cwV 0 hts (lw_V q1761 q1763 qs25 q103 q1764) rfl rfl rfl (by decide +kernel) ⟨Nat.le_of_ble_eq_true rfl, Nat.le_of_ble_eq_true rfl⟩) (PX_V hP hK hE hS (va_recv hK.1 hP (ci := 4) (q0 := 0) rfl rfl)) rfl rfl hl.1 rfl (lv_room (Nat.le_of_ble_eq_true rfl)) dX4_number_39 ⟨Nat.le_of_ble_eq_true rfl, Nat.le_of_ble_eq_true rfl⟩) ?_
              refine n_iadd hx hb dX4_number_42 ?_
              refine lv_bipush (v := iI 48) hx hb dX4_number_43 (by decide) ?_
              refine n_isub hx hb dX4_number_45 ?_
              refine lv_istore_n (lv' := [(2, iv (((10 * x2) + (p_here bg bc pv)) - 48)), (3, iv x3), (0, .ref pr), (1, iv d9)]) hx hb dX4_number_46 rfl hl (by decide) rfl (fun ls hl => ?_)
              refine lv_aload_n hx hb dX4_number_47 rfl (lv_at hl 2 rfl) ?_
              refine lv_dup hx hb dX4_number_48 rfl ?_
              refine va_get (D := E.1) (ci := 4) (v := iv pv) (C := RX4) (T := TX4) (N := 3) hx hb hts in_X4 hown hK.1 hP 0 rfl rfl 1 (by decide) (hts _ q329) (fun _ h9 => h9) rfl dX4_number_49 ?_
              refine lv_iconst (v := iI 1) hx hb dX4_number_52 rfl ?_
              refine n_iadd hx hb dX4_number_53 ?_
              refine va_put (D := E.1) (ci := 4) (v := iv (pv + 1)) (ty := .int) (C := RX4) (T := TX4) (N := 3) hx hb hts in_X4 tyX4 tyX4_ok nmX4 hown hK.1 hP hD hS 0 rfl rfl 1 (by decide) (hts _ q329) (fun _ h9 => h9) rfl (by decide +kernel) rfl rfl (Nat.le_of_ble_eq_true rfl) dX4_number_54 (fun H locs hP hD hS => ?_)
              have hP : va_P E.1 CL (([(pr, .inr (4, [.ref bf, iv (pv + 1), .ref al]))] : va_W) ++ ([(bf, .inr (10, [.ref bv, iv 0, iv bm, iv bc]))] : va_W) ++ ([(bv, ia (E.2 3) bn bg)] : va_W)) H := hP
              have hD : va_D A (([(pr, .inr (4, [.ref bf, iv (pv + 1), .ref al]))] : va_W) ++ ([(bf, .inr (10, [.ref bv, iv 0, iv bm, iv bc]))] : va_W) ++ ([(bv, ia (E.2 3) bn bg)] : va_W)) := hD
              refine lv_iinc (v := iI (x3 + 1)) (lv' := [(3, iv (x3 + 1)), (2, iv (((10 * x2) + (p_here bg bc pv)) - 48)), (0, .ref pr), (1, iv d9)]) hx hb dX4_number_57 hl (k := 1) rfl (iI_add _ _) (by decide) rfl (fun ls hl => ?_)
              refine lv_goto (tgt := 22) hx hb dX4_number_60 (by decide) ?_
              obtain ⟨zn, rfl⟩ : ∃ z2, zn = z2 + 1 := ⟨zn - 1, by omega⟩
              exact ihl22 (((10 * x2) + (p_here bg bc pv)) - 48) (x3 + 1) (pv + 1) zn (by omega) (by exact p_fig_s il22_1 hdd) (by omega) H locs hP hD hS ls (lv_sub hl [0, 1, 2, 3] rfl)
      exact l22 (d9.toNat + 1) 0 0 (ps + 1) d9.toNat (by omega) (by rfl) (by omega) H locs hP hD hS ls hl
    | false =>
      refine n_top (y := 0) (by rfl) ?_
      have hz_8 : s.heap.size ≤ H.size := hS.1
      refine n_txvS (w2 := fun u_9 => ([(pr, .inr (4, [.ref bf, iv (ps + 1), .ref al]))] : va_W) ++ ([(bf, .inr (10, [.ref bv, iv 0, iv bm, iv bc]))] : va_W) ++ ([(bv, ia (E.2 3) bn bg)] : va_W)) (w3 := fun u_10 => ([(pr, .inr (4, [.ref bf, iv (ps + 1), .ref al]))] : va_W) ++ ([(bf, .inr (10, [.ref bv, iv 0, iv bm, iv bc]))] : va_W) ++ ([(bv, ia (E.2 3) bn bg)] : va_W)) (vx_runV (As := [iv 0]) (rest := []) ⟨hx, hb, hml, hown, hts⟩ (mt_X4_expect l E pr bf (ps + 1) al false (by exact hst) _) (cwV 1 hts (lw_V q1800 q1802 qs30 q103 q1803) rfl rfl rfl (by decide +kernel) ⟨Nat.le_of_ble_eq_true rfl, Nat.le_of_ble_eq_true rfl⟩) (UX_V (hP.sub (ws' := [(pr, .inr (4, [.ref bf, iv (ps + 1), .ref al]))]) [0] rfl) hK (hD.sub (ws' := [(pr, .inr (4, [.ref bf, iv (ps + 1), .ref al]))]) [0] rfl rfl) hE hS (va_sub_free hD hS hA [0] rfl) (va_recv hK.1 hP (ci := 4) (q0 := 0) rfl rfl)) rfl rfl hl.1 rfl (lv_room (Nat.le_of_ble_eq_true rfl)) dX4_number_15 ⟨Nat.le_of_ble_eq_true rfl, Nat.le_of_ble_eq_true rfl⟩) hP hD hS hA [0] [1, 2] [2, 0, 1] [2, 0, 1] rfl rfl rfl rfl rfl (fun _ => rfl) rfl (fun _ => rfl) ?_ ?_
      · intro En ce q9 u_10 H locs hCx hP hD hS hxf hq9 hce hcv hcl
        have hCx : En = "ClockworkTailor$SyntaxError" ∧ false = false := hCx
        have hP : va_P E.1 CL (([(pr, .inr (4, [.ref bf, iv (ps + 1), .ref al]))] : va_W) ++ ([(bf, .inr (10, [.ref bv, iv 0, iv bm, iv bc]))] : va_W) ++ ([(bv, ia (E.2 3) bn bg)] : va_W)) H := hP
        have hD : va_D A (([(pr, .inr (4, [.ref bf, iv (ps + 1), .ref al]))] : va_W) ++ ([(bf, .inr (10, [.ref bv, iv 0, iv bm, iv bc]))] : va_W) ++ ([(bv, ia (E.2 3) bn bg)] : va_W)) := hD
        have hK9 : kFl (kNm d9 bg bc ps) (ps + 1) := by
          exact kNm_1 hac hz_3
        have hw9 : (ps + 1 : Int) = (kNm d9 bg bc ps).2.1 := hK9.2.symm
        have hxf : XF E q9 (some (8, [iv (ps + 1)])) H := hxf
        rw [hw9] at hP hD hxf
        exact n_out () (by exact ⟨hCx.1, hK9.1⟩) hP hD hS hxf (Nat.le_trans hz_8 hq9) hce hcv hcl (fun x hx9 => (htb x hx9).elim) hlocks (Nat.le_of_ble_eq_true rfl) (Nat.le_of_ble_eq_true rfl)
      · intro u_9 H locs hC hP hD hS
        exact absurd hC (by decide)
  | false =>
    refine n_top (y := 0) (by rfl) ?_
    have hz_11 : s.heap.size ≤ H.size := hS.1
    refine n_txvS (w2 := fun u_12 => ([(pr, .inr (4, [.ref bf, iv (if p_here bg bc ps = 32 then ps + 1 else ps), .ref al]))] : va_W) ++ ([(bf, .inr (10, [.ref bv, iv 0, iv bm, iv bc]))] : va_W) ++ ([(bv, ia (E.2 3) bn bg)] : va_W)) (w3 := fun u_13 => ([(pr, .inr (4, [.ref bf, iv (if p_here bg bc ps = 32 then ps + 1 else ps), .ref al]))] : va_W) ++ ([(bf, .inr (10, [.ref bv, iv 0, iv bm, iv bc]))] : va_W) ++ ([(bv, ia (E.2 3) bn bg)] : va_W)) (vx_runV (As := [iv 0]) (rest := []) ⟨hx, hb, hml, hown, hts⟩ (mt_X4_expect l E pr bf (if p_here bg bc ps = 32 then ps + 1 else ps) al false (by exact hst) _) (cwV 1 hts (lw_V q1800 q1802 qs30 q103 q1803) rfl rfl rfl (by decide +kernel) ⟨Nat.le_of_ble_eq_true rfl, Nat.le_of_ble_eq_true rfl⟩) (UX_V (hP.sub (ws' := [(pr, .inr (4, [.ref bf, iv (if p_here bg bc ps = 32 then ps + 1 else ps), .ref al]))]) [0] rfl) hK (hD.sub (ws' := [(pr, .inr (4, [.ref bf, iv (if p_here bg bc ps = 32 then ps + 1 else ps), .ref al]))]) [0] rfl rfl) hE hS (va_sub_free hD hS hA [0] rfl) (va_recv hK.1 hP (ci := 4) (q0 := 0) rfl rfl)) rfl rfl hl.1 rfl (lv_room (Nat.le_of_ble_eq_true rfl)) dX4_number_7 ⟨Nat.le_of_ble_eq_true rfl, Nat.le_of_ble_eq_true rfl⟩) hP hD hS hA [0] [1, 2] [2, 0, 1] [2, 0, 1] rfl rfl rfl rfl rfl (fun _ => rfl) rfl (fun _ => rfl) ?_ ?_
    · intro En ce q9 u_13 H locs hCx hP hD hS hxf hq9 hce hcv hcl
      have hCx : En = "ClockworkTailor$SyntaxError" ∧ false = false := hCx
      have hP : va_P E.1 CL (([(pr, .inr (4, [.ref bf, iv (if p_here bg bc ps = 32 then ps + 1 else ps), .ref al]))] : va_W) ++ ([(bf, .inr (10, [.ref bv, iv 0, iv bm, iv bc]))] : va_W) ++ ([(bv, ia (E.2 3) bn bg)] : va_W)) H := hP
      have hD : va_D A (([(pr, .inr (4, [.ref bf, iv (if p_here bg bc ps = 32 then ps + 1 else ps), .ref al]))] : va_W) ++ ([(bf, .inr (10, [.ref bv, iv 0, iv bm, iv bc]))] : va_W) ++ ([(bv, ia (E.2 3) bn bg)] : va_W)) := hD
      have hK9 : kFl (kNm d9 bg bc ps) ((if p_here bg bc ps = 32 then ps + 1 else ps)) := by
        rw [if_neg (of_decide_eq_false hz_1)]
        exact kNm_0 (of_decide_eq_false hz_1)
      have hw9 : ((if p_here bg bc ps = 32 then ps + 1 else ps) : Int) = (kNm d9 bg bc ps).2.1 := hK9.2.symm
      have hxf : XF E q9 (some (8, [iv ((if p_here bg bc ps = 32 then ps + 1 else ps))])) H := hxf
      rw [hw9] at hP hD hxf
      exact n_out () (by exact ⟨hCx.1, hK9.1⟩) hP hD hS hxf (Nat.le_trans hz_11 hq9) hce hcv hcl (fun x hx9 => (htb x hx9).elim) hlocks (Nat.le_of_ble_eq_true rfl) (Nat.le_of_ble_eq_true rfl)
    · intro u_12 H locs hC hP hD hS
      exact absurd hC (by decide)
