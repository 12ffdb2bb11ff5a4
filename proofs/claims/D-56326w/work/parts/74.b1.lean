set_option maxHeartbeats 4000000 in
set_option maxRecDepth 100000 in
theorem mt_X1_inRange (l : Launch) (E : EE)  (v : Int) (lo : Int) (hi : Int) (h1 : -2147483648 ≤ v ∧ v < 2147483648) (h2 : -2147483648 ≤ lo ∧ lo < 2147483648) (h3 : -2147483648 ≤ hi ∧ hi < 2147483648) : Met l yX1_inRange (ws_ yX1_inRange cX1_inRange 3 (some .boolean)) { frames := 0, cells := 0, slots := 0, locals := 0 } (va_Pc [iv v, iv lo, iv hi] (PW E ([]))) (NP (b2 (decide (lo ≤ v ∧ v ≤ hi)))) 0 0 (fun _ => False) := by
  refine Met.ofW (cc := cX1_inRange) (maxL := 3) (ret := (some .boolean)) (by decide) rfl ?_
  intro p e s m args below meth c s₁ B hml hv
  obtain ⟨rfl, hP, hK⟩ := hv
  have hx := B.exec
  have hb := B.bytes
  have hr := B.returns
  have hts := atoms_spec (ws := (ws_ yX1_inRange cX1_inRange 3 (some .boolean))) B.pre
  have hts : ∀ w ∈ lw_all, w.before _ s = true := fun w h => hts w (List.mem_cons_of_mem _ h)
  have hown : s.vm.findClass RX1 = some m.cls := findClass_of_methodNamed B.named
  have hlocks := B.notSynchronized
  have hl := lv_entry ([iv v, iv lo, iv hi]) (n := 3) (Nat.le_of_ble_eq_true rfl)
  rw [lg_entry_eq]
  generalize (lg_sl ([iv v, iv lo, iv hi]) ++ List.replicate (3 - (lg_sl ([iv v, iv lo, iv hi])).length) Slot.unset).toArray = ls at hl ⊢
  have hl : lv_has ls 3 [(0, iv v), (1, iv lo), (2, iv hi)] := hl
  refine lv_iload_n hx hb dX1_inRange_0 rfl (lv_at hl 0 rfl) ?_
  refine lv_iload_n hx hb dX1_inRange_1 rfl (lv_at hl 1 rfl) ?_
  refine n_icmp_lt (tgt := 14) hx hb dX1_inRange_2 (by decide) (by omega) (by omega) (fun c_1 => ?_) (fun c_1 => ?_)
  · refine lv_iconst (v := iI 0) hx hb dX1_inRange_14 rfl ?_
    have hfin : 0 = b2 (decide (lo ≤ v ∧ v ≤ hi)) := by
      first | exact (b2_pos (by omega)).symm | exact (b2_neg (by omega)).symm | rfl
    exact W.zret (v := iI 0) hx hb hr (nr_b (by decide)) (fun tt_ ht_ hW_ => ⟨iI 0, rfl, (congrArg iI hfin), ht_⟩) (fun q h => by cases h) dX1_inRange_15
  · refine lv_iload_n hx hb dX1_inRange_5 rfl (lv_at hl 0 rfl) ?_
    refine lv_iload_n hx hb dX1_inRange_6 rfl (lv_at hl 2 rfl) ?_
    refine n_icmp_gt (tgt := 14) hx hb dX1_inRange_7 (by decide) (by omega) (by omega) (fun c_2 => ?_) (fun c_2 => ?_)
    · refine lv_iconst (v := iI 0) hx hb dX1_inRange_14 rfl ?_
      have hfin : 0 = b2 (decide (lo ≤ v ∧ v ≤ hi)) := by
        first | exact (b2_pos (by omega)).symm | exact (b2_neg (by omega)).symm | rfl
      exact W.zret (v := iI 0) hx hb hr (nr_b (by decide)) (fun tt_ ht_ hW_ => ⟨iI 0, rfl, (congrArg iI hfin), ht_⟩) (fun q h => by cases h) dX1_inRange_15
    · refine lv_iconst (v := iI 1) hx hb dX1_inRange_10 rfl ?_
      refine lv_goto (tgt := 15) hx hb dX1_inRange_11 (by decide) ?_
      have hfin : 1 = b2 (decide (lo ≤ v ∧ v ≤ hi)) := by
        first | exact (b2_pos (by omega)).symm | exact (b2_neg (by omega)).symm | rfl
      exact W.zret (v := iI 1) hx hb hr (nr_b (by decide)) (fun tt_ ht_ hW_ => ⟨iI 1, rfl, (congrArg iI hfin), ht_⟩) (fun q h => by cases h) dX1_inRange_15
set_option maxHeartbeats 4000000 in
set_option maxRecDepth 100000 in
theorem mt_X1_isTool (l : Launch) (E : EE)  (v : Int) (h1 : -2147483648 ≤ v ∧ v < 2147483648) : Met l yX1_isTool (ws_ yX1_isTool cX1_isTool 1 (some .boolean)) { frames := 1, cells := 0, slots := 0, locals := 22 } (va_Pc [iv v] (PW E ([]))) (NP (b2 (decide (97 ≤ v ∧ v ≤ 104)))) 0 0 (fun _ => False) := by
  refine Met.ofW (cc := cX1_isTool) (maxL := 1) (ret := (some .boolean)) (by decide) rfl ?_
  intro p e s m args below meth c s₁ B hml hv
  obtain ⟨rfl, hP, hK⟩ := hv
  have hx := B.exec
  have hb := B.bytes
  have hr := B.returns
  have hts := atoms_spec (ws := (ws_ yX1_isTool cX1_isTool 1 (some .boolean))) B.pre
  have hts : ∀ w ∈ lw_all, w.before _ s = true := fun w h => hts w (List.mem_cons_of_mem _ h)
  have hown : s.vm.findClass RX1 = some m.cls := findClass_of_methodNamed B.named
  have hlocks := B.notSynchronized
  have hl := lv_entry ([iv v]) (n := 1) (Nat.le_of_ble_eq_true rfl)
  rw [lg_entry_eq]
  generalize (lg_sl ([iv v]) ++ List.replicate (1 - (lg_sl ([iv v])).length) Slot.unset).toArray = ls at hl ⊢
  have hl : lv_has ls 1 [(0, iv v)] := hl
  refine lv_iload_n hx hb dX1_isTool_0 rfl (lv_at hl 0 rfl) ?_
  refine lv_bipush (v := iI 97) hx hb dX1_isTool_1 (by decide) ?_
  refine lv_bipush (v := iI 104) hx hb dX1_isTool_3 (by decide) ?_
  refine n_csi (x := b2 (decide (97 ≤ v ∧ v ≤ 104))) (va_runS (As := [iv v, iv 97, iv 104]) (rest := []) ⟨hx, hb, hml, hown, hts⟩ (mt_X1_inRange l E v 97 104 (by omega) (by omega) (by omega)) (va_cwS 3 hts (lw_S q882 q883 q94 q884) rfl rfl rfl (by decide +kernel) ⟨Nat.le_of_ble_eq_true rfl, Nat.le_of_ble_eq_true rfl⟩) (PW_S hP hK) rfl rfl hl.1 rfl (lv_room (Nat.le_of_ble_eq_true rfl)) dX1_isTool_5 ⟨Nat.le_of_ble_eq_true rfl, Nat.le_of_ble_eq_true rfl⟩) ?_
  exact W.zret (v := iI (b2 (decide (97 ≤ v ∧ v ≤ 104)))) hx hb hr (nr_b (b2_r _)) (fun tt_ ht_ hW_ => ⟨iI (b2 (decide (97 ≤ v ∧ v ≤ 104))), rfl, rfl, ht_⟩) (fun q h => by cases h) dX1_isTool_8
set_option maxHeartbeats 4000000 in
set_option maxRecDepth 100000 in
theorem mt_X1_isScope (l : Launch) (E : EE)  (v : Int) (h1 : -2147483648 ≤ v ∧ v < 2147483648) : Met l yX1_isScope (ws_ yX1_isScope cX1_isScope 1 (some .boolean)) { frames := 0, cells := 0, slots := 0, locals := 0 } (va_Pc [iv v] (PW E ([]))) (NP (b2 (decide (v = 115 ∨ v = 116 ∨ v = 101)))) 0 0 (fun _ => False) := by
  refine Met.ofW (cc := cX1_isScope) (maxL := 1) (ret := (some .boolean)) (by decide) rfl ?_
  intro p e s m args below meth c s₁ B hml hv
  obtain ⟨rfl, hP, hK⟩ := hv
  have hx := B.exec
  have hb := B.bytes
  have hr := B.returns
  have hts := atoms_spec (ws := (ws_ yX1_isScope cX1_isScope 1 (some .boolean))) B.pre
  have hts : ∀ w ∈ lw_all, w.before _ s = true := fun w h => hts w (List.mem_cons_of_mem _ h)
  have hown : s.vm.findClass RX1 = some m.cls := findClass_of_methodNamed B.named
  have hlocks := B.notSynchronized
  have hl := lv_entry ([iv v]) (n := 1) (Nat.le_of_ble_eq_true rfl)
  rw [lg_entry_eq]
  generalize (lg_sl ([iv v]) ++ List.replicate (1 - (lg_sl ([iv v])).length) Slot.unset).toArray = ls at hl ⊢
  have hl : lv_has ls 1 [(0, iv v)] := hl
  refine lv_iload_n hx hb dX1_isScope_0 rfl (lv_at hl 0 rfl) ?_
  refine lv_bipush (v := iI 115) hx hb dX1_isScope_1 (by decide) ?_
  refine n_icmp_eq (tgt := 18) hx hb dX1_isScope_3 (by decide) (by omega) (by omega) (fun c_1 => ?_) (fun c_1 => ?_)
  · refine lv_iconst (v := iI 1) hx hb dX1_isScope_18 rfl ?_
    refine lv_goto (tgt := 23) hx hb dX1_isScope_19 (by decide) ?_
    have hfin : 1 = b2 (decide (v = 115 ∨ v = 116 ∨ v = 101)) := by
      first | exact (b2_pos (by omega)).symm | exact (b2_neg (by omega)).symm | rfl
    exact W.zret (v := iI 1) hx hb hr (nr_b (by decide)) (fun tt_ ht_ hW_ => ⟨iI 1, rfl, (congrArg iI hfin), ht_⟩) (fun q h => by cases h) dX1_isScope_23
  · refine lv_iload_n hx hb dX1_isScope_6 rfl (lv_at hl 0 rfl) ?_
    refine lv_bipush (v := iI 116) hx hb dX1_isScope_7 (by decide) ?_
    refine n_icmp_eq (tgt := 18) hx hb dX1_isScope_9 (by decide) (by omega) (by omega) (fun c_2 => ?_) (fun c_2 => ?_)
    · refine lv_iconst (v := iI 1) hx hb dX1_isScope_18 rfl ?_
      refine lv_goto (tgt := 23) hx hb dX1_isScope_19 (by decide) ?_
      have hfin : 1 = b2 (decide (v = 115 ∨ v = 116 ∨ v = 101)) := by
        first | exact (b2_pos (by omega)).symm | exact (b2_neg (by omega)).symm | rfl
      exact W.zret (v := iI 1) hx hb hr (nr_b (by decide)) (fun tt_ ht_ hW_ => ⟨iI 1, rfl, (congrArg iI hfin), ht_⟩) (fun q h => by cases h) dX1_isScope_23
    · refine lv_iload_n hx hb dX1_isScope_12 rfl (lv_at hl 0 rfl) ?_
      refine lv_bipush (v := iI 101) hx hb dX1_isScope_13 (by decide) ?_
      refine n_icmp_ne (tgt := 22) hx hb dX1_isScope_15 (by decide) (by omega) (by omega) (fun c_3 => ?_) (fun c_3 => ?_)
      · refine lv_iconst (v := iI 0) hx hb dX1_isScope_22 rfl ?_
        have hfin : 0 = b2 (decide (v = 115 ∨ v = 116 ∨ v = 101)) := by
          first | exact (b2_pos (by omega)).symm | exact (b2_neg (by omega)).symm | rfl
        exact W.zret (v := iI 0) hx hb hr (nr_b (by decide)) (fun tt_ ht_ hW_ => ⟨iI 0, rfl, (congrArg iI hfin), ht_⟩) (fun q h => by cases h) dX1_isScope_23
      · refine lv_iconst (v := iI 1) hx hb dX1_isScope_18 rfl ?_
        refine lv_goto (tgt := 23) hx hb dX1_isScope_19 (by decide) ?_
        have hfin : 1 = b2 (decide (v = 115 ∨ v = 116 ∨ v = 101)) := by
          first | exact (b2_pos (by omega)).symm | exact (b2_neg (by omega)).symm | rfl
        exact W.zret (v := iI 1) hx hb hr (nr_b (by decide)) (fun tt_ ht_ hW_ => ⟨iI 1, rfl, (congrArg iI hfin), ht_⟩) (fun q h => by cases h) dX1_isScope_23
set_option maxHeartbeats 4000000 in
set_option maxRecDepth 100000 in
theorem mt_X1_isThread (l : Launch) (E : EE)  (v : Int) (h1 : -2147483648 ≤ v ∧ v < 2147483648) : Met l yX1_isThread (ws_ yX1_isThread cX1_isThread 1 (some .boolean)) { frames := 1, cells := 0, slots := 0, locals := 22 } (va_Pc [iv v] (PW E ([]))) (NP (b2 (decide (0 ≤ v ∧ v ≤ 3)))) 0 0 (fun _ => False) := by
  refine Met.ofW (cc := cX1_isThread) (maxL := 1) (ret := (some .boolean)) (by decide) rfl ?_
  intro p e s m args below meth c s₁ B hml hv
  obtain ⟨rfl, hP, hK⟩ := hv
  have hx := B.exec
  have hb := B.bytes
  have hr := B.returns
  have hts := atoms_spec (ws := (ws_ yX1_isThread cX1_isThread 1 (some .boolean))) B.pre
  have hts : ∀ w ∈ lw_all, w.before _ s = true := fun w h => hts w (List.mem_cons_of_mem _ h)
  have hown : s.vm.findClass RX1 = some m.cls := findClass_of_methodNamed B.named
  have hlocks := B.notSynchronized
  have hl := lv_entry ([iv v]) (n := 1) (Nat.le_of_ble_eq_true rfl)
  rw [lg_entry_eq]
  generalize (lg_sl ([iv v]) ++ List.replicate (1 - (lg_sl ([iv v])).length) Slot.unset).toArray = ls at hl ⊢
  have hl : lv_has ls 1 [(0, iv v)] := hl
  refine lv_iload_n hx hb dX1_isThread_0 rfl (lv_at hl 0 rfl) ?_
  refine lv_iconst (v := iI 0) hx hb dX1_isThread_1 rfl ?_
  refine lv_iconst (v := iI 3) hx hb dX1_isThread_2 rfl ?_
  refine n_csi (x := b2 (decide (0 ≤ v ∧ v ≤ 3))) (va_runS (As := [iv v, iv 0, iv 3]) (rest := []) ⟨hx, hb, hml, hown, hts⟩ (mt_X1_inRange l E v 0 3 (by omega) (by omega) (by omega)) (va_cwS 3 hts (lw_S q882 q883 q94 q884) rfl rfl rfl (by decide +kernel) ⟨Nat.le_of_ble_eq_true rfl, Nat.le_of_ble_eq_true rfl⟩) (PW_S hP hK) rfl rfl hl.1 rfl (lv_room (Nat.le_of_ble_eq_true rfl)) dX1_isThread_3 ⟨Nat.le_of_ble_eq_true rfl, Nat.le_of_ble_eq_true rfl⟩) ?_
  exact W.zret (v := iI (b2 (decide (0 ≤ v ∧ v ≤ 3)))) hx hb hr (nr_b (b2_r _)) (fun tt_ ht_ hW_ => ⟨iI (b2 (decide (0 ≤ v ∧ v ≤ 3))), rfl, rfl, ht_⟩) (fun q h => by cases h) dX1_isThread_6
set_option maxHeartbeats 4000000 in
set_option maxRecDepth 100000 in
theorem mt_X1_letterOf (l : Launch) (E : EE)  (v : Int) (h1 : 0 ≤ v ∧ v < 8) : Met l yX1_letterOf (ws_ yX1_letterOf cX1_letterOf 1 (some .char)) { frames := 0, cells := 0, slots := 0, locals := 0 } (va_Pc [iv v] (PW E ([]))) (NP (97 + v)) 0 0 (fun _ => False) := by
  refine Met.ofW (cc := cX1_letterOf) (maxL := 1) (ret := (some .char)) (by decide) rfl ?_
  intro p e s m args below meth c s₁ B hml hv
  obtain ⟨rfl, hP, hK⟩ := hv
  have hx := B.exec
  have hb := B.bytes
  have hr := B.returns
  have hts := atoms_spec (ws := (ws_ yX1_letterOf cX1_letterOf 1 (some .char))) B.pre
  have hts : ∀ w ∈ lw_all, w.before _ s = true := fun w h => hts w (List.mem_cons_of_mem _ h)
  have hown : s.vm.findClass RX1 = some m.cls := findClass_of_methodNamed B.named
  have hlocks := B.notSynchronized
  have hl := lv_entry ([iv v]) (n := 1) (Nat.le_of_ble_eq_true rfl)
  rw [lg_entry_eq]
  generalize (lg_sl ([iv v]) ++ List.replicate (1 - (lg_sl ([iv v])).length) Slot.unset).toArray = ls at hl ⊢
  have hl : lv_has ls 1 [(0, iv v)] := hl
  refine lv_bipush (v := iI 97) hx hb dX1_letterOf_0 (by decide) ?_
  refine lv_iload_n hx hb dX1_letterOf_2 rfl (lv_at hl 0 rfl) ?_
  refine n_iadd hx hb dX1_letterOf_3 ?_
  refine n_i2c hx hb (by omega) dX1_letterOf_4 ?_
  exact W.zret (v := iI (97 + v)) hx hb hr (nr_c (by omega)) (fun tt_ ht_ hW_ => ⟨iI (97 + v), rfl, rfl, ht_⟩) (fun q h => by cases h) dX1_letterOf_5
set_option maxHeartbeats 4000000 in
set_option maxRecDepth 100000 in
theorem mt_X1_isIn (l : Launch) (E : EE)  (f : Int → Bool) (k : Int) (h1 : 0 ≤ k ∧ k < 8) : Met l yX1_isIn (ws_ yX1_isIn cX1_isIn 2 (some .boolean)) { frames := 0, cells := 0, slots := 0, locals := 0 } (va_Pc [iv (bsI f), iv k] (PW E ([]))) (NP (b2 (f k))) 0 0 (fun _ => False) := by
  refine Met.ofW (cc := cX1_isIn) (maxL := 2) (ret := (some .boolean)) (by decide) rfl ?_
  intro p e s m args below meth c s₁ B hml hv
  obtain ⟨rfl, hP, hK⟩ := hv
  have hx := B.exec
  have hb := B.bytes
  have hr := B.returns
  have hts := atoms_spec (ws := (ws_ yX1_isIn cX1_isIn 2 (some .boolean))) B.pre
  have hts : ∀ w ∈ lw_all, w.before _ s = true := fun w h => hts w (List.mem_cons_of_mem _ h)
  have hown : s.vm.findClass RX1 = some m.cls := findClass_of_methodNamed B.named
  have hlocks := B.notSynchronized
  have hl := lv_entry ([iv (bsI f), iv k]) (n := 2) (Nat.le_of_ble_eq_true rfl)
  rw [lg_entry_eq]
  generalize (lg_sl ([iv (bsI f), iv k]) ++ List.replicate (2 - (lg_sl ([iv (bsI f), iv k])).length) Slot.unset).toArray = ls at hl ⊢
  have hl : lv_has ls 2 [(0, iv (bsI f)), (1, iv k)] := hl
  refine lv_iload_n hx hb dX1_isIn_0 rfl (lv_at hl 0 rfl) ?_
  refine lv_iload_n hx hb dX1_isIn_1 rfl (lv_at hl 1 rfl) ?_
  have b_1 := bsI_r f
  refine n_ishr hx hb (by omega) (by omega) dX1_isIn_2 ?_
  refine lv_iconst (v := iI 1) hx hb dX1_isIn_3 rfl ?_
  refine n_iand1 hx hb dX1_isIn_4 ?_
  rw [bsI_bit f (by omega)]
  refine lv_iconst (v := iI 1) hx hb dX1_isIn_5 rfl ?_
  refine n_icmpb_ne (tgt := 13) hx hb dX1_isIn_6 (by decide) (fun c_2 => ?_) (fun c_2 => ?_)
  · refine lv_iconst (v := iI 0) hx hb dX1_isIn_13 rfl ?_
    have hfin : 0 = b2 (f k) := by
      cases hq : f k <;> simp_all [b2]
    exact W.zret (v := iI 0) hx hb hr (nr_b (by decide)) (fun tt_ ht_ hW_ => ⟨iI 0, rfl, (congrArg iI hfin), ht_⟩) (fun q h => by cases h) dX1_isIn_14
  · refine lv_iconst (v := iI 1) hx hb dX1_isIn_9 rfl ?_
    refine lv_goto (tgt := 14) hx hb dX1_isIn_10 (by decide) ?_
    have hfin : 1 = b2 (f k) := by
      cases hq : f k <;> simp_all [b2]
    exact W.zret (v := iI 1) hx hb hr (nr_b (by decide)) (fun tt_ ht_ hW_ => ⟨iI 1, rfl, (congrArg iI hfin), ht_⟩) (fun q h => by cases h) dX1_isIn_14
set_option maxHeartbeats 4000000 in
set_option maxRecDepth 100000 in
theorem mt_X3_count (l : Launch) (E : EE) (o : Nat → Nat) (sc : Nat → Int) (ar : Nat → Int → Int)  (g : Int → Int) (hbr : BR g ar) : Met l yX3_count (ws_ yX3_count cX3_count 6 (some .int)) { frames := 0, cells := 0, slots := 0, locals := 0 } (va_Pc [.ref (o 1)] (PW E (BW E o sc ar))) (NP (m_recipes g)) 0 0 (fun _ => False) := by
  refine Met.ofW (cc := cX3_count) (maxL := 6) (ret := (some .int)) (by decide) rfl ?_
  intro p e s m args below meth c s₁ B hml hv
  obtain ⟨rfl, hP, hK⟩ := hv
  have hx := B.exec
  have hb := B.bytes
  have hr := B.returns
  have hts := atoms_spec (ws := (ws_ yX3_count cX3_count 6 (some .int))) B.pre
  have hts : ∀ w ∈ lw_all, w.before _ s = true := fun w h => hts w (List.mem_cons_of_mem _ h)
  have hown : s.vm.findClass RX3 = some m.cls := findClass_of_methodNamed B.named
  have hlocks := B.notSynchronized
  have hl := lv_entry ([.ref (o 1)]) (n := 6) (Nat.le_of_ble_eq_true rfl)
  rw [lg_entry_eq]
  generalize (lg_sl ([.ref (o 1)]) ++ List.replicate (6 - (lg_sl ([.ref (o 1)])).length) Slot.unset).toArray = ls at hl ⊢
  have hl : lv_has ls 6 [(0, .ref (o 1))] := hl
  refine lv_iconst (v := iI 0) hx hb dX3_count_0 rfl ?_
  refine lv_istore_n (lv' := [(1, iv 0), (0, .ref (o 1))]) hx hb dX3_count_1 rfl hl (by decide) rfl (fun ls hl => ?_)
  refine lv_aload_n hx hb dX3_count_2 rfl (lv_at hl 1 rfl) ?_
  refine va_get (D := E.1) (ci := 3) (v := .ref (o 2)) (C := RX3) (T := TX3) (N := 7) hx hb hts in_X3 hown hK.1 hP 0 rfl rfl 0 (by decide) (hts _ q152) (fun _ h9 => h9) rfl dX3_count_3 ?_
  refine lv_astore_n (lv' := [(2, .ref (o 2)), (1, iv 0), (0, .ref (o 1))]) hx hb dX3_count_6 rfl hl (by decide) rfl (fun ls hl => ?_)
  refine lv_aload_n hx hb dX3_count_7 rfl (lv_at hl 0 rfl) ?_
  refine va_alen (v := iI 8) hx hb hK.1 hP 1 1 rfl rfl rfl dX3_count_8 ?_
  refine lv_istore_n (lv' := [(3, iv 8), (2, .ref (o 2)), (1, iv 0), (0, .ref (o 1))]) hx hb dX3_count_9 rfl hl (by decide) rfl (fun ls hl => ?_)
  refine lv_iconst (v := iI 0) hx hb dX3_count_10 rfl ?_
  refine lv_istore (lv' := [(4, iv 0), (3, iv 8), (2, .ref (o 2)), (1, iv 0), (0, .ref (o 1))]) hx hb dX3_count_11 hl (by decide) rfl (fun ls hl => ?_)
  have l13 : ∀ (fu : Nat) (x1 : Int) (x4 : Int), (0 ≤ x4 ∧ x4 ≤ 8) → (x1 = sumI (fun k => b2 (m_has g k)) x4) → (8 - x4 < (fu : Int)) → ∀ ls : Array Slot, lv_has ls 6 [(4, iv x4), (3, iv 8), (2, .ref (o 2)), (1, iv x1), (0, .ref (o 1))] → W p l e (headSpec (ws_ yX3_count cX3_count 6 (some .int)) { frames := 0, cells := 0, slots := 0, locals := 0 }).room s m ([.ref (o 1)] : List Value).toArray below meth c s.heap [] 0 0 (MQ below (NP (m_recipes g)) ([.ref (o 1)] : List Value).toArray s 0 0 (fun _ => False)) (F0 m 13 ls []) := by
    intro fu
    induction fu with
    | zero =>
      intro x1 x4 il13_0 il13_1 hm
      exfalso; omega
    | succ fu ih =>
      intro x1 x4 il13_0 il13_1 hm ls hl
      have ihl13 := ih
      refine lv_iload hx hb dX3_count_13 (lv_at hl 0 rfl) ?_
      refine lv_iload_n hx hb dX3_count_15 rfl (lv_at hl 1 rfl) ?_
      refine n_icmp_ge (tgt := 44) hx hb dX3_count_16 (by decide) (by omega) (by omega) (fun c_1 => ?_) (fun c_1 => ?_)
      · refine lv_iload_n hx hb dX3_count_44 rfl (lv_at hl 3 rfl) ?_
        have hfin : x1 = m_recipes g := by
          obtain rfl : x4 = 8 := by omega
          exact il13_1
        exact W.iret (v := iI x1) hx hb hr (fun tt_ ht_ hW_ => ⟨iI x1, rfl, (congrArg iI hfin), ht_⟩) (fun q h => by cases h) dX3_count_45
      · refine lv_aload_n hx hb dX3_count_19 rfl (lv_at hl 2 rfl) ?_
        refine lv_iload hx hb dX3_count_20 (lv_at hl 0 rfl) ?_
        refine n_zald (f := ar 2) hx hb hK.1 hP 1 1 rfl rfl (by omega) (by decide) dX3_count_22 ?_
        rw [hbr.has (t := x4) (by omega)]
        refine lv_istore (lv' := [(5, iv (b2 (m_has g x4))), (4, iv x4), (3, iv 8), (2, .ref (o 2)), (1, iv x1), (0, .ref (o 1))]) hx hb dX3_count_23 hl (by decide) rfl (fun ls hl => ?_)
        refine lv_iload_n hx hb dX3_count_25 rfl (lv_at hl 4 rfl) ?_
        refine lv_iload hx hb dX3_count_26 (lv_at hl 0 rfl) ?_
        refine n_ifb_eq (tgt := 35) hx hb dX3_count_28 (by decide) (fun c_2 => ?_) (fun c_2 => ?_)
        · refine lv_iconst (v := iI 0) hx hb dX3_count_35 rfl ?_
          refine n_iadd hx hb dX3_count_36 ?_
          refine lv_istore_n (lv' := [(1, iv (x1 + 0)), (5, iv (b2 (m_has g x4))), (4, iv x4), (3, iv 8), (2, .ref (o 2)), (0, .ref (o 1))]) hx hb dX3_count_37 rfl hl (by decide) rfl (fun ls hl => ?_)
          refine lv_iinc (v := iI (x4 + 1)) (lv' := [(4, iv (x4 + 1)), (1, iv (x1 + 0)), (5, iv (b2 (m_has g x4))), (3, iv 8), (2, .ref (o 2)), (0, .ref (o 1))]) hx hb dX3_count_38 hl (k := 2) rfl (iI_add _ _) (by decide) rfl (fun ls hl => ?_)
          refine lv_goto (tgt := 13) hx hb dX3_count_41 (by decide) ?_
          exact ihl13 (x1 + 0) (x4 + 1) (by first | omega | rfl) (by rw [sumI_s (by omega)]; simp only [*, b2_t, b2_f]) (by omega) ls (lv_sub hl [0, 3, 4, 1, 5] rfl)
        · refine lv_iconst (v := iI 1) hx hb dX3_count_31 rfl ?_
          refine lv_goto (tgt := 36) hx hb dX3_count_32 (by decide) ?_
          refine n_iadd hx hb dX3_count_36 ?_
          refine lv_istore_n (lv' := [(1, iv (x1 + 1)), (5, iv (b2 (m_has g x4))), (4, iv x4), (3, iv 8), (2, .ref (o 2)), (0, .ref (o 1))]) hx hb dX3_count_37 rfl hl (by decide) rfl (fun ls hl => ?_)
          refine lv_iinc (v := iI (x4 + 1)) (lv' := [(4, iv (x4 + 1)), (1, iv (x1 + 1)), (5, iv (b2 (m_has g x4))), (3, iv 8), (2, .ref (o 2)), (0, .ref (o 1))]) hx hb dX3_count_38 hl (k := 2) rfl (iI_add _ _) (by decide) rfl (fun ls hl => ?_)
          refine lv_goto (tgt := 13) hx hb dX3_count_41 (by decide) ?_
          exact ihl13 (x1 + 1) (x4 + 1) (by first | omega | rfl) (by rw [sumI_s (by omega)]; simp only [*, b2_t, b2_f]) (by omega) ls (lv_sub hl [0, 3, 4, 1, 5] rfl)
  exact l13 9 0 0 (by first | omega | rfl | trivial) (by rfl) (by omega) ls hl
set_option maxHeartbeats 4000000 in
set_option maxRecDepth 100000 in
theorem mt_X3_countReplaced (l : Launch) (E : EE) (o : Nat → Nat) (sc : Nat → Int) (ar : Nat → Int → Int)  (g : Int → Int) (hbr : BR g ar) (hsw : SwOK g) : Met l yX3_countReplaced (ws_ yX3_countReplaced cX3_countReplaced 6 (some .int)) { frames := 0, cells := 0, slots := 0, locals := 0 } (va_Pc [.ref (o 1)] (PW E (BW E o sc ar))) (NP (m_swaps g)) 0 0 (fun _ => False) := by
  refine Met.ofW (cc := cX3_countReplaced) (maxL := 6) (ret := (some .int)) (by decide) rfl ?_
  intro p e s m args below meth c s₁ B hml hv
  obtain ⟨rfl, hP, hK⟩ := hv
  have hx := B.exec
  have hb := B.bytes
  have hr := B.returns
  have hts := atoms_spec (ws := (ws_ yX3_countReplaced cX3_countReplaced 6 (some .int))) B.pre
  have hts : ∀ w ∈ lw_all, w.before _ s = true := fun w h => hts w (List.mem_cons_of_mem _ h)
  have hown : s.vm.findClass RX3 = some m.cls := findClass_of_methodNamed B.named
  have hlocks := B.notSynchronized
  have hl := lv_entry ([.ref (o 1)]) (n := 6) (Nat.le_of_ble_eq_true rfl)
  rw [lg_entry_eq]
  generalize (lg_sl ([.ref (o 1)]) ++ List.replicate (6 - (lg_sl ([.ref (o 1)])).length) Slot.unset).toArray = ls at hl ⊢
  have hl : lv_has ls 6 [(0, .ref (o 1))] := hl
  refine lv_iconst (v := iI 0) hx hb dX3_countReplaced_0 rfl ?_
  refine lv_istore_n (lv' := [(1, iv 0), (0, .ref (o 1))]) hx hb dX3_countReplaced_1 rfl hl (by decide) rfl (fun ls hl => ?_)
  refine lv_aload_n hx hb dX3_countReplaced_2 rfl (lv_at hl 1 rfl) ?_
  refine va_get (D := E.1) (ci := 3) (v := .ref (o 8)) (C := RX3) (T := TX3) (N := 7) hx hb hts in_X3 hown hK.1 hP 0 rfl rfl 6 (by decide) (hts _ q168) (fun _ h9 => h9) rfl dX3_countReplaced_3 ?_
  refine lv_astore_n (lv' := [(2, .ref (o 8)), (1, iv 0), (0, .ref (o 1))]) hx hb dX3_countReplaced_6 rfl hl (by decide) rfl (fun ls hl => ?_)
  refine lv_aload_n hx hb dX3_countReplaced_7 rfl (lv_at hl 0 rfl) ?_
  refine va_alen (v := iI 8) hx hb hK.1 hP 7 0 rfl rfl rfl dX3_countReplaced_8 ?_
  refine lv_istore_n (lv' := [(3, iv 8), (2, .ref (o 8)), (1, iv 0), (0, .ref (o 1))]) hx hb dX3_countReplaced_9 rfl hl (by decide) rfl (fun ls hl => ?_)
  refine lv_iconst (v := iI 0) hx hb dX3_countReplaced_10 rfl ?_
  refine lv_istore (lv' := [(4, iv 0), (3, iv 8), (2, .ref (o 8)), (1, iv 0), (0, .ref (o 1))]) hx hb dX3_countReplaced_11 hl (by decide) rfl (fun ls hl => ?_)
  have l13 : ∀ (fu : Nat) (x1 : Int) (x4 : Int), (0 ≤ x4 ∧ x4 ≤ 8) → (x1 = sumI (fun k => b2 (decide (0 < m_of g k 6))) x4) → (8 - x4 < (fu : Int)) → ∀ ls : Array Slot, lv_has ls 6 [(4, iv x4), (3, iv 8), (2, .ref (o 8)), (1, iv x1), (0, .ref (o 1))] → W p l e (headSpec (ws_ yX3_countReplaced cX3_countReplaced 6 (some .int)) { frames := 0, cells := 0, slots := 0, locals := 0 }).room s m ([.ref (o 1)] : List Value).toArray below meth c s.heap [] 0 0 (MQ below (NP (m_swaps g)) ([.ref (o 1)] : List Value).toArray s 0 0 (fun _ => False)) (F0 m 13 ls []) := by
    intro fu
    induction fu with
    | zero =>
      intro x1 x4 il13_0 il13_1 hm
      exfalso; omega
    | succ fu ih =>
      intro x1 x4 il13_0 il13_1 hm ls hl
      have ihl13 := ih
      refine lv_iload hx hb dX3_countReplaced_13 (lv_at hl 0 rfl) ?_
      refine lv_iload_n hx hb dX3_countReplaced_15 rfl (lv_at hl 1 rfl) ?_
      refine n_icmp_ge (tgt := 45) hx hb dX3_countReplaced_16 (by decide) (by omega) (by omega) (fun c_1 => ?_) (fun c_1 => ?_)
      · refine lv_iload_n hx hb dX3_countReplaced_45 rfl (lv_at hl 3 rfl) ?_
        have hfin : x1 = m_swaps g := by
          obtain rfl : x4 = 8 := by omega
          exact il13_1
        exact W.iret (v := iI x1) hx hb hr (fun tt_ ht_ hW_ => ⟨iI x1, rfl, (congrArg iI hfin), ht_⟩) (fun q h => by cases h) dX3_countReplaced_46
      · refine lv_aload_n hx hb dX3_countReplaced_19 rfl (lv_at hl 2 rfl) ?_
        refine lv_iload hx hb dX3_countReplaced_20 (lv_at hl 0 rfl) ?_
        refine n_iald (f := ar 8) hx hb hK.1 hP 7 0 rfl rfl (by omega) (by decide) dX3_countReplaced_22 ?_
        rw [hbr.rep (t := x4) (by omega)]
        refine lv_istore (lv' := [(5, iv (m_of g x4 6 - 1)), (4, iv x4), (3, iv 8), (2, .ref (o 8)), (1, iv x1), (0, .ref (o 1))]) hx hb dX3_countReplaced_23 hl (by decide) rfl (fun ls hl => ?_)
        refine lv_iload_n hx hb dX3_countReplaced_25 rfl (lv_at hl 4 rfl) ?_
        refine lv_iload hx hb dX3_countReplaced_26 (lv_at hl 0 rfl) ?_
        refine lv_iconst (v := iI (-1)) hx hb dX3_countReplaced_28 rfl ?_
        have b_2 := hsw x4 (by omega) (by omega)
        refine n_icmp_ne (tgt := 36) hx hb dX3_countReplaced_29 (by decide) (by omega) (by omega) (fun c_3 => ?_) (fun c_3 => ?_)
        · refine lv_iconst (v := iI 1) hx hb dX3_countReplaced_36 rfl ?_
          refine n_iadd hx hb dX3_countReplaced_37 ?_
          refine lv_istore_n (lv' := [(1, iv (x1 + 1)), (5, iv (m_of g x4 6 - 1)), (4, iv x4), (3, iv 8), (2, .ref (o 8)), (0, .ref (o 1))]) hx hb dX3_countReplaced_38 rfl hl (by decide) rfl (fun ls hl => ?_)
          refine lv_iinc (v := iI (x4 + 1)) (lv' := [(4, iv (x4 + 1)), (1, iv (x1 + 1)), (5, iv (m_of g x4 6 - 1)), (3, iv 8), (2, .ref (o 8)), (0, .ref (o 1))]) hx hb dX3_countReplaced_39 hl (k := 2) rfl (iI_add _ _) (by decide) rfl (fun ls hl => ?_)
          refine lv_goto (tgt := 13) hx hb dX3_countReplaced_42 (by decide) ?_
          exact ihl13 (x1 + 1) (x4 + 1) (by first | omega | rfl) (by rw [sumI_s (by omega), ← il13_1]; first | rw [b2_pos (by omega)] | rw [b2_neg (by omega)]) (by omega) ls (lv_sub hl [0, 3, 4, 1, 5] rfl)
        · refine lv_iconst (v := iI 0) hx hb dX3_countReplaced_32 rfl ?_
          refine lv_goto (tgt := 37) hx hb dX3_countReplaced_33 (by decide) ?_
          refine n_iadd hx hb dX3_countReplaced_37 ?_
          refine lv_istore_n (lv' := [(1, iv (x1 + 0)), (5, iv (m_of g x4 6 - 1)), (4, iv x4), (3, iv 8), (2, .ref (o 8)), (0, .ref (o 1))]) hx hb dX3_countReplaced_38 rfl hl (by decide) rfl (fun ls hl => ?_)
          refine lv_iinc (v := iI (x4 + 1)) (lv' := [(4, iv (x4 + 1)), (1, iv (x1 + 0)), (5, iv (m_of g x4 6 - 1)), (3, iv 8), (2, .ref (o 8)), (0, .ref (o 1))]) hx hb dX3_countReplaced_39 hl (k := 2) rfl (iI_add _ _) (by decide) rfl (fun ls hl => ?_)
          refine lv_goto (tgt := 13) hx hb dX3_countReplaced_42 (by decide) ?_
          exact ihl13 (x1 + 0) (x4 + 1) (by first | omega | rfl) (by rw [sumI_s (by omega), ← il13_1]; first | rw [b2_pos (by omega)] | rw [b2_neg (by omega)]) (by omega) ls (lv_sub hl [0, 3, 4, 1, 5] rfl)
  exact l13 9 0 0 (by first | omega | rfl | trivial) (by rfl) (by omega) ls hl
set_option maxHeartbeats 4000000 in
set_option maxRecDepth 100000 in
theorem mt_X3_sumOfMinutes (l : Launch) (E : EE) (o : Nat → Nat) (sc : Nat → Int) (ar : Nat → Int → Int)  (g : Int → Int) (hbr : BR g ar) (hhm : HM g) (htm : TM g) : Met l yX3_sumOfMinutes (ws_ yX3_sumOfMinutes cX3_sumOfMinutes 3 (some .int)) { frames := 0, cells := 0, slots := 0, locals := 0 } (va_Pc [.ref (o 1)] (PW E (BW E o sc ar))) (NP (sumI (fun k => m_of g k 1) 8)) 0 0 (fun _ => False) := by
  refine Met.ofW (cc := cX3_sumOfMinutes) (maxL := 3) (ret := (some .int)) (by decide) rfl ?_
  intro p e s m args below meth c s₁ B hml hv
  obtain ⟨rfl, hP, hK⟩ := hv
  have hx := B.exec
  have hb := B.bytes
  have hr := B.returns
  have hts := atoms_spec (ws := (ws_ yX3_sumOfMinutes cX3_sumOfMinutes 3 (some .int))) B.pre
  have hts : ∀ w ∈ lw_all, w.before _ s = true := fun w h => hts w (List.mem_cons_of_mem _ h)
  have hown : s.vm.findClass RX3 = some m.cls := findClass_of_methodNamed B.named
  have hlocks := B.notSynchronized
  have hl := lv_entry ([.ref (o 1)]) (n := 3) (Nat.le_of_ble_eq_true rfl)
  rw [lg_entry_eq]
  generalize (lg_sl ([.ref (o 1)]) ++ List.replicate (3 - (lg_sl ([.ref (o 1)])).length) Slot.unset).toArray = ls at hl ⊢
  have hl : lv_has ls 3 [(0, .ref (o 1))] := hl
  refine lv_iconst (v := iI 0) hx hb dX3_sumOfMinutes_0 rfl ?_
  refine lv_istore_n (lv' := [(1, iv 0), (0, .ref (o 1))]) hx hb dX3_sumOfMinutes_1 rfl hl (by decide) rfl (fun ls hl => ?_)
  refine lv_iconst (v := iI 0) hx hb dX3_sumOfMinutes_2 rfl ?_
  refine lv_istore_n (lv' := [(2, iv 0), (1, iv 0), (0, .ref (o 1))]) hx hb dX3_sumOfMinutes_3 rfl hl (by decide) rfl (fun ls hl => ?_)
  have l4 : ∀ (fu : Nat) (x1 : Int) (x2 : Int), (0 ≤ x2 ∧ x2 ≤ 8) → (x1 = sumI (fun k => m_of g k 1) x2) → (8 - x2 < (fu : Int)) → ∀ ls : Array Slot, lv_has ls 3 [(2, iv x2), (1, iv x1), (0, .ref (o 1))] → W p l e (headSpec (ws_ yX3_sumOfMinutes cX3_sumOfMinutes 3 (some .int)) { frames := 0, cells := 0, slots := 0, locals := 0 }).room s m ([.ref (o 1)] : List Value).toArray below meth c s.heap [] 0 0 (MQ below (NP (sumI (fun k => m_of g k 1) 8)) ([.ref (o 1)] : List Value).toArray s 0 0 (fun _ => False)) (F0 m 4 ls []) := by
    intro fu
    induction fu with
    | zero =>
      intro x1 x2 il4_0 il4_1 hm
      exfalso; omega
    | succ fu ih =>
      intro x1 x2 il4_0 il4_1 hm ls hl
      have ihl4 := ih
      refine lv_iload_n hx hb dX3_sumOfMinutes_4 rfl (lv_at hl 0 rfl) ?_
      refine lv_bipush (v := iI 8) hx hb dX3_sumOfMinutes_5 (by decide) ?_
      refine n_icmp_ge (tgt := 38) hx hb dX3_sumOfMinutes_7 (by decide) (by omega) (by omega) (fun c_1 => ?_) (fun c_1 => ?_)
      · refine lv_iload_n hx hb dX3_sumOfMinutes_38 rfl (lv_at hl 1 rfl) ?_
        have hfin : x1 = sumI (fun k => m_of g k 1) 8 := by
          obtain rfl : x2 = 8 := by omega
          exact il4_1
        exact W.iret (v := iI x1) hx hb hr (fun tt_ ht_ hW_ => ⟨iI x1, rfl, (congrArg iI hfin), ht_⟩) (fun q h => by cases h) dX3_sumOfMinutes_39
      · refine lv_iload_n hx hb dX3_sumOfMinutes_10 rfl (lv_at hl 1 rfl) ?_
        refine lv_aload_n hx hb dX3_sumOfMinutes_11 rfl (lv_at hl 2 rfl) ?_
        refine va_get (D := E.1) (ci := 3) (v := .ref (o 2)) (C := RX3) (T := TX3) (N := 7) hx hb hts in_X3 hown hK.1 hP 0 rfl rfl 0 (by decide) (hts _ q152) (fun _ h9 => h9) rfl dX3_sumOfMinutes_12 ?_
        refine lv_iload_n hx hb dX3_sumOfMinutes_15 rfl (lv_at hl 0 rfl) ?_
        refine n_zald (f := ar 2) hx hb hK.1 hP 1 1 rfl rfl (by omega) (by decide) dX3_sumOfMinutes_16 ?_
        rw [hbr.has (t := x2) (by omega)]
        refine n_ifb_eq (tgt := 29) hx hb dX3_sumOfMinutes_17 (by decide) (fun c_2 => ?_) (fun c_2 => ?_)
        · refine lv_iconst (v := iI 0) hx hb dX3_sumOfMinutes_29 rfl ?_
          refine n_iadd hx hb dX3_sumOfMinutes_30 ?_
          refine lv_istore_n (lv' := [(1, iv (x1 + 0)), (2, iv x2), (0, .ref (o 1))]) hx hb dX3_sumOfMinutes_31 rfl hl (by decide) rfl (fun ls hl => ?_)
          refine lv_iinc (v := iI (x2 + 1)) (lv' := [(2, iv (x2 + 1)), (1, iv (x1 + 0)), (0, .ref (o 1))]) hx hb dX3_sumOfMinutes_32 hl (k := 1) rfl (iI_add _ _) (by decide) rfl (fun ls hl => ?_)
          refine lv_goto (tgt := 4) hx hb dX3_sumOfMinutes_35 (by decide) ?_
          exact ihl4 (x1 + 0) (x2 + 1) (by first | omega | rfl) (by rw [sumI_s (by omega), ← il4_1]; all_goals rw [hhm x2 (by omega) (by omega) (m_has_0 (by assumption))]) (by omega) ls (lv_sub hl [0, 1, 2] rfl)
        · refine lv_aload_n hx hb dX3_sumOfMinutes_20 rfl (lv_at hl 2 rfl) ?_
          refine va_get (D := E.1) (ci := 3) (v := .ref (o 4)) (C := RX3) (T := TX3) (N := 7) hx hb hts in_X3 hown hK.1 hP 0 rfl rfl 2 (by decide) (hts _ q160) (fun _ h9 => h9) rfl dX3_sumOfMinutes_21 ?_
          refine lv_iload_n hx hb dX3_sumOfMinutes_24 rfl (lv_at hl 0 rfl) ?_
          refine n_iald (f := ar 4) hx hb hK.1 hP 3 0 rfl rfl (by omega) (by decide) dX3_sumOfMinutes_25 ?_
          rw [hbr.mns (t := x2) (by omega) (by first | assumption | exact HN_pos hhn (t := x2) (by omega) (by omega))]
          refine lv_goto (tgt := 30) hx hb dX3_sumOfMinutes_26 (by decide) ?_
          refine n_iadd hx hb dX3_sumOfMinutes_30 ?_
          refine lv_istore_n (lv' := [(1, iv (x1 + (m_of g x2 1))), (2, iv x2), (0, .ref (o 1))]) hx hb dX3_sumOfMinutes_31 rfl hl (by decide) rfl (fun ls hl => ?_)
          refine lv_iinc (v := iI (x2 + 1)) (lv' := [(2, iv (x2 + 1)), (1, iv (x1 + (m_of g x2 1))), (0, .ref (o 1))]) hx hb dX3_sumOfMinutes_32 hl (k := 1) rfl (iI_add _ _) (by decide) rfl (fun ls hl => ?_)
          refine lv_goto (tgt := 4) hx hb dX3_sumOfMinutes_35 (by decide) ?_
          exact ihl4 (x1 + (m_of g x2 1)) (x2 + 1) (by first | omega | rfl) (by rw [sumI_s (by omega), ← il4_1]; all_goals rw [hhm x2 (by omega) (by omega) (m_has_0 (by assumption))]) (by omega) ls (lv_sub hl [0, 1, 2] rfl)
  exact l4 9 0 0 (by first | omega | rfl | trivial) (by rfl) (by omega) ls hl
set_option maxHeartbeats 4000000 in
set_option maxRecDepth 100000 in
theorem mt_X3_need (l : Launch) (E : EE) (o : Nat → Nat) (sc : Nat → Int) (ar : Nat → Int → Int) (t : Int) (k : Int) (g : Int → Int) (ht : 0 ≤ t ∧ t < 8) (hbr : BR g ar) (hh : m_has g t = true) (hk : 0 ≤ k ∧ k < m_of g t 2) (htw : TW g) : Met l yX3_need (ws_ yX3_need cX3_need 3 (some .int)) { frames := 0, cells := 0, slots := 0, locals := 0 } (va_Pc [.ref (o 1), iv t, iv k] (PW E (BW E o sc ar))) (NP (m_need g t k)) 0 0 (fun _ => False) := by
  refine Met.ofW (cc := cX3_need) (maxL := 3) (ret := (some .int)) (by decide) rfl ?_
  intro p e s m args below meth c s₁ B hml hv
  obtain ⟨rfl, hP, hK⟩ := hv
  have hx := B.exec
  have hb := B.bytes
  have hr := B.returns
  have hts := atoms_spec (ws := (ws_ yX3_need cX3_need 3 (some .int))) B.pre
  have hts : ∀ w ∈ lw_all, w.before _ s = true := fun w h => hts w (List.mem_cons_of_mem _ h)
  have hown : s.vm.findClass RX3 = some m.cls := findClass_of_methodNamed B.named
  have hlocks := B.notSynchronized
  have hl := lv_entry ([.ref (o 1), iv t, iv k]) (n := 3) (Nat.le_of_ble_eq_true rfl)
  rw [lg_entry_eq]
  generalize (lg_sl ([.ref (o 1), iv t, iv k]) ++ List.replicate (3 - (lg_sl ([.ref (o 1), iv t, iv k])).length) Slot.unset).toArray = ls at hl ⊢
  have hl : lv_has ls 3 [(0, .ref (o 1)), (1, iv t), (2, iv k)] := hl
  have hq := htw t ht.1 ht.2
  refine lv_aload_n hx hb dX3_need_0 rfl (lv_at hl 0 rfl) ?_
  refine va_get (D := E.1) (ci := 3) (v := .ref (o 6)) (C := RX3) (T := TX3) (N := 7) hx hb hts in_X3 hown hK.1 hP 0 rfl rfl 4 (by decide) (hts _ q166) (fun _ h9 => h9) rfl dX3_need_1 ?_
  refine lv_iconst (v := iI 3) hx hb dX3_need_4 rfl ?_
  refine lv_iload_n hx hb dX3_need_5 rfl (lv_at hl 1 rfl) ?_
  refine n_imul hx hb dX3_need_6 ?_
  refine lv_iload_n hx hb dX3_need_7 rfl (lv_at hl 2 rfl) ?_
  refine n_iadd hx hb dX3_need_8 ?_
  refine n_iald (f := ar 6) hx hb hK.1 hP 5 0 rfl rfl (by omega) (by decide) dX3_need_9 ?_
  rw [hbr.nd (t := t) (k := k) (by omega) hh (by omega)]
  exact W.iret (v := iI (m_need g t k)) hx hb hr (fun tt_ ht_ hW_ => ⟨iI (m_need g t k), rfl, rfl, ht_⟩) (fun q h => by cases h) dX3_need_10
set_option maxHeartbeats 4000000 in
set_option maxRecDepth 100000 in
theorem mt_X3_isLazy (l : Launch) (E : EE) (o : Nat → Nat) (sc : Nat → Int) (ar : Nat → Int → Int) (t : Int) (k : Int) (g : Int → Int) (ht : 0 ≤ t ∧ t < 8) (hbr : BR g ar) (hh : m_has g t = true) (hk : 0 ≤ k ∧ k < m_of g t 2) (htw : TW g) : Met l yX3_isLazy (ws_ yX3_isLazy cX3_isLazy 3 (some .boolean)) { frames := 0, cells := 0, slots := 0, locals := 0 } (va_Pc [.ref (o 1), iv t, iv k] (PW E (BW E o sc ar))) (NP (b2 (!(m_dir g t k)))) 0 0 (fun _ => False) := by
  refine Met.ofW (cc := cX3_isLazy) (maxL := 3) (ret := (some .boolean)) (by decide) rfl ?_
  intro p e s m args below meth c s₁ B hml hv
  obtain ⟨rfl, hP, hK⟩ := hv
  have hx := B.exec
  have hb := B.bytes
  have hr := B.returns
  have hts := atoms_spec (ws := (ws_ yX3_isLazy cX3_isLazy 3 (some .boolean))) B.pre
  have hts : ∀ w ∈ lw_all, w.before _ s = true := fun w h => hts w (List.mem_cons_of_mem _ h)
  have hown : s.vm.findClass RX3 = some m.cls := findClass_of_methodNamed B.named
  have hlocks := B.notSynchronized
  have hl := lv_entry ([.ref (o 1), iv t, iv k]) (n := 3) (Nat.le_of_ble_eq_true rfl)
  rw [lg_entry_eq]
  generalize (lg_sl ([.ref (o 1), iv t, iv k]) ++ List.replicate (3 - (lg_sl ([.ref (o 1), iv t, iv k])).length) Slot.unset).toArray = ls at hl ⊢
  have hl : lv_has ls 3 [(0, .ref (o 1)), (1, iv t), (2, iv k)] := hl
  have hq := htw t ht.1 ht.2
  refine lv_aload_n hx hb dX3_isLazy_0 rfl (lv_at hl 0 rfl) ?_
  refine va_get (D := E.1) (ci := 3) (v := .ref (o 7)) (C := RX3) (T := TX3) (N := 7) hx hb hts in_X3 hown hK.1 hP 0 rfl rfl 5 (by decide) (hts _ q167) (fun _ h9 => h9) rfl dX3_isLazy_1 ?_
  refine lv_iconst (v := iI 3) hx hb dX3_isLazy_4 rfl ?_
  refine lv_iload_n hx hb dX3_isLazy_5 rfl (lv_at hl 1 rfl) ?_
  refine n_imul hx hb dX3_isLazy_6 ?_
  refine lv_iload_n hx hb dX3_isLazy_7 rfl (lv_at hl 2 rfl) ?_
  refine n_iadd hx hb dX3_isLazy_8 ?_
  refine n_zald (f := ar 7) hx hb hK.1 hP 6 1 rfl rfl (by omega) (by decide) dX3_isLazy_9 ?_
  rw [hbr.lz (t := t) (k := k) (by omega) hh (by omega)]
  exact W.zret (v := iI (b2 (!(m_dir g t k)))) hx hb hr (nr_b (b2_r _)) (fun tt_ ht_ hW_ => ⟨iI (b2 (!(m_dir g t k))), rfl, rfl, ht_⟩) (fun q h => by cases h) dX3_isLazy_10
set_option maxHeartbeats 4000000 in
set_option maxRecDepth 100000 in
theorem mt_X3_needCount (l : Launch) (E : EE) (o : Nat → Nat) (sc : Nat → Int) (ar : Nat → Int → Int) (t : Int) (g : Int → Int) (ht : 0 ≤ t ∧ t < 8) (hbr : BR g ar) (hhn : HN g) (htw : TW g) : Met l yX3_needCount (ws_ yX3_needCount cX3_needCount 2 (some .int)) { frames := 0, cells := 0, slots := 0, locals := 0 } (va_Pc [.ref (o 1), iv t] (PW E (BW E o sc ar))) (NP (m_of g t 2)) 0 0 (fun _ => False) := by
  refine Met.ofW (cc := cX3_needCount) (maxL := 2) (ret := (some .int)) (by decide) rfl ?_
  intro p e s m args below meth c s₁ B hml hv
  obtain ⟨rfl, hP, hK⟩ := hv
  have hx := B.exec
  have hb := B.bytes
  have hr := B.returns
  have hts := atoms_spec (ws := (ws_ yX3_needCount cX3_needCount 2 (some .int))) B.pre
  have hts : ∀ w ∈ lw_all, w.before _ s = true := fun w h => hts w (List.mem_cons_of_mem _ h)
  have hown : s.vm.findClass RX3 = some m.cls := findClass_of_methodNamed B.named
  have hlocks := B.notSynchronized
  have hl := lv_entry ([.ref (o 1), iv t]) (n := 2) (Nat.le_of_ble_eq_true rfl)
  rw [lg_entry_eq]
  generalize (lg_sl ([.ref (o 1), iv t]) ++ List.replicate (2 - (lg_sl ([.ref (o 1), iv t])).length) Slot.unset).toArray = ls at hl ⊢
  have hl : lv_has ls 2 [(0, .ref (o 1)), (1, iv t)] := hl
  refine lv_aload_n hx hb dX3_needCount_0 rfl (lv_at hl 0 rfl) ?_
  refine va_get (D := E.1) (ci := 3) (v := .ref (o 2)) (C := RX3) (T := TX3) (N := 7) hx hb hts in_X3 hown hK.1 hP 0 rfl rfl 0 (by decide) (hts _ q152) (fun _ h9 => h9) rfl dX3_needCount_1 ?_
  refine lv_iload_n hx hb dX3_needCount_4 rfl (lv_at hl 1 rfl) ?_
  refine n_zald (f := ar 2) hx hb hK.1 hP 1 1 rfl rfl (by omega) (by decide) dX3_needCount_5 ?_
  rw [hbr.has (t := t) (by omega)]
  refine n_ifb_eq (tgt := 18) hx hb dX3_needCount_6 (by decide) (fun c_1 => ?_) (fun c_1 => ?_)
  · refine lv_iconst (v := iI 0) hx hb dX3_needCount_18 rfl ?_
    have hfin : 0 = m_of g t 2 := by
      first | rfl | exact (HN_not hhn (by omega) (by assumption)).symm
    exact W.iret (v := iI 0) hx hb hr (fun tt_ ht_ hW_ => ⟨iI 0, rfl, (congrArg iI hfin), ht_⟩) (fun q h => by cases h) dX3_needCount_19
  · refine lv_aload_n hx hb dX3_needCount_9 rfl (lv_at hl 0 rfl) ?_
    refine va_get (D := E.1) (ci := 3) (v := .ref (o 5)) (C := RX3) (T := TX3) (N := 7) hx hb hts in_X3 hown hK.1 hP 0 rfl rfl 3 (by decide) (hts _ q162) (fun _ h9 => h9) rfl dX3_needCount_10 ?_
    refine lv_iload_n hx hb dX3_needCount_13 rfl (lv_at hl 1 rfl) ?_
    refine n_iald (f := ar 5) hx hb hK.1 hP 4 0 rfl rfl (by omega) (by decide) dX3_needCount_14 ?_
    rw [hbr.cnt (t := t) (by omega) (by first | assumption | exact HN_pos hhn (t := t) (by omega) (by omega))]
    refine lv_goto (tgt := 19) hx hb dX3_needCount_15 (by decide) ?_
    exact W.iret (v := iI (m_of g t 2)) hx hb hr (fun tt_ ht_ hW_ => ⟨iI (m_of g t 2), rfl, rfl, ht_⟩) (fun q h => by cases h) dX3_needCount_19
set_option maxHeartbeats 4000000 in
set_option maxRecDepth 100000 in
theorem mt_X3_positionOf (l : Launch) (E : EE) (o : Nat → Nat) (sc : Nat → Int) (ar : Nat → Int → Int) (t : Int) (nd : Int) (g : Int → Int) (ht : 0 ≤ t ∧ t < 8) (hn : -2147483648 ≤ nd ∧ nd < 2147483648) (hbr : BR g ar) (hhn : HN g) (htw : TW g) : Met l yX3_positionOf (ws_ yX3_positionOf cX3_positionOf 4 (some .int)) { frames := 1, cells := 0, slots := 0, locals := 22 } (va_Pc [.ref (o 1), iv t, iv nd] (PW E (BW E o sc ar))) (NP (m_place g t nd)) 0 0 (fun _ => False) := by
  refine Met.ofW (cc := cX3_positionOf) (maxL := 4) (ret := (some .int)) (by decide) rfl ?_
  intro p e s m args below meth c s₁ B hml hv
  obtain ⟨rfl, hP, hK⟩ := hv
  have hx := B.exec
  have hb := B.bytes
  have hr := B.returns
  have hts := atoms_spec (ws := (ws_ yX3_positionOf cX3_positionOf 4 (some .int))) B.pre
  have hts : ∀ w ∈ lw_all, w.before _ s = true := fun w h => hts w (List.mem_cons_of_mem _ h)
  have hown : s.vm.findClass RX3 = some m.cls := findClass_of_methodNamed B.named
  have hlocks := B.notSynchronized
  have hl := lv_entry ([.ref (o 1), iv t, iv nd]) (n := 4) (Nat.le_of_ble_eq_true rfl)
  rw [lg_entry_eq]
  generalize (lg_sl ([.ref (o 1), iv t, iv nd]) ++ List.replicate (4 - (lg_sl ([.ref (o 1), iv t, iv nd])).length) Slot.unset).toArray = ls at hl ⊢
  have hl : lv_has ls 4 [(0, .ref (o 1)), (1, iv t), (2, iv nd)] := hl
  have hnn := htw t ht.1 ht.2
  refine lv_iconst (v := iI 0) hx hb dX3_positionOf_0 rfl ?_
  refine lv_istore_n (lv' := [(3, iv 0), (0, .ref (o 1)), (1, iv t), (2, iv nd)]) hx hb dX3_positionOf_1 rfl hl (by decide) rfl (fun ls hl => ?_)
  have l2 : ∀ (fu : Nat) (x3 : Int), (0 ≤ x3 ∧ x3 ≤ m_of g t 2) → (fnd (fun k => decide (m_need g t k = nd)) x3 = -1) → (m_of g t 2 - x3 < (fu : Int)) → ∀ ls : Array Slot, lv_has ls 4 [(3, iv x3), (0, .ref (o 1)), (1, iv t), (2, iv nd)] → W p l e (headSpec (ws_ yX3_positionOf cX3_positionOf 4 (some .int)) { frames := 1, cells := 0, slots := 0, locals := 22 }).room s m ([.ref (o 1), iv t, iv nd] : List Value).toArray below meth c s.heap [] 0 0 (MQ below (NP (m_place g t nd)) ([.ref (o 1), iv t, iv nd] : List Value).toArray s 0 0 (fun _ => False)) (F0 m 2 ls []) := by
    intro fu
    induction fu with
    | zero =>
      intro x3 il2_0 il2_1 hm
      exfalso; omega
    | succ fu ih =>
      intro x3 il2_0 il2_1 hm ls hl
      have ihl2 := ih
      refine lv_iload_n hx hb dX3_positionOf_2 rfl (lv_at hl 0 rfl) ?_
      refine lv_aload_n hx hb dX3_positionOf_3 rfl (lv_at hl 1 rfl) ?_
      refine lv_iload_n hx hb dX3_positionOf_4 rfl (lv_at hl 2 rfl) ?_
      refine n_csi (x := m_of g t 2) (va_runV (As := [iv t]) (rest := [iv x3]) ⟨hx, hb, hml, hown, hts⟩ (mt_X3_needCount l E o sc ar t g (by omega) (by assumption) (by assumption) (by assumption)) (cwV 1 hts (lw_V q537 q538 q539 q96 q540) rfl rfl rfl (by decide +kernel) ⟨Nat.le_of_ble_eq_true rfl, Nat.le_of_ble_eq_true rfl⟩) (PW_V hP hK (va_recv hK.1 hP (ci := 3) (q0 := 0) rfl rfl)) rfl rfl hl.1 rfl (lv_room (Nat.le_of_ble_eq_true rfl)) dX3_positionOf_5 ⟨Nat.le_of_ble_eq_true rfl, Nat.le_of_ble_eq_true rfl⟩) ?_
      have b_1 := htw t (by omega) (by omega)
      refine n_icmp_ge (tgt := 29) hx hb dX3_positionOf_8 (by decide) (by omega) (by omega) (fun c_2 => ?_) (fun c_2 => ?_)
      · refine lv_iconst (v := iI (-1)) hx hb dX3_positionOf_29 rfl ?_
        have hfin : (-1) = m_place g t nd := by
          obtain rfl : x3 = m_of g t 2 := by omega
          exact il2_1.symm
        exact W.iret (v := iI (-1)) hx hb hr (fun tt_ ht_ hW_ => ⟨iI (-1), rfl, (congrArg iI hfin), ht_⟩) (fun q h => by cases h) dX3_positionOf_30
      · refine lv_aload_n hx hb dX3_positionOf_11 rfl (lv_at hl 1 rfl) ?_
        refine lv_iload_n hx hb dX3_positionOf_12 rfl (lv_at hl 2 rfl) ?_
        refine lv_iload_n hx hb dX3_positionOf_13 rfl (lv_at hl 0 rfl) ?_
        refine n_csi (x := m_need g t x3) (va_runV (As := [iv t, iv x3]) (rest := []) ⟨hx, hb, hml, hown, hts⟩ (mt_X3_need l E o sc ar t x3 g (by omega) (by assumption) (by first | assumption | exact HN_pos hhn (t := t) (by omega) (by omega)) (by omega) (by assumption)) (cwV 2 hts (lw_V q541 q542 q543 q96 q544) rfl rfl rfl (by decide +kernel) ⟨Nat.le_of_ble_eq_true rfl, Nat.le_of_ble_eq_true rfl⟩) (PW_V hP hK (va_recv hK.1 hP (ci := 3) (q0 := 0) rfl rfl)) rfl rfl hl.1 rfl (lv_room (Nat.le_of_ble_eq_true rfl)) dX3_positionOf_14 ⟨Nat.le_of_ble_eq_true rfl, Nat.le_of_ble_eq_true rfl⟩) ?_
        refine lv_iload_n hx hb dX3_positionOf_17 rfl (lv_at hl 3 rfl) ?_
        have b_3 := m_need_r g t x3
        refine n_icmp_ne (tgt := 23) hx hb dX3_positionOf_18 (by decide) (by omega) (by omega) (fun c_4 => ?_) (fun c_4 => ?_)
        · refine lv_iinc (v := iI (x3 + 1)) (lv' := [(3, iv (x3 + 1)), (0, .ref (o 1)), (1, iv t), (2, iv nd)]) hx hb dX3_positionOf_23 hl (k := 0) rfl (iI_add _ _) (by decide) rfl (fun ls hl => ?_)
          refine lv_goto (tgt := 2) hx hb dX3_positionOf_26 (by decide) ?_
          exact ihl2 (x3 + 1) (by first | omega | rfl) (by exact fnd_no (by omega) il2_1 (by simp [*])) (by omega) ls (lv_sub hl [0, 1, 2, 3] rfl)
        · refine lv_iload_n hx hb dX3_positionOf_21 rfl (lv_at hl 0 rfl) ?_
          have hfin : x3 = m_place g t nd := by
            exact (fnd_yes (by omega) (by omega) il2_1 (by simp [*])).symm
          exact W.iret (v := iI x3) hx hb hr (fun tt_ ht_ hW_ => ⟨iI x3, rfl, (congrArg iI hfin), ht_⟩) (fun q h => by cases h) dX3_positionOf_22
  exact l2 4 0 (by first | omega | rfl | trivial) (by rfl) (by omega) ls hl
set_option maxHeartbeats 4000000 in
set_option maxRecDepth 100000 in
theorem mt_X3_standIn (l : Launch) (E : EE) (o : Nat → Nat) (sc : Nat → Int) (ar : Nat → Int → Int) (t : Int) (g : Int → Int) (ht : 0 ≤ t ∧ t < 8) (hbr : BR g ar) (hsw : SwOK g) : Met l yX3_standIn (ws_ yX3_standIn cX3_standIn 3 (some .int)) { frames := 0, cells := 0, slots := 0, locals := 0 } (va_Pc [.ref (o 1), iv t] (PW E (BW E o sc ar))) (NP (m_stands g t)) 0 0 (fun _ => False) := by
  refine Met.ofW (cc := cX3_standIn) (maxL := 3) (ret := (some .int)) (by decide) rfl ?_
  intro p e s m args below meth c s₁ B hml hv
  obtain ⟨rfl, hP, hK⟩ := hv
  have hx := B.exec
  have hb := B.bytes
  have hr := B.returns
  have hts := atoms_spec (ws := (ws_ yX3_standIn cX3_standIn 3 (some .int))) B.pre
  have hts : ∀ w ∈ lw_all, w.before _ s = true := fun w h => hts w (List.mem_cons_of_mem _ h)
  have hown : s.vm.findClass RX3 = some m.cls := findClass_of_methodNamed B.named
  have hlocks := B.notSynchronized
  have hl := lv_entry ([.ref (o 1), iv t]) (n := 3) (Nat.le_of_ble_eq_true rfl)
  rw [lg_entry_eq]
  generalize (lg_sl ([.ref (o 1), iv t]) ++ List.replicate (3 - (lg_sl ([.ref (o 1), iv t])).length) Slot.unset).toArray = ls at hl ⊢
  have hl : lv_has ls 3 [(0, .ref (o 1)), (1, iv t)] := hl
  refine lv_iload_n hx hb dX3_standIn_0 rfl (lv_at hl 1 rfl) ?_
  refine lv_istore_n (lv' := [(2, iv t), (0, .ref (o 1)), (1, iv t)]) hx hb dX3_standIn_1 rfl hl (by decide) rfl (fun ls hl => ?_)
  have l2 : ∀ (fu : Nat) (x2 : Int) (z : Nat), (0 ≤ x2 ∧ x2 < 8) → (m_stN g z x2 = m_stands g t) → (m_of g (m_stN g z x2) 6 = 0) → ((z : Int) < (fu : Int)) → ∀ ls : Array Slot, lv_has ls 3 [(2, iv x2), (0, .ref (o 1)), (1, iv t)] → W p l e (headSpec (ws_ yX3_standIn cX3_standIn 3 (some .int)) { frames := 0, cells := 0, slots := 0, locals := 0 }).room s m ([.ref (o 1), iv t] : List Value).toArray below meth c s.heap [] 0 0 (MQ below (NP (m_stands g t)) ([.ref (o 1), iv t] : List Value).toArray s 0 0 (fun _ => False)) (F0 m 2 ls []) := by
    intro fu
    induction fu with
    | zero =>
      intro x2 z il2_0 il2_1 il2_2 hm
      omega
    | succ fu ih =>
      intro x2 z il2_0 il2_1 il2_2 hm ls hl
      have ihl2 := ih
      have hq := hsw x2 (by omega) (by omega)
      refine lv_aload_n hx hb dX3_standIn_2 rfl (lv_at hl 1 rfl) ?_
      refine va_get (D := E.1) (ci := 3) (v := .ref (o 8)) (C := RX3) (T := TX3) (N := 7) hx hb hts in_X3 hown hK.1 hP 0 rfl rfl 6 (by decide) (hts _ q168) (fun _ h9 => h9) rfl dX3_standIn_3 ?_
      refine lv_iload_n hx hb dX3_standIn_6 rfl (lv_at hl 0 rfl) ?_
      refine n_iald (f := ar 8) hx hb hK.1 hP 7 0 rfl rfl (by omega) (by decide) dX3_standIn_7 ?_
      rw [hbr.rep (t := x2) (by omega)]
      refine lv_iconst (v := iI (-1)) hx hb dX3_standIn_8 rfl ?_
      have b_1 := hsw x2 (by omega) (by omega)
      refine n_icmp_eq (tgt := 22) hx hb dX3_standIn_9 (by decide) (by omega) (by omega) (fun c_2 => ?_) (fun c_2 => ?_)
      · refine lv_iload_n hx hb dX3_standIn_22 rfl (lv_at hl 0 rfl) ?_
        have hfin : x2 = m_stands g t := by
          rw [← il2_1, m_stN_end (by omega)]
        exact W.iret (v := iI x2) hx hb hr (fun tt_ ht_ hW_ => ⟨iI x2, rfl, (congrArg iI hfin), ht_⟩) (fun q h => by cases h) dX3_standIn_23
      · refine lv_aload_n hx hb dX3_standIn_12 rfl (lv_at hl 1 rfl) ?_
        refine va_get (D := E.1) (ci := 3) (v := .ref (o 8)) (C := RX3) (T := TX3) (N := 7) hx hb hts in_X3 hown hK.1 hP 0 rfl rfl 6 (by decide) (hts _ q168) (fun _ h9 => h9) rfl dX3_standIn_13 ?_
        refine lv_iload_n hx hb dX3_standIn_16 rfl (lv_at hl 0 rfl) ?_
        refine n_iald (f := ar 8) hx hb hK.1 hP 7 0 rfl rfl (by omega) (by decide) dX3_standIn_17 ?_
        rw [hbr.rep (t := x2) (by omega)]
        refine lv_istore_n (lv' := [(2, iv (m_of g x2 6 - 1)), (0, .ref (o 1)), (1, iv t)]) hx hb dX3_standIn_18 rfl hl (by decide) rfl (fun ls hl => ?_)
        refine lv_goto (tgt := 2) hx hb dX3_standIn_19 (by decide) ?_
        obtain ⟨z2, rfl, hz⟩ := m_stN_step (g := g) (t := x2) (n := z) (by omega) il2_2
        exact ihl2 (m_of g x2 6 - 1) z2 (by first | omega | rfl) (by first | omega | rfl) (by rw [← hz]; assumption) (by omega) ls (lv_sub hl [0, 1, 2] rfl)
  exact l2 (m_len g t + 1) t (m_len g t) (by first | omega | rfl | trivial) (by rfl) (by exact (hsw t ht.1 ht.2).2.2) (by omega) ls hl
set_option maxHeartbeats 4000000 in
set_option maxRecDepth 100000 in
theorem mt_X3_leads (l : Launch) (E : EE) (o : Nat → Nat) (sc : Nat → Int) (ar : Nat → Int → Int) (t : Int) (u : Int) (d : Bool) (g : Int → Int) (ht : 0 ≤ t ∧ t < 8) (hu : 0 ≤ u ∧ u < 8) (hbr : BR g ar) (hhn : HN g) (htw : TW g) (hsw : SwOK g) : Met l yX3_leads (ws_ yX3_leads cX3_leads 5 (some .boolean)) { frames := 1, cells := 0, slots := 0, locals := 22 } (va_Pc [.ref (o 1), iv t, iv u, iv (b2 d)] (PW E (BW E o sc ar))) (NP (b2 (m_edge g (!d) t u))) 0 0 (fun _ => False) := by
  refine Met.ofW (cc := cX3_leads) (maxL := 5) (ret := (some .boolean)) (by decide) rfl ?_
  intro p e s m args below meth c s₁ B hml hv
  obtain ⟨rfl, hP, hK⟩ := hv
  have hx := B.exec
  have hb := B.bytes
  have hr := B.returns
  have hts := atoms_spec (ws := (ws_ yX3_leads cX3_leads 5 (some .boolean))) B.pre
  have hts : ∀ w ∈ lw_all, w.before _ s = true := fun w h => hts w (List.mem_cons_of_mem _ h)
  have hown : s.vm.findClass RX3 = some m.cls := findClass_of_methodNamed B.named
  have hlocks := B.notSynchronized
  have hl := lv_entry ([.ref (o 1), iv t, iv u, iv (b2 d)]) (n := 5) (Nat.le_of_ble_eq_true rfl)
  rw [lg_entry_eq]
  generalize (lg_sl ([.ref (o 1), iv t, iv u, iv (b2 d)]) ++ List.replicate (5 - (lg_sl ([.ref (o 1), iv t, iv u, iv (b2 d)])).length) Slot.unset).toArray = ls at hl ⊢
  have hl : lv_has ls 5 [(0, .ref (o 1)), (1, iv t), (2, iv u), (3, iv (b2 d))] := hl
  have hnn := htw t ht.1 ht.2
  refine lv_iconst (v := iI 0) hx hb dX3_leads_0 rfl ?_
  refine lv_istore (lv' := [(4, iv 0), (0, .ref (o 1)), (1, iv t), (2, iv u), (3, iv (b2 d))]) hx hb dX3_leads_1 hl (by decide) rfl (fun ls hl => ?_)
  have l3 : ∀ (fu : Nat) (x4 : Int), (0 ≤ x4 ∧ x4 ≤ m_of g t 2) → (exB (fun k => (!d || m_dir g t k) && decide (m_stands g (m_need g t k) = u)) x4 = false) → (m_of g t 2 - x4 < (fu : Int)) → ∀ ls : Array Slot, lv_has ls 5 [(4, iv x4), (0, .ref (o 1)), (1, iv t), (2, iv u), (3, iv (b2 d))] → W p l e (headSpec (ws_ yX3_leads cX3_leads 5 (some .boolean)) { frames := 1, cells := 0, slots := 0, locals := 22 }).room s m ([.ref (o 1), iv t, iv u, iv (b2 d)] : List Value).toArray below meth c s.heap [] 0 0 (MQ below (NP (b2 (m_edge g (!d) t u))) ([.ref (o 1), iv t, iv u, iv (b2 d)] : List Value).toArray s 0 0 (fun _ => False)) (F0 m 3 ls []) := by
    intro fu
    induction fu with
    | zero =>
      intro x4 il3_0 il3_1 hm
      exfalso; omega
    | succ fu ih =>
      intro x4 il3_0 il3_1 hm ls hl
      have ihl3 := ih
      refine lv_iload hx hb dX3_leads_3 (lv_at hl 0 rfl) ?_
      refine lv_aload_n hx hb dX3_leads_5 rfl (lv_at hl 1 rfl) ?_
      refine lv_iload_n hx hb dX3_leads_6 rfl (lv_at hl 2 rfl) ?_
      refine n_csi (x := m_of g t 2) (va_runV (As := [iv t]) (rest := [iv x4]) ⟨hx, hb, hml, hown, hts⟩ (mt_X3_needCount l E o sc ar t g (by omega) (by assumption) (by assumption) (by assumption)) (cwV 1 hts (lw_V q537 q538 q539 q96 q540) rfl rfl rfl (by decide +kernel) ⟨Nat.le_of_ble_eq_true rfl, Nat.le_of_ble_eq_true rfl⟩) (PW_V hP hK (va_recv hK.1 hP (ci := 3) (q0 := 0) rfl rfl)) rfl rfl hl.1 rfl (lv_room (Nat.le_of_ble_eq_true rfl)) dX3_leads_7 ⟨Nat.le_of_ble_eq_true rfl, Nat.le_of_ble_eq_true rfl⟩) ?_
      have b_1 := htw t (by omega) (by omega)
      refine n_icmp_ge (tgt := 50) hx hb dX3_leads_10 (by decide) (by omega) (by omega) (fun c_2 => ?_) (fun c_2 => ?_)
      · refine lv_iconst (v := iI 0) hx hb dX3_leads_50 rfl ?_
        have hfin : 0 = b2 (m_edge g (!d) t u) := by
          obtain rfl : x4 = m_of g t 2 := by omega
          unfold m_edge
          rw [il3_1, Bool.and_false]
          rfl
        exact W.zret (v := iI 0) hx hb hr (nr_b (by decide)) (fun tt_ ht_ hW_ => ⟨iI 0, rfl, (congrArg iI hfin), ht_⟩) (fun q h => by cases h) dX3_leads_51
      · refine lv_aload_n hx hb dX3_leads_13 rfl (lv_at hl 1 rfl) ?_
        refine lv_aload_n hx hb dX3_leads_14 rfl (lv_at hl 1 rfl) ?_
        refine lv_iload_n hx hb dX3_leads_15 rfl (lv_at hl 2 rfl) ?_
        refine lv_iload hx hb dX3_leads_16 (lv_at hl 0 rfl) ?_
        refine n_csi (x := m_need g t x4) (va_runV (As := [iv t, iv x4]) (rest := [.ref (o 1)]) ⟨hx, hb, hml, hown, hts⟩ (mt_X3_need l E o sc ar t x4 g (by omega) (by assumption) (by first | assumption | exact HN_pos hhn (t := t) (by omega) (by omega)) (by omega) (by assumption)) (cwV 2 hts (lw_V q541 q542 q543 q96 q544) rfl rfl rfl (by decide +kernel) ⟨Nat.le_of_ble_eq_true rfl, Nat.le_of_ble_eq_true rfl⟩) (PW_V hP hK (va_recv hK.1 hP (ci := 3) (q0 := 0) rfl rfl)) rfl rfl hl.1 rfl (lv_room (Nat.le_of_ble_eq_true rfl)) dX3_leads_18 ⟨Nat.le_of_ble_eq_true rfl, Nat.le_of_ble_eq_true rfl⟩) ?_
        have b_3 := m_need_r g t x4
        refine n_csi (x := m_stands g (m_need g t x4)) (va_runV (As := [iv (m_need g t x4)]) (rest := []) ⟨hx, hb, hml, hown, hts⟩ (mt_X3_standIn l E o sc ar (m_need g t x4) g (by omega) (by assumption) (by assumption)) (cwV 1 hts (lw_V q545 q546 q547 q96 q548) rfl rfl rfl (by decide +kernel) ⟨Nat.le_of_ble_eq_true rfl, Nat.le_of_ble_eq_true rfl⟩) (PW_V hP hK (va_recv hK.1 hP (ci := 3) (q0 := 0) rfl rfl)) rfl rfl hl.1 rfl (lv_room (Nat.le_of_ble_eq_true rfl)) dX3_leads_21 ⟨Nat.le_of_ble_eq_true rfl, Nat.le_of_ble_eq_true rfl⟩) ?_
        refine lv_iload_n hx hb dX3_leads_24 rfl (lv_at hl 3 rfl) ?_
        have b_4 := m_stands_r (g := g) (by assumption) (t := (m_need g t x4)) (by omega)
        refine n_icmp_ne (tgt := 44) hx hb dX3_leads_25 (by decide) (by omega) (by omega) (fun c_5 => ?_) (fun c_5 => ?_)
        · refine lv_iinc (v := iI (x4 + 1)) (lv' := [(4, iv (x4 + 1)), (0, .ref (o 1)), (1, iv t), (2, iv u), (3, iv (b2 d))]) hx hb dX3_leads_44 hl (k := 0) rfl (iI_add _ _) (by decide) rfl (fun ls hl => ?_)
          refine lv_goto (tgt := 3) hx hb dX3_leads_47 (by decide) ?_
          exact ihl3 (x4 + 1) (by first | omega | rfl) (by rw [exB_s (by omega), il3_1]; cases hmd : m_dir g t x4 <;> simp_all) (by omega) ls (lv_sub hl [0, 1, 2, 3, 4] rfl)
        · refine lv_iload_n hx hb dX3_leads_28 rfl (lv_at hl 4 rfl) ?_
          refine n_ifb_eq (tgt := 42) hx hb dX3_leads_29 (by decide) (fun c_6 => ?_) (fun c_6 => ?_)
          · refine lv_iconst (v := iI 1) hx hb dX3_leads_42 rfl ?_
            have hfin : 1 = b2 (m_edge g (!d) t u) := by
              have hhq : m_has g t = true := HN_has hhn (by omega) (k := x4) (by omega)
              have hex : exB (fun k => (!d || m_dir g t k) && decide (m_stands g (m_need g t k) = u)) (m_of g t 2) = true := exB_iff.mpr ⟨x4, by omega, by omega, by cases hmd : m_dir g t x4 <;> simp_all⟩
              unfold m_edge
              rw [hhq, hex]
              rfl
            exact W.zret (v := iI 1) hx hb hr (nr_b (by decide)) (fun tt_ ht_ hW_ => ⟨iI 1, rfl, (congrArg iI hfin), ht_⟩) (fun q h => by cases h) dX3_leads_43
          · refine lv_aload_n hx hb dX3_leads_32 rfl (lv_at hl 1 rfl) ?_
            refine lv_iload_n hx hb dX3_leads_33 rfl (lv_at hl 2 rfl) ?_
            refine lv_iload hx hb dX3_leads_34 (lv_at hl 0 rfl) ?_
            refine n_csi (x := b2 (!(m_dir g t x4))) (va_runV (As := [iv t, iv x4]) (rest := []) ⟨hx, hb, hml, hown, hts⟩ (mt_X3_isLazy l E o sc ar t x4 g (by omega) (by assumption) (by first | assumption | exact HN_pos hhn (t := t) (by omega) (by omega)) (by omega) (by assumption)) (cwV 2 hts (lw_V q549 q550 q551 q96 q552) rfl rfl rfl (by decide +kernel) ⟨Nat.le_of_ble_eq_true rfl, Nat.le_of_ble_eq_true rfl⟩) (PW_V hP hK (va_recv hK.1 hP (ci := 3) (q0 := 0) rfl rfl)) rfl rfl hl.1 rfl (lv_room (Nat.le_of_ble_eq_true rfl)) dX3_leads_36 ⟨Nat.le_of_ble_eq_true rfl, Nat.le_of_ble_eq_true rfl⟩) ?_
            refine n_ifb_ne (tgt := 44) hx hb dX3_leads_39 (by decide) (fun c_7 => ?_) (fun c_7 => ?_)
            · refine lv_iinc (v := iI (x4 + 1)) (lv' := [(4, iv (x4 + 1)), (0, .ref (o 1)), (1, iv t), (2, iv u), (3, iv (b2 d))]) hx hb dX3_leads_44 hl (k := 0) rfl (iI_add _ _) (by decide) rfl (fun ls hl => ?_)
              refine lv_goto (tgt := 3) hx hb dX3_leads_47 (by decide) ?_
              exact ihl3 (x4 + 1) (by first | omega | rfl) (by rw [exB_s (by omega), il3_1]; cases hmd : m_dir g t x4 <;> simp_all) (by omega) ls (lv_sub hl [0, 1, 2, 3, 4] rfl)
            · refine lv_iconst (v := iI 1) hx hb dX3_leads_42 rfl ?_
              have hfin : 1 = b2 (m_edge g (!d) t u) := by
                have hhq : m_has g t = true := HN_has hhn (by omega) (k := x4) (by omega)
                have hex : exB (fun k => (!d || m_dir g t k) && decide (m_stands g (m_need g t k) = u)) (m_of g t 2) = true := exB_iff.mpr ⟨x4, by omega, by omega, by cases hmd : m_dir g t x4 <;> simp_all⟩
                unfold m_edge
                rw [hhq, hex]
                rfl
              exact W.zret (v := iI 1) hx hb hr (nr_b (by decide)) (fun tt_ ht_ hW_ => ⟨iI 1, rfl, (congrArg iI hfin), ht_⟩) (fun q h => by cases h) dX3_leads_43
  exact l3 4 0 (by first | omega | rfl | trivial) (by rfl) (by omega) ls hl
