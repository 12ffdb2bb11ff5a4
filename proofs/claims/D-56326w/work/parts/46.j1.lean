set_option maxHeartbeats 4000000 in
set_option maxRecDepth 100000 in
theorem mt_J4_coder (l : Launch) (E : EE)  (k : Nat) (hk : k < 32) : Met l yJ4_coder (ws_ yJ4_coder cJ4_coder 1 (some .byte)) { frames := 0, cells := 0, slots := 0, locals := 0 } (va_Pc [.ref (EX E (2 * k))] (PX E ([]))) (NP 0) 0 0 (fun _ => False) := by
  refine Met.ofW (cc := cJ4_coder) (maxL := 1) (ret := (some .byte)) (by decide) rfl ?_
  intro p e s m args below meth c s₁ B hml hv
  obtain ⟨rfl, hP, hK, hE⟩ := hv
  have hS : va_S (fun _ => False) s.heap s.heap [] := va_S.rf
  have hx := B.exec
  have hb := B.bytes
  have hr := B.returns
  have hts := atoms_spec (ws := (ws_ yJ4_coder cJ4_coder 1 (some .byte))) B.pre
  have hts : ∀ w ∈ lw_all, w.before _ s = true := fun w h => hts w (List.mem_cons_of_mem _ h)
  have hown : s.vm.findClass RJ4 = some m.cls := findClass_of_methodNamed B.named
  have hlocks := B.notSynchronized
  have hl := lv_entry ([.ref (EX E (2 * k))]) (n := 1) (Nat.le_of_ble_eq_true rfl)
  rw [lg_entry_eq]
  generalize (lg_sl ([.ref (EX E (2 * k))]) ++ List.replicate (1 - (lg_sl ([.ref (EX E (2 * k))])).length) Slot.unset).toArray = ls at hl ⊢
  have hl : lv_has ls 1 [(0, .ref (EX E (2 * k)))] := hl
  refine va_gets (v := iv 1) hx hb hE.cs hS hown (hts _ q1504) (fun _ h9 => h9) dJ4_coder_0 ?_
  refine n_if_eq (tgt := 13) hx hb dJ4_coder_3 (by decide) (by omega) (fun c_1 => absurd c_1 (by decide)) (fun _ => ?_)
  refine lv_aload_n hx hb dJ4_coder_6 rfl (lv_at hl 0 rfl) ?_
  refine vk_getf (v := iv 0) hx hb (hE.hs k hk).2.1 hS hown (hts _ q1624) (fun _ h9 => h9) dJ4_coder_7 ?_
  refine lv_goto (tgt := 14) hx hb dJ4_coder_10 (by decide) ?_
  exact W.zret (v := iI 0) hx hb hr rfl (fun tt_ ht_ hW_ => ⟨iI 0, rfl, rfl, ht_⟩) (fun q h => by cases h) dJ4_coder_14
set_option maxHeartbeats 4000000 in
set_option maxRecDepth 100000 in
theorem mt_J4_isLatin1 (l : Launch) (E : EE)  (k : Nat) (hk : k < 32) : Met l yJ4_isLatin1 (ws_ yJ4_isLatin1 cJ4_isLatin1 1 (some .boolean)) { frames := 0, cells := 0, slots := 0, locals := 0 } (va_Pc [.ref (EX E (2 * k))] (PX E ([]))) (NP 1) 0 0 (fun _ => False) := by
  refine Met.ofW (cc := cJ4_isLatin1) (maxL := 1) (ret := (some .boolean)) (by decide) rfl ?_
  intro p e s m args below meth c s₁ B hml hv
  obtain ⟨rfl, hP, hK, hE⟩ := hv
  have hS : va_S (fun _ => False) s.heap s.heap [] := va_S.rf
  have hx := B.exec
  have hb := B.bytes
  have hr := B.returns
  have hts := atoms_spec (ws := (ws_ yJ4_isLatin1 cJ4_isLatin1 1 (some .boolean))) B.pre
  have hts : ∀ w ∈ lw_all, w.before _ s = true := fun w h => hts w (List.mem_cons_of_mem _ h)
  have hown : s.vm.findClass RJ4 = some m.cls := findClass_of_methodNamed B.named
  have hlocks := B.notSynchronized
  have hl := lv_entry ([.ref (EX E (2 * k))]) (n := 1) (Nat.le_of_ble_eq_true rfl)
  rw [lg_entry_eq]
  generalize (lg_sl ([.ref (EX E (2 * k))]) ++ List.replicate (1 - (lg_sl ([.ref (EX E (2 * k))])).length) Slot.unset).toArray = ls at hl ⊢
  have hl : lv_has ls 1 [(0, .ref (EX E (2 * k)))] := hl
  refine va_gets (v := iv 1) hx hb hE.cs hS hown (hts _ q1504) (fun _ h9 => h9) dJ4_isLatin1_0 ?_
  refine n_if_eq (tgt := 17) hx hb dJ4_isLatin1_3 (by decide) (by omega) (fun c_1 => absurd c_1 (by decide)) (fun _ => ?_)
  refine lv_aload_n hx hb dJ4_isLatin1_6 rfl (lv_at hl 0 rfl) ?_
  refine vk_getf (v := iv 0) hx hb (hE.hs k hk).2.1 hS hown (hts _ q1624) (fun _ h9 => h9) dJ4_isLatin1_7 ?_
  refine n_if_ne (tgt := 17) hx hb dJ4_isLatin1_10 (by decide) (by omega) (fun c_2 => absurd c_2 (by decide)) (fun _ => ?_)
  refine lv_iconst (v := iI 1) hx hb dJ4_isLatin1_13 rfl ?_
  refine lv_goto (tgt := 18) hx hb dJ4_isLatin1_14 (by decide) ?_
  exact W.zret (v := iI 1) hx hb hr (nr_b (by decide)) (fun tt_ ht_ hW_ => ⟨iI 1, rfl, rfl, ht_⟩) (fun q h => by cases h) dJ4_isLatin1_18
set_option maxHeartbeats 4000000 in
set_option maxRecDepth 100000 in
theorem mt_J4_length (l : Launch) (E : EE)  (k : Nat) (hk : k < 32) : Met l yJ4_length (ws_ yJ4_length cJ4_length 1 (some .int)) { frames := 1, cells := 0, slots := 0, locals := 20 } (va_Pc [.ref (EX E (2 * k))] (PX E ([]))) (NP ((TX.getD k []).length : Int)) 0 0 (fun _ => False) := by
  refine Met.ofW (cc := cJ4_length) (maxL := 1) (ret := (some .int)) (by decide) rfl ?_
  intro p e s m args below meth c s₁ B hml hv
  obtain ⟨rfl, hP, hK, hE⟩ := hv
  have hS : va_S (fun _ => False) s.heap s.heap [] := va_S.rf
  have hx := B.exec
  have hb := B.bytes
  have hr := B.returns
  have hts := atoms_spec (ws := (ws_ yJ4_length cJ4_length 1 (some .int))) B.pre
  have hts : ∀ w ∈ lw_all, w.before _ s = true := fun w h => hts w (List.mem_cons_of_mem _ h)
  have hown : s.vm.findClass RJ4 = some m.cls := findClass_of_methodNamed B.named
  have hlocks := B.notSynchronized
  have hl := lv_entry ([.ref (EX E (2 * k))]) (n := 1) (Nat.le_of_ble_eq_true rfl)
  rw [lg_entry_eq]
  generalize (lg_sl ([.ref (EX E (2 * k))]) ++ List.replicate (1 - (lg_sl ([.ref (EX E (2 * k))])).length) Slot.unset).toArray = ls at hl ⊢
  have hl : lv_has ls 1 [(0, .ref (EX E (2 * k)))] := hl
  have htl := tx_l k
  refine lv_aload_n hx hb dJ4_length_0 rfl (lv_at hl 0 rfl) ?_
  refine vk_getf (v := .ref (EX E (2 * k + 1))) hx hb (hE.hs k hk).2.2.1 hS hown (hts _ q1623) (fun _ h9 => h9) dJ4_length_1 ?_
  refine va_tlen (v := iI ((TX.getD k []).length : Int)) hx hb (hE.hs k hk).2.2.2 hS (iI_ofNat _) dJ4_length_4 ?_
  refine lv_aload_n hx hb dJ4_length_5 rfl (lv_at hl 0 rfl) ?_
  refine n_csi (x := 0) (va_runV (As := []) (rest := [iv ((TX.getD k []).length : Int)]) ⟨hx, hb, hml, hown, hts⟩ (mt_J4_coder l E k (by exact hk)) (cwV 0 hts (lw_V q1500 q1501 q1502 q101 q1503) rfl rfl rfl (by decide +kernel) ⟨Nat.le_of_ble_eq_true rfl, Nat.le_of_ble_eq_true rfl⟩) (PX_V hP hK hE hS (SQ.recv (hE.hs k hk) hS)) rfl rfl hl.1 rfl (lv_room (Nat.le_of_ble_eq_true rfl)) dJ4_length_6 ⟨Nat.le_of_ble_eq_true rfl, Nat.le_of_ble_eq_true rfl⟩) ?_
  refine n_ishr0 hx hb (by omega) dJ4_length_9 ?_
  exact W.iret (v := iI ((TX.getD k []).length : Int)) hx hb hr (fun tt_ ht_ hW_ => ⟨iI ((TX.getD k []).length : Int), rfl, rfl, ht_⟩) (fun q h => by cases h) dJ4_length_10
set_option maxHeartbeats 4000000 in
set_option maxRecDepth 100000 in
theorem mt_J24_checkIndex (l : Launch) (E : EE)  (i : Int) (n1 : Int) (q9 : Option Nat) (h : 0 ≤ i ∧ i < n1 ∧ n1 < 2147483648) : Met l yJ24_checkIndex (ws_ yJ24_checkIndex cJ24_checkIndex 3 (some .int)) { frames := 0, cells := 0, slots := 0, locals := 0 } (va_Pc [iv i, iv n1, va_rf q9] (PX E ([]))) (NP i) 0 0 (fun _ => False) := by
  refine Met.ofW (cc := cJ24_checkIndex) (maxL := 3) (ret := (some .int)) (by decide) rfl ?_
  intro p e s m args below meth c s₁ B hml hv
  obtain ⟨rfl, hP, hK, hE⟩ := hv
  have hS : va_S (fun _ => False) s.heap s.heap [] := va_S.rf
  have hx := B.exec
  have hb := B.bytes
  have hr := B.returns
  have hts := atoms_spec (ws := (ws_ yJ24_checkIndex cJ24_checkIndex 3 (some .int))) B.pre
  have hts : ∀ w ∈ lw_all, w.before _ s = true := fun w h => hts w (List.mem_cons_of_mem _ h)
  have hown : s.vm.findClass RJ24 = some m.cls := findClass_of_methodNamed B.named
  have hlocks := B.notSynchronized
  have hl := lv_entry ([iv i, iv n1, va_rf q9]) (n := 3) (by cases q9 <;> exact Nat.le_of_ble_eq_true rfl)
  rw [lg_entry_eq]
  generalize (lg_sl ([iv i, iv n1, va_rf q9]) ++ List.replicate (3 - (lg_sl ([iv i, iv n1, va_rf q9])).length) Slot.unset).toArray = ls at hl ⊢
  have hl : lv_has ls 3 [(0, iv i), (1, iv n1), (2, va_rf q9)] := hl
  refine lv_iload_n hx hb dJ24_checkIndex_0 rfl (lv_at hl 0 rfl) ?_
  refine n_if_lt (tgt := 9) hx hb dJ24_checkIndex_1 (by decide) (by omega) (fun c_1 => ?_) (fun c_1 => ?_)
  · exfalso; omega
  · refine lv_iload_n hx hb dJ24_checkIndex_4 rfl (lv_at hl 0 rfl) ?_
    refine lv_iload_n hx hb dJ24_checkIndex_5 rfl (lv_at hl 1 rfl) ?_
    refine n_icmp_lt (tgt := 16) hx hb dJ24_checkIndex_6 (by decide) (by omega) (by omega) (fun c_2 => ?_) (fun c_2 => ?_)
    · refine lv_iload_n hx hb dJ24_checkIndex_16 rfl (lv_at hl 0 rfl) ?_
      exact W.iret (v := iI i) hx hb hr (fun tt_ ht_ hW_ => ⟨iI i, rfl, rfl, ht_⟩) (fun q h => by cases h) dJ24_checkIndex_17
    · exfalso; omega
set_option maxHeartbeats 4000000 in
set_option maxRecDepth 100000 in
theorem mt_J4_checkIndex (l : Launch) (E : EE)  (i : Int) (n1 : Int) (h : 0 ≤ i ∧ i < n1 ∧ n1 < 2147483648) : Met l yJ4_checkIndex (ws_ yJ4_checkIndex cJ4_checkIndex 2 none) { frames := 1, cells := 0, slots := 0, locals := 22 } (va_Pc [iv i, iv n1] (PX E ([]))) NPv 0 0 (fun _ => False) := by
  refine Met.ofW (cc := cJ4_checkIndex) (maxL := 2) (ret := none) (by decide) rfl ?_
  intro p e s m args below meth c s₁ B hml hv
  obtain ⟨rfl, hP, hK, hE⟩ := hv
  have hS : va_S (fun _ => False) s.heap s.heap [] := va_S.rf
  have hx := B.exec
  have hb := B.bytes
  have hr := B.returns
  have hts := atoms_spec (ws := (ws_ yJ4_checkIndex cJ4_checkIndex 2 none)) B.pre
  have hts : ∀ w ∈ lw_all, w.before _ s = true := fun w h => hts w (List.mem_cons_of_mem _ h)
  have hown : s.vm.findClass RJ4 = some m.cls := findClass_of_methodNamed B.named
  have hlocks := B.notSynchronized
  have hl := lv_entry ([iv i, iv n1]) (n := 2) (Nat.le_of_ble_eq_true rfl)
  rw [lg_entry_eq]
  generalize (lg_sl ([iv i, iv n1]) ++ List.replicate (2 - (lg_sl ([iv i, iv n1])).length) Slot.unset).toArray = ls at hl ⊢
  have hl : lv_has ls 2 [(0, iv i), (1, iv n1)] := hl
  refine lv_iload_n hx hb dJ4_checkIndex_0 rfl (lv_at hl 0 rfl) ?_
  refine lv_iload_n hx hb dJ4_checkIndex_1 rfl (lv_at hl 1 rfl) ?_
  have hsi9 := hE.si
  cases hq_1 : eO E 70 with
  | none =>
    rw [hq_1] at hsi9
    refine va_gets (v := .null) hx hb hsi9 hS hown (hts _ q1482) (fun _ h9 => h9) dJ4_checkIndex_2 ?_
    refine n_csi (x := i) (va_runS (As := [iv i, iv n1, .null]) (rest := []) ⟨hx, hb, hml, hown, hts⟩ (mt_J24_checkIndex l E i n1 none (by omega)) (va_cwS 3 hts (lw_S q1688 q1689 q128 q1690) rfl rfl rfl (by decide +kernel) ⟨Nat.le_of_ble_eq_true rfl, Nat.le_of_ble_eq_true rfl⟩) (PX_S hP hK hE hS) rfl rfl hl.1 rfl (lv_room (Nat.le_of_ble_eq_true rfl)) dJ4_checkIndex_5 ⟨Nat.le_of_ble_eq_true rfl, Nat.le_of_ble_eq_true rfl⟩) ?_
    refine lv_pop hx hb dJ4_checkIndex_8 rfl ?_
    exact W.vret hx hb hr (fun tt_ ht_ hW_ => ⟨rfl, ht_⟩) (fun q h => by cases h) dJ4_checkIndex_9
  | some z9 =>
    rw [hq_1] at hsi9
    refine va_gets (v := .ref z9) hx hb hsi9 hS hown (hts _ q1482) (fun _ h9 => h9) dJ4_checkIndex_2 ?_
    refine n_csi (x := i) (va_runS (As := [iv i, iv n1, .ref z9]) (rest := []) ⟨hx, hb, hml, hown, hts⟩ (mt_J24_checkIndex l E i n1 (some z9) (by omega)) (va_cwS 3 hts (lw_S q1688 q1689 q128 q1690) rfl rfl rfl (by decide +kernel) ⟨Nat.le_of_ble_eq_true rfl, Nat.le_of_ble_eq_true rfl⟩) (PX_S hP hK hE hS) rfl rfl hl.1 rfl (lv_room (Nat.le_of_ble_eq_true rfl)) dJ4_checkIndex_5 ⟨Nat.le_of_ble_eq_true rfl, Nat.le_of_ble_eq_true rfl⟩) ?_
    refine lv_pop hx hb dJ4_checkIndex_8 rfl ?_
    exact W.vret hx hb hr (fun tt_ ht_ hW_ => ⟨rfl, ht_⟩) (fun q h => by cases h) dJ4_checkIndex_9
set_option maxHeartbeats 4000000 in
set_option maxRecDepth 100000 in
theorem mt_J25_charAt (l : Launch) (E : EE)  (k : Nat) (i : Int) (hk : k < 32) (h : 0 ≤ i ∧ i < ((TX.getD k []).length : Int)) : Met l yJ25_charAt (ws_ yJ25_charAt cJ25_charAt 2 (some .char)) { frames := 2, cells := 0, slots := 0, locals := 43 } (va_Pc [.ref (EX E (2 * k + 1)), iv i] (PX E ([]))) (NP ((TX.getD k []).getD (i).toNat 0)) 0 0 (fun _ => False) := by
  refine Met.ofW (cc := cJ25_charAt) (maxL := 2) (ret := (some .char)) (by decide) rfl ?_
  intro p e s m args below meth c s₁ B hml hv
  obtain ⟨rfl, hP, hK, hE⟩ := hv
  have hS : va_S (fun _ => False) s.heap s.heap [] := va_S.rf
  have hx := B.exec
  have hb := B.bytes
  have hr := B.returns
  have hts := atoms_spec (ws := (ws_ yJ25_charAt cJ25_charAt 2 (some .char))) B.pre
  have hts : ∀ w ∈ lw_all, w.before _ s = true := fun w h => hts w (List.mem_cons_of_mem _ h)
  have hown : s.vm.findClass RJ25 = some m.cls := findClass_of_methodNamed B.named
  have hlocks := B.notSynchronized
  have hl := lv_entry ([.ref (EX E (2 * k + 1)), iv i]) (n := 2) (Nat.le_of_ble_eq_true rfl)
  rw [lg_entry_eq]
  generalize (lg_sl ([.ref (EX E (2 * k + 1)), iv i]) ++ List.replicate (2 - (lg_sl ([.ref (EX E (2 * k + 1)), iv i])).length) Slot.unset).toArray = ls at hl ⊢
  have hl : lv_has ls 2 [(0, .ref (EX E (2 * k + 1))), (1, iv i)] := hl
  have htl := tx_l k
  refine lv_iload_n hx hb dJ25_charAt_0 rfl (lv_at hl 1 rfl) ?_
  refine lv_aload_n hx hb dJ25_charAt_1 rfl (lv_at hl 0 rfl) ?_
  refine va_tlen (v := iI ((TX.getD k []).length : Int)) hx hb (hE.hs k hk).2.2.2 hS (iI_ofNat _) dJ25_charAt_2 ?_
  refine n_csv ((va_runS (As := [iv i, iv ((TX.getD k []).length : Int)]) (rest := []) ⟨hx, hb, hml, hown, hts⟩ (mt_J4_checkIndex l E i ((TX.getD k []).length : Int) (by omega)) (va_cwS 2 hts (lw_S q1792 q1686 q101 q1687) rfl rfl rfl (by decide +kernel) ⟨Nat.le_of_ble_eq_true rfl, Nat.le_of_ble_eq_true rfl⟩) (PX_S hP hK hE hS) rfl rfl hl.1 rfl (lv_room (Nat.le_of_ble_eq_true rfl)) dJ25_charAt_3 ⟨Nat.le_of_ble_eq_true rfl, Nat.le_of_ble_eq_true rfl⟩).run) ?_
  refine lv_aload_n hx hb dJ25_charAt_6 rfl (lv_at hl 0 rfl) ?_
  refine lv_iload_n hx hb dJ25_charAt_7 rfl (lv_at hl 1 rfl) ?_
  refine va_tb (v := iv ((TX.getD k []).getD (i).toNat 0)) hx hb (hE.hs k hk).2.2.2 hS (iI_in (by omega) (by omega)) (by rw [iI_cln (by omega) (by omega)]) dJ25_charAt_8 ?_
  refine lv_sipush (v := iI 255) hx hb dJ25_charAt_9 (by decide) ?_
  have b_1 := tx_b k (i).toNat
  refine n_iand255 hx hb (by omega) dJ25_charAt_12 ?_
  refine n_i2c hx hb (by omega) dJ25_charAt_13 ?_
  exact W.zret (v := iI ((TX.getD k []).getD (i).toNat 0)) hx hb hr (nr_c (by omega)) (fun tt_ ht_ hW_ => ⟨iI ((TX.getD k []).getD (i).toNat 0), rfl, rfl, ht_⟩) (fun q h => by cases h) dJ25_charAt_14
set_option maxHeartbeats 4000000 in
set_option maxRecDepth 100000 in
theorem mt_J4_charAt (l : Launch) (E : EE)  (k : Nat) (i : Int) (hk : k < 32) (h : 0 ≤ i ∧ i < ((TX.getD k []).length : Int)) : Met l yJ4_charAt (ws_ yJ4_charAt cJ4_charAt 2 (some .char)) { frames := 3, cells := 0, slots := 0, locals := 64 } (va_Pc [.ref (EX E (2 * k)), iv i] (PX E ([]))) (NP ((TX.getD k []).getD (i).toNat 0)) 0 0 (fun _ => False) := by
  refine Met.ofW (cc := cJ4_charAt) (maxL := 2) (ret := (some .char)) (by decide) rfl ?_
  intro p e s m args below meth c s₁ B hml hv
  obtain ⟨rfl, hP, hK, hE⟩ := hv
  have hS : va_S (fun _ => False) s.heap s.heap [] := va_S.rf
  have hx := B.exec
  have hb := B.bytes
  have hr := B.returns
  have hts := atoms_spec (ws := (ws_ yJ4_charAt cJ4_charAt 2 (some .char))) B.pre
  have hts : ∀ w ∈ lw_all, w.before _ s = true := fun w h => hts w (List.mem_cons_of_mem _ h)
  have hown : s.vm.findClass RJ4 = some m.cls := findClass_of_methodNamed B.named
  have hlocks := B.notSynchronized
  have hl := lv_entry ([.ref (EX E (2 * k)), iv i]) (n := 2) (Nat.le_of_ble_eq_true rfl)
  rw [lg_entry_eq]
  generalize (lg_sl ([.ref (EX E (2 * k)), iv i]) ++ List.replicate (2 - (lg_sl ([.ref (EX E (2 * k)), iv i])).length) Slot.unset).toArray = ls at hl ⊢
  have hl : lv_has ls 2 [(0, .ref (EX E (2 * k))), (1, iv i)] := hl
  have htl := tx_l k
  refine lv_aload_n hx hb dJ4_charAt_0 rfl (lv_at hl 0 rfl) ?_
  refine n_csi (x := 1) (va_runV (As := []) (rest := []) ⟨hx, hb, hml, hown, hts⟩ (mt_J4_isLatin1 l E k (by exact hk)) (cwV 0 hts (lw_V q1785 q1786 q1787 q101 q1788) rfl rfl rfl (by decide +kernel) ⟨Nat.le_of_ble_eq_true rfl, Nat.le_of_ble_eq_true rfl⟩) (PX_V hP hK hE hS (SQ.recv (hE.hs k hk) hS)) rfl rfl hl.1 rfl (lv_room (Nat.le_of_ble_eq_true rfl)) dJ4_charAt_1 ⟨Nat.le_of_ble_eq_true rfl, Nat.le_of_ble_eq_true rfl⟩) ?_
  refine n_if_eq (tgt := 16) hx hb dJ4_charAt_4 (by decide) (by omega) (fun c_1 => absurd c_1 (by decide)) (fun _ => ?_)
  refine lv_aload_n hx hb dJ4_charAt_7 rfl (lv_at hl 0 rfl) ?_
  refine vk_getf (v := .ref (EX E (2 * k + 1))) hx hb (hE.hs k hk).2.2.1 hS hown (hts _ q1623) (fun _ h9 => h9) dJ4_charAt_8 ?_
  refine lv_iload_n hx hb dJ4_charAt_11 rfl (lv_at hl 1 rfl) ?_
  refine n_csi (x := (TX.getD k []).getD (i).toNat 0) (va_runS (As := [.ref (EX E (2 * k + 1)), iv i]) (rest := []) ⟨hx, hb, hml, hown, hts⟩ (mt_J25_charAt l E k i (by exact hk) (by omega)) (va_cwS 2 hts (lw_S q1789 q1790 q129 q1791) rfl rfl rfl (by decide +kernel) ⟨Nat.le_of_ble_eq_true rfl, Nat.le_of_ble_eq_true rfl⟩) (PX_S hP hK hE hS) rfl rfl hl.1 rfl (lv_room (Nat.le_of_ble_eq_true rfl)) dJ4_charAt_12 ⟨Nat.le_of_ble_eq_true rfl, Nat.le_of_ble_eq_true rfl⟩) ?_
  have b_2 := tx_b k (i).toNat
  exact W.zret (v := iI ((TX.getD k []).getD (i).toNat 0)) hx hb hr (nr_c (by omega)) (fun tt_ ht_ hW_ => ⟨iI ((TX.getD k []).getD (i).toNat 0), rfl, rfl, ht_⟩) (fun q h => by cases h) dJ4_charAt_15
