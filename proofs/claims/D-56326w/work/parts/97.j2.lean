set_option maxHeartbeats 4000000 in
set_option maxRecDepth 100000 in
theorem mt_J18_valueOf (l : Launch) (E : EE)  (v : Int) (hv : -128 ≤ v ∧ v ≤ 127) : Met l yJ18_valueOf (ws_ yJ18_valueOf cJ18_valueOf 1 (some (.object "java/lang/Integer"))) { frames := 0, cells := 0, slots := 0, locals := 0 } (va_Pc [iv v] (PX E ([]))) (NPr (BX E v)) 0 0 (fun _ => False) := by
  refine Met.ofW (cc := cJ18_valueOf) (maxL := 1) (ret := (some (.object "java/lang/Integer"))) (by decide) rfl ?_
  intro p e s m args below meth c s₁ B hml hv
  obtain ⟨rfl, hP, hK, hE⟩ := hv
  have hS : va_S (fun _ => False) s.heap s.heap [] := va_S.rf
  have hx := B.exec
  have hb := B.bytes
  have hr := B.returns
  have hts := atoms_spec (ws := (ws_ yJ18_valueOf cJ18_valueOf 1 (some (.object "java/lang/Integer")))) B.pre
  have hts : ∀ w ∈ lw_all, w.before _ s = true := fun w h => hts w (List.mem_cons_of_mem _ h)
  have hown : s.vm.findClass RJ18 = some m.cls := findClass_of_methodNamed B.named
  have hlocks := B.notSynchronized
  have hl := lv_entry ([iv v]) (n := 1) (Nat.le_of_ble_eq_true rfl)
  rw [lg_entry_eq]
  generalize (lg_sl ([iv v]) ++ List.replicate (1 - (lg_sl ([iv v])).length) Slot.unset).toArray = ls at hl ⊢
  have hl : lv_has ls 1 [(0, iv v)] := hl
  refine lv_iload_n hx hb dJ18_valueOf_0 rfl (lv_at hl 0 rfl) ?_
  refine lv_bipush (v := iI (-128)) hx hb dJ18_valueOf_1 (by decide) ?_
  refine n_icmp_lt (tgt := 23) hx hb dJ18_valueOf_3 (by decide) (by omega) (by omega) (fun c_1 => ?_) (fun c_1 => ?_)
  · exfalso; omega
  · refine lv_iload_n hx hb dJ18_valueOf_6 rfl (lv_at hl 0 rfl) ?_
    refine va_gets (v := iv 127) hx hb hE.ih hS hown (hts _ q561) (fun _ h9 => h9) dJ18_valueOf_7 ?_
    refine n_icmp_gt (tgt := 23) hx hb dJ18_valueOf_10 (by decide) (by omega) (by omega) (fun c_2 => ?_) (fun c_2 => ?_)
    · exfalso; omega
    · refine va_gets (v := .ref (EX E 74)) hx hb hE.ic hS hown (hts _ q563) (fun _ h9 => h9) dJ18_valueOf_13 ?_
      refine lv_iload_n hx hb dJ18_valueOf_16 rfl (lv_at hl 0 rfl) ?_
      refine lv_sipush (v := iI 128) hx hb dJ18_valueOf_17 (by decide) ?_
      refine n_iadd hx hb dJ18_valueOf_20 ?_
      refine vb_tq (C := "java/lang/Integer") (v := .ref (BX E v)) hx hb hE.it hS (iI_in (by omega) (by omega)) (by rw [iI_cln (by omega) (by omega)]; rfl) dJ18_valueOf_21 ?_
      exact W.aret hx hb hr (Or.inl ⟨_, rfl⟩) (Or.inr ⟨_, rfl⟩) (fun tt_ ht_ hW_ => ⟨rfl, ht_⟩) (fun q h => by cases h) dJ18_valueOf_22
set_option maxHeartbeats 4000000 in
set_option maxRecDepth 100000 in
theorem mt_J18_intValue (l : Launch) (E : EE)  (v : Int) (hv : -128 ≤ v ∧ v ≤ 127) : Met l yJ18_intValue (ws_ yJ18_intValue cJ18_intValue 1 (some .int)) { frames := 0, cells := 0, slots := 0, locals := 0 } (va_Pc [.ref (BX E v)] (PX E ([]))) (NP v) 0 0 (fun _ => False) := by
  refine Met.ofW (cc := cJ18_intValue) (maxL := 1) (ret := (some .int)) (by decide) rfl ?_
  intro p e s m args below meth c s₁ B hml hv
  obtain ⟨rfl, hP, hK, hE⟩ := hv
  have hS : va_S (fun _ => False) s.heap s.heap [] := va_S.rf
  have hx := B.exec
  have hb := B.bytes
  have hr := B.returns
  have hts := atoms_spec (ws := (ws_ yJ18_intValue cJ18_intValue 1 (some .int))) B.pre
  have hts : ∀ w ∈ lw_all, w.before _ s = true := fun w h => hts w (List.mem_cons_of_mem _ h)
  have hown : s.vm.findClass RJ18 = some m.cls := findClass_of_methodNamed B.named
  have hlocks := B.notSynchronized
  have hl := lv_entry ([.ref (BX E v)]) (n := 1) (Nat.le_of_ble_eq_true rfl)
  rw [lg_entry_eq]
  generalize (lg_sl ([.ref (BX E v)]) ++ List.replicate (1 - (lg_sl ([.ref (BX E v)])).length) Slot.unset).toArray = ls at hl ⊢
  have hl : lv_has ls 1 [(0, .ref (BX E v))] := hl
  refine lv_aload_n hx hb dJ18_intValue_0 rfl (lv_at hl 0 rfl) ?_
  have hz : (iv v : Value) = .int (vb_c (v + 128).toNat) := by rw [bx_c hv]
  refine va_getX (i := (v + 128).toNat) (v := fun k => .int (vb_c k)) hx hb hE.ib.2 (by omega) hS hown (hts _ q574) (fun _ h9 => h9) dJ18_intValue_1 ?_
  rw [← hz]
  exact W.iret (v := iI v) hx hb hr (fun tt_ ht_ hW_ => ⟨iI v, rfl, rfl, ht_⟩) (fun q h => by cases h) dJ18_intValue_4
set_option maxHeartbeats 4000000 in
set_option maxRecDepth 100000 in
theorem mt_J1_inc (l : Launch) (E : EE)  (i : Int) (n9 : Int) (hi : 0 ≤ i ∧ i < n9 ∧ n9 < 100000) : Met l yJ1_inc (ws_ yJ1_inc cJ1_inc 2 (some .int)) { frames := 0, cells := 0, slots := 0, locals := 0 } (va_Pc [iv i, iv n9] (PW E ([]))) (NP (if i + 1 < n9 then i + 1 else 0)) 0 0 (fun _ => False) := by
  refine Met.ofW (cc := cJ1_inc) (maxL := 2) (ret := (some .int)) (by decide) rfl ?_
  intro p e s m args below meth c s₁ B hml hv
  obtain ⟨rfl, hP, hK⟩ := hv
  have hx := B.exec
  have hb := B.bytes
  have hr := B.returns
  have hts := atoms_spec (ws := (ws_ yJ1_inc cJ1_inc 2 (some .int))) B.pre
  have hts : ∀ w ∈ lw_all, w.before _ s = true := fun w h => hts w (List.mem_cons_of_mem _ h)
  have hown : s.vm.findClass RJ1 = some m.cls := findClass_of_methodNamed B.named
  have hlocks := B.notSynchronized
  have hl := lv_entry ([iv i, iv n9]) (n := 2) (Nat.le_of_ble_eq_true rfl)
  rw [lg_entry_eq]
  generalize (lg_sl ([iv i, iv n9]) ++ List.replicate (2 - (lg_sl ([iv i, iv n9])).length) Slot.unset).toArray = ls at hl ⊢
  have hl : lv_has ls 2 [(0, iv i), (1, iv n9)] := hl
  refine lv_iinc (v := iI (i + 1)) (lv' := [(0, iv (i + 1)), (1, iv n9)]) hx hb dJ1_inc_0 hl (k := 0) rfl (iI_add _ _) (by decide) rfl (fun ls hl => ?_)
  refine lv_iload_n hx hb dJ1_inc_3 rfl (lv_at hl 0 rfl) ?_
  refine lv_iload_n hx hb dJ1_inc_4 rfl (lv_at hl 1 rfl) ?_
  refine n_icmp_lt (tgt := 10) hx hb dJ1_inc_5 (by decide) (by omega) (by omega) (fun c_1 => ?_) (fun c_1 => ?_)
  · refine lv_iload_n hx hb dJ1_inc_10 rfl (lv_at hl 0 rfl) ?_
    have hfin : i + 1 = (if i + 1 < n9 then i + 1 else 0) := by
      split <;> first | rfl | omega
    exact W.iret (v := iI (i + 1)) hx hb hr (fun tt_ ht_ hW_ => ⟨iI (i + 1), rfl, (congrArg iI hfin), ht_⟩) (fun q h => by cases h) dJ1_inc_11
  · refine lv_iconst (v := iI 0) hx hb dJ1_inc_8 rfl ?_
    refine lv_istore_n (lv' := [(0, iv 0), (1, iv n9)]) hx hb dJ1_inc_9 rfl hl (by decide) rfl (fun ls hl => ?_)
    refine lv_iload_n hx hb dJ1_inc_10 rfl (lv_at hl 0 rfl) ?_
    have hfin : 0 = (if i + 1 < n9 then i + 1 else 0) := by
      split <;> first | rfl | omega
    exact W.iret (v := iI 0) hx hb hr (fun tt_ ht_ hW_ => ⟨iI 0, rfl, (congrArg iI hfin), ht_⟩) (fun q h => by cases h) dJ1_inc_11
set_option maxHeartbeats 4000000 in
set_option maxRecDepth 100000 in
theorem mt_J1_dec (l : Launch) (E : EE)  (i : Int) (n9 : Int) (hi : 0 ≤ i ∧ i < n9 ∧ n9 < 100000) : Met l yJ1_dec (ws_ yJ1_dec cJ1_dec 2 (some .int)) { frames := 0, cells := 0, slots := 0, locals := 0 } (va_Pc [iv i, iv n9] (PW E ([]))) (NP (if i - 1 < 0 then n9 - 1 else i - 1)) 0 0 (fun _ => False) := by
  refine Met.ofW (cc := cJ1_dec) (maxL := 2) (ret := (some .int)) (by decide) rfl ?_
  intro p e s m args below meth c s₁ B hml hv
  obtain ⟨rfl, hP, hK⟩ := hv
  have hx := B.exec
  have hb := B.bytes
  have hr := B.returns
  have hts := atoms_spec (ws := (ws_ yJ1_dec cJ1_dec 2 (some .int))) B.pre
  have hts : ∀ w ∈ lw_all, w.before _ s = true := fun w h => hts w (List.mem_cons_of_mem _ h)
  have hown : s.vm.findClass RJ1 = some m.cls := findClass_of_methodNamed B.named
  have hlocks := B.notSynchronized
  have hl := lv_entry ([iv i, iv n9]) (n := 2) (Nat.le_of_ble_eq_true rfl)
  rw [lg_entry_eq]
  generalize (lg_sl ([iv i, iv n9]) ++ List.replicate (2 - (lg_sl ([iv i, iv n9])).length) Slot.unset).toArray = ls at hl ⊢
  have hl : lv_has ls 2 [(0, iv i), (1, iv n9)] := hl
  refine lv_iinc (v := iI (i + (-1))) (lv' := [(0, iv (i + (-1))), (1, iv n9)]) hx hb dJ1_dec_0 hl (k := 0) rfl (iI_add _ _) (by decide) rfl (fun ls hl => ?_)
  refine lv_iload_n hx hb dJ1_dec_3 rfl (lv_at hl 0 rfl) ?_
  refine n_if_ge (tgt := 11) hx hb dJ1_dec_4 (by decide) (by omega) (fun c_1 => ?_) (fun c_1 => ?_)
  · refine lv_iload_n hx hb dJ1_dec_11 rfl (lv_at hl 0 rfl) ?_
    have hfin : i + (-1) = (if i - 1 < 0 then n9 - 1 else i - 1) := by
      split <;> first | rfl | omega
    exact W.iret (v := iI (i + (-1))) hx hb hr (fun tt_ ht_ hW_ => ⟨iI (i + (-1)), rfl, (congrArg iI hfin), ht_⟩) (fun q h => by cases h) dJ1_dec_12
  · refine lv_iload_n hx hb dJ1_dec_7 rfl (lv_at hl 1 rfl) ?_
    refine lv_iconst (v := iI 1) hx hb dJ1_dec_8 rfl ?_
    refine n_isub hx hb dJ1_dec_9 ?_
    refine lv_istore_n (lv' := [(0, iv (n9 - 1)), (1, iv n9)]) hx hb dJ1_dec_10 rfl hl (by decide) rfl (fun ls hl => ?_)
    refine lv_iload_n hx hb dJ1_dec_11 rfl (lv_at hl 0 rfl) ?_
    have hfin : n9 - 1 = (if i - 1 < 0 then n9 - 1 else i - 1) := by
      split <;> first | rfl | omega
    exact W.iret (v := iI (n9 - 1)) hx hb hr (fun tt_ ht_ hW_ => ⟨iI (n9 - 1), rfl, (congrArg iI hfin), ht_⟩) (fun q h => by cases h) dJ1_dec_12
set_option maxHeartbeats 4000000 in
set_option maxRecDepth 100000 in
theorem mt_J1_sub (l : Launch) (E : EE)  (i : Int) (j : Int) (n9 : Int) (hi : 0 ≤ i ∧ i < n9 ∧ 0 ≤ j ∧ j < n9 ∧ n9 < 100000) : Met l yJ1_sub (ws_ yJ1_sub cJ1_sub 3 (some .int)) { frames := 0, cells := 0, slots := 0, locals := 0 } (va_Pc [iv i, iv j, iv n9] (PW E ([]))) (NP (if i - j < 0 then i - j + n9 else i - j)) 0 0 (fun _ => False) := by
  refine Met.ofW (cc := cJ1_sub) (maxL := 3) (ret := (some .int)) (by decide) rfl ?_
  intro p e s m args below meth c s₁ B hml hv
  obtain ⟨rfl, hP, hK⟩ := hv
  have hx := B.exec
  have hb := B.bytes
  have hr := B.returns
  have hts := atoms_spec (ws := (ws_ yJ1_sub cJ1_sub 3 (some .int))) B.pre
  have hts : ∀ w ∈ lw_all, w.before _ s = true := fun w h => hts w (List.mem_cons_of_mem _ h)
  have hown : s.vm.findClass RJ1 = some m.cls := findClass_of_methodNamed B.named
  have hlocks := B.notSynchronized
  have hl := lv_entry ([iv i, iv j, iv n9]) (n := 3) (Nat.le_of_ble_eq_true rfl)
  rw [lg_entry_eq]
  generalize (lg_sl ([iv i, iv j, iv n9]) ++ List.replicate (3 - (lg_sl ([iv i, iv j, iv n9])).length) Slot.unset).toArray = ls at hl ⊢
  have hl : lv_has ls 3 [(0, iv i), (1, iv j), (2, iv n9)] := hl
  refine lv_iload_n hx hb dJ1_sub_0 rfl (lv_at hl 0 rfl) ?_
  refine lv_iload_n hx hb dJ1_sub_1 rfl (lv_at hl 1 rfl) ?_
  refine n_isub hx hb dJ1_sub_2 ?_
  refine lv_dup hx hb dJ1_sub_3 rfl ?_
  refine lv_istore_n (lv' := [(0, iv (i - j)), (1, iv j), (2, iv n9)]) hx hb dJ1_sub_4 rfl hl (by decide) rfl (fun ls hl => ?_)
  refine n_if_ge (tgt := 12) hx hb dJ1_sub_5 (by decide) (by omega) (fun c_1 => ?_) (fun c_1 => ?_)
  · refine lv_iload_n hx hb dJ1_sub_12 rfl (lv_at hl 0 rfl) ?_
    have hfin : i - j = (if i - j < 0 then i - j + n9 else i - j) := by
      split <;> first | rfl | omega
    exact W.iret (v := iI (i - j)) hx hb hr (fun tt_ ht_ hW_ => ⟨iI (i - j), rfl, (congrArg iI hfin), ht_⟩) (fun q h => by cases h) dJ1_sub_13
  · refine lv_iload_n hx hb dJ1_sub_8 rfl (lv_at hl 0 rfl) ?_
    refine lv_iload_n hx hb dJ1_sub_9 rfl (lv_at hl 2 rfl) ?_
    refine n_iadd hx hb dJ1_sub_10 ?_
    refine lv_istore_n (lv' := [(0, iv ((i - j) + n9)), (1, iv j), (2, iv n9)]) hx hb dJ1_sub_11 rfl hl (by decide) rfl (fun ls hl => ?_)
    refine lv_iload_n hx hb dJ1_sub_12 rfl (lv_at hl 0 rfl) ?_
    have hfin : (i - j) + n9 = (if i - j < 0 then i - j + n9 else i - j) := by
      split <;> first | rfl | omega
    exact W.iret (v := iI ((i - j) + n9)) hx hb hr (fun tt_ ht_ hW_ => ⟨iI ((i - j) + n9), rfl, (congrArg iI hfin), ht_⟩) (fun q h => by cases h) dJ1_sub_13
set_option maxHeartbeats 4000000 in
set_option maxRecDepth 100000 in
theorem mt_J1_isEmpty (l : Launch) (E : EE) (da : Nat) (hd : Int) (tl : Int) (db : Nat) (fq : Int → Option Nat) (hh : 0 ≤ hd ∧ hd < 17) (ht : 0 ≤ tl ∧ tl < 17) : Met l yJ1_isEmpty (ws_ yJ1_isEmpty cJ1_isEmpty 1 (some .boolean)) { frames := 0, cells := 0, slots := 0, locals := 0 } (va_Pc [.ref da] (PW E (([(da, .inr (9, [.ref db, iv hd, iv tl]))]) ++ ([(db, qa (E.2 4) 17 fq)])))) (NP (b2 (decide (hd = tl)))) 0 0 (fun _ => False) := by
  refine Met.ofW (cc := cJ1_isEmpty) (maxL := 1) (ret := (some .boolean)) (by decide) rfl ?_
  intro p e s m args below meth c s₁ B hml hv
  obtain ⟨rfl, hP, hK⟩ := hv
  have hx := B.exec
  have hb := B.bytes
  have hr := B.returns
  have hts := atoms_spec (ws := (ws_ yJ1_isEmpty cJ1_isEmpty 1 (some .boolean))) B.pre
  have hts : ∀ w ∈ lw_all, w.before _ s = true := fun w h => hts w (List.mem_cons_of_mem _ h)
  have hown : s.vm.findClass RJ1 = some m.cls := findClass_of_methodNamed B.named
  have hlocks := B.notSynchronized
  have hl := lv_entry ([.ref da]) (n := 1) (Nat.le_of_ble_eq_true rfl)
  rw [lg_entry_eq]
  generalize (lg_sl ([.ref da]) ++ List.replicate (1 - (lg_sl ([.ref da])).length) Slot.unset).toArray = ls at hl ⊢
  have hl : lv_has ls 1 [(0, .ref da)] := hl
  refine lv_aload_n hx hb dJ1_isEmpty_0 rfl (lv_at hl 0 rfl) ?_
  refine va_get (D := E.1) (ci := 9) (v := iv hd) (C := RJ1) (T := TJ1) (N := 3) hx hb hts in_J1 hown hK.1 hP 0 rfl rfl 1 (by decide) (hts _ q254) (fun _ h9 => h9) rfl dJ1_isEmpty_1 ?_
  refine lv_aload_n hx hb dJ1_isEmpty_4 rfl (lv_at hl 0 rfl) ?_
  refine va_get (D := E.1) (ci := 9) (v := iv tl) (C := RJ1) (T := TJ1) (N := 3) hx hb hts in_J1 hown hK.1 hP 0 rfl rfl 2 (by decide) (hts _ q255) (fun _ h9 => h9) rfl dJ1_isEmpty_5 ?_
  refine n_icmp_ne (tgt := 15) hx hb dJ1_isEmpty_8 (by decide) (by omega) (by omega) (fun c_1 => ?_) (fun c_1 => ?_)
  · refine lv_iconst (v := iI 0) hx hb dJ1_isEmpty_15 rfl ?_
    have hfin : 0 = b2 (decide (hd = tl)) := by
      first | exact (b2_pos (by assumption)).symm | exact (b2_neg (by assumption)).symm
    exact W.zret (v := iI 0) hx hb hr (nr_b (by decide)) (fun tt_ ht_ hW_ => ⟨iI 0, rfl, (congrArg iI hfin), ht_⟩) (fun q h => by cases h) dJ1_isEmpty_16
  · refine lv_iconst (v := iI 1) hx hb dJ1_isEmpty_11 rfl ?_
    refine lv_goto (tgt := 16) hx hb dJ1_isEmpty_12 (by decide) ?_
    have hfin : 1 = b2 (decide (hd = tl)) := by
      first | exact (b2_pos (by assumption)).symm | exact (b2_neg (by assumption)).symm
    exact W.zret (v := iI 1) hx hb hr (nr_b (by decide)) (fun tt_ ht_ hW_ => ⟨iI 1, rfl, (congrArg iI hfin), ht_⟩) (fun q h => by cases h) dJ1_isEmpty_16
set_option maxHeartbeats 4000000 in
set_option maxRecDepth 100000 in
theorem mt_J1_size (l : Launch) (E : EE) (da : Nat) (hd : Int) (tl : Int) (db : Nat) (fq : Int → Option Nat) (hh : 0 ≤ hd ∧ hd < 17) (ht : 0 ≤ tl ∧ tl < 17) : Met l yJ1_size (ws_ yJ1_size cJ1_size 1 (some .int)) { frames := 1, cells := 0, slots := 0, locals := 22 } (va_Pc [.ref da] (PW E (([(da, .inr (9, [.ref db, iv hd, iv tl]))]) ++ ([(db, qa (E.2 4) 17 fq)])))) (NP (if tl - hd < 0 then tl - hd + 17 else tl - hd)) 0 0 (fun _ => False) := by
  refine Met.ofW (cc := cJ1_size) (maxL := 1) (ret := (some .int)) (by decide) rfl ?_
  intro p e s m args below meth c s₁ B hml hv
  obtain ⟨rfl, hP, hK⟩ := hv
  have hx := B.exec
  have hb := B.bytes
  have hr := B.returns
  have hts := atoms_spec (ws := (ws_ yJ1_size cJ1_size 1 (some .int))) B.pre
  have hts : ∀ w ∈ lw_all, w.before _ s = true := fun w h => hts w (List.mem_cons_of_mem _ h)
  have hown : s.vm.findClass RJ1 = some m.cls := findClass_of_methodNamed B.named
  have hlocks := B.notSynchronized
  have hl := lv_entry ([.ref da]) (n := 1) (Nat.le_of_ble_eq_true rfl)
  rw [lg_entry_eq]
  generalize (lg_sl ([.ref da]) ++ List.replicate (1 - (lg_sl ([.ref da])).length) Slot.unset).toArray = ls at hl ⊢
  have hl : lv_has ls 1 [(0, .ref da)] := hl
  refine lv_aload_n hx hb dJ1_size_0 rfl (lv_at hl 0 rfl) ?_
  refine va_get (D := E.1) (ci := 9) (v := iv tl) (C := RJ1) (T := TJ1) (N := 3) hx hb hts in_J1 hown hK.1 hP 0 rfl rfl 2 (by decide) (hts _ q255) (fun _ h9 => h9) rfl dJ1_size_1 ?_
  refine lv_aload_n hx hb dJ1_size_4 rfl (lv_at hl 0 rfl) ?_
  refine va_get (D := E.1) (ci := 9) (v := iv hd) (C := RJ1) (T := TJ1) (N := 3) hx hb hts in_J1 hown hK.1 hP 0 rfl rfl 1 (by decide) (hts _ q254) (fun _ h9 => h9) rfl dJ1_size_5 ?_
  refine lv_aload_n hx hb dJ1_size_8 rfl (lv_at hl 0 rfl) ?_
  refine va_get (D := E.1) (ci := 9) (v := .ref db) (C := RJ1) (T := TJ1) (N := 3) hx hb hts in_J1 hown hK.1 hP 0 rfl rfl 0 (by decide) (hts _ q253) (fun _ h9 => h9) rfl dJ1_size_9 ?_
  refine va_alen (v := iI 17) hx hb hK.1 hP 1 4 rfl rfl rfl dJ1_size_12 ?_
  refine n_csi (x := (if tl - hd < 0 then tl - hd + 17 else tl - hd)) (va_runS (As := [iv tl, iv hd, iv 17]) (rest := []) ⟨hx, hb, hml, hown, hts⟩ (mt_J1_sub l E tl hd 17 (by omega)) (va_cwS 3 hts (lw_S q2013 q2014 q98 q2015) rfl rfl rfl (by decide +kernel) ⟨Nat.le_of_ble_eq_true rfl, Nat.le_of_ble_eq_true rfl⟩) (PW_S (hP.sub (ws' := []) [] rfl) hK) rfl rfl hl.1 rfl (lv_room (Nat.le_of_ble_eq_true rfl)) dJ1_size_13 ⟨Nat.le_of_ble_eq_true rfl, Nat.le_of_ble_eq_true rfl⟩) ?_
  exact W.iret (v := iI (if tl - hd < 0 then tl - hd + 17 else tl - hd)) hx hb hr (fun tt_ ht_ hW_ => ⟨iI (if tl - hd < 0 then tl - hd + 17 else tl - hd), rfl, rfl, ht_⟩) (fun q h => by cases h) dJ1_size_16
set_option maxHeartbeats 4000000 in
set_option maxRecDepth 100000 in
theorem mt_J1_elementAt (l : Launch) (E : EE) (db : Nat) (fq : Int → Option Nat) (k : Int) (hk : 0 ≤ k ∧ k < 17) : Met l yJ1_elementAt (ws_ yJ1_elementAt cJ1_elementAt 2 (some (.object "java/lang/Object"))) { frames := 0, cells := 0, slots := 0, locals := 0 } (va_Pc [.ref db, iv k] (PW E ([(db, qa (E.2 4) 17 fq)]))) (NPq (fq k)) 0 0 (fun _ => False) := by
  refine Met.ofW (cc := cJ1_elementAt) (maxL := 2) (ret := (some (.object "java/lang/Object"))) (by decide) rfl ?_
  intro p e s m args below meth c s₁ B hml hv
  obtain ⟨rfl, hP, hK⟩ := hv
  have hx := B.exec
  have hb := B.bytes
  have hr := B.returns
  have hts := atoms_spec (ws := (ws_ yJ1_elementAt cJ1_elementAt 2 (some (.object "java/lang/Object")))) B.pre
  have hts : ∀ w ∈ lw_all, w.before _ s = true := fun w h => hts w (List.mem_cons_of_mem _ h)
  have hown : s.vm.findClass RJ1 = some m.cls := findClass_of_methodNamed B.named
  have hlocks := B.notSynchronized
  have hl := lv_entry ([.ref db, iv k]) (n := 2) (Nat.le_of_ble_eq_true rfl)
  rw [lg_entry_eq]
  generalize (lg_sl ([.ref db, iv k]) ++ List.replicate (2 - (lg_sl ([.ref db, iv k])).length) Slot.unset).toArray = ls at hl ⊢
  have hl : lv_has ls 2 [(0, .ref db), (1, iv k)] := hl
  refine lv_aload_n hx hb dJ1_elementAt_0 rfl (lv_at hl 0 rfl) ?_
  refine lv_iload_n hx hb dJ1_elementAt_1 rfl (lv_at hl 1 rfl) ?_
  refine n_qald (f := fq) hx hb hK hP 0 4 rfl rfl (by omega) (by decide) dJ1_elementAt_2 ?_
  exact W.aret hx hb hr (Or.inl ⟨_, rfl⟩) (va_rf_or _) (fun tt_ ht_ hW_ => ⟨rfl, ht_⟩) (fun q h => by cases h) dJ1_elementAt_3
