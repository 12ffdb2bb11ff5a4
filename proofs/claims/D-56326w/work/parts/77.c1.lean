set_option maxHeartbeats 4000000 in
set_option maxRecDepth 100000 in
theorem mt_X1_checkArgument (l : Launch) (E : EE)  (z : Bool) (hst : l.stackTraces = false) (sz : Nat) : vx_Met l yX1_checkArgument (ws_ yX1_checkArgument cX1_checkArgument 1 none) { frames := 6, cells := 1, slots := 6, locals := 92 } (va_Pc [iv (b2 z)] (UX E ([]) sz)) (UQxv E (fun u : Unit => z = true) (fun u : Unit => []) (va_A ([]) sz)) (UXx E (fun (En : String) (u : Unit) => En = "java/lang/IllegalArgumentException" ∧ z = false) (fun u : Unit => []) (fun u : Unit => none) (va_A ([]) sz)) 1 6 (va_A ([]) sz) := by
  refine vx_ofW (cc := cX1_checkArgument) (maxL := 1) (ret := none) (by decide) rfl ?_
  intro p e s m args below meth c s₁ B hml htb hv
  obtain ⟨rfl, hsz, hP, hK, hD0, hE⟩ := hv
  have hx := B.exec
  have hb := B.bytes
  have hr := B.returns
  have hts := atoms_spec (ws := (ws_ yX1_checkArgument cX1_checkArgument 1 none)) B.pre
  have hts : ∀ w ∈ lw_all, w.before _ s = true := fun w h => hts w (List.mem_cons_of_mem _ h)
  have hown : s.vm.findClass RX1 = some m.cls := findClass_of_methodNamed B.named
  have hlocks := B.notSynchronized
  subst hsz
  have hD := hD0.self (sz := s.heap.size)
  generalize hAe : va_A ([]) s.heap.size = A at hD hE ⊢
  have hA : ∀ q : Nat, s.heap.size ≤ q → A q := fun q h => by rw [← hAe]; exact Or.inr h
  have hS : va_S A s.heap s.heap [] := va_S.rf
  have hl := lv_entry ([iv (b2 z)]) (n := 1) (Nat.le_of_ble_eq_true rfl)
  rw [lg_entry_eq]
  generalize (lg_sl ([iv (b2 z)]) ++ List.replicate (1 - (lg_sl ([iv (b2 z)])).length) Slot.unset).toArray = ls at hl ⊢
  have hl : lv_has ls 1 [(0, iv (b2 z))] := hl
  refine lv_iload_n hx hb dX1_checkArgument_0 rfl (lv_at hl 0 rfl) ?_
  refine n_ifb_ne (tgt := 12) hx hb dX1_checkArgument_1 (by decide) (fun c_1 => ?_) (fun c_1 => ?_)
  · refine vx_ret ?_
    refine W.widen (k := 1) (n := 6) (Nat.le_of_ble_eq_true rfl) (Nat.le_of_ble_eq_true rfl) ?_
    exact W.vret hx hb hr (fun tt_ ht_ hW_ => ⟨⟨(), rfl, by assumption, by rw [ht_]; exact hP, hD⟩, hS.F ht_⟩) hS.2.2 dX1_checkArgument_12
  · exact n_throw0 () hx hb hst (own := RX1) (cls := "java/lang/IllegalArgumentException") (by exact ⟨rfl, by assumption⟩) rfl (names := ["java/lang/RuntimeException", "java/lang/Exception"]) (ik := 68) (ic := 70) hP hD hE hA hown (by decide +kernel) (by decide +kernel) (xl_use hK hts x_IAE) hS (hl.1.trans hml.symm) dX1_checkArgument_4 dX1_checkArgument_7 dX1_checkArgument_8 dX1_checkArgument_11 (fun x hx9 => (htb x hx9).elim) (Nat.le_of_ble_eq_true rfl) (Nat.le_of_ble_eq_true rfl) (Nat.le_of_ble_eq_true rfl) (Nat.le_of_ble_eq_true rfl) hlocks (Nat.le_of_ble_eq_true rfl) (Nat.le_of_ble_eq_true rfl)
set_option maxHeartbeats 4000000 in
set_option maxRecDepth 100000 in
theorem mt_X1_checkElement (l : Launch) (E : EE)  (z : Bool) (hst : l.stackTraces = false) (sz : Nat) : vx_Met l yX1_checkElement (ws_ yX1_checkElement cX1_checkElement 1 none) { frames := 6, cells := 1, slots := 6, locals := 92 } (va_Pc [iv (b2 z)] (UX E ([]) sz)) (UQxv E (fun u : Unit => z = true) (fun u : Unit => []) (va_A ([]) sz)) (UXx E (fun (En : String) (u : Unit) => En = "java/util/NoSuchElementException" ∧ z = false) (fun u : Unit => []) (fun u : Unit => none) (va_A ([]) sz)) 1 6 (va_A ([]) sz) := by
  refine vx_ofW (cc := cX1_checkElement) (maxL := 1) (ret := none) (by decide) rfl ?_
  intro p e s m args below meth c s₁ B hml htb hv
  obtain ⟨rfl, hsz, hP, hK, hD0, hE⟩ := hv
  have hx := B.exec
  have hb := B.bytes
  have hr := B.returns
  have hts := atoms_spec (ws := (ws_ yX1_checkElement cX1_checkElement 1 none)) B.pre
  have hts : ∀ w ∈ lw_all, w.before _ s = true := fun w h => hts w (List.mem_cons_of_mem _ h)
  have hown : s.vm.findClass RX1 = some m.cls := findClass_of_methodNamed B.named
  have hlocks := B.notSynchronized
  subst hsz
  have hD := hD0.self (sz := s.heap.size)
  generalize hAe : va_A ([]) s.heap.size = A at hD hE ⊢
  have hA : ∀ q : Nat, s.heap.size ≤ q → A q := fun q h => by rw [← hAe]; exact Or.inr h
  have hS : va_S A s.heap s.heap [] := va_S.rf
  have hl := lv_entry ([iv (b2 z)]) (n := 1) (Nat.le_of_ble_eq_true rfl)
  rw [lg_entry_eq]
  generalize (lg_sl ([iv (b2 z)]) ++ List.replicate (1 - (lg_sl ([iv (b2 z)])).length) Slot.unset).toArray = ls at hl ⊢
  have hl : lv_has ls 1 [(0, iv (b2 z))] := hl
  refine lv_iload_n hx hb dX1_checkElement_0 rfl (lv_at hl 0 rfl) ?_
  refine n_ifb_ne (tgt := 12) hx hb dX1_checkElement_1 (by decide) (fun c_1 => ?_) (fun c_1 => ?_)
  · refine vx_ret ?_
    refine W.widen (k := 1) (n := 6) (Nat.le_of_ble_eq_true rfl) (Nat.le_of_ble_eq_true rfl) ?_
    exact W.vret hx hb hr (fun tt_ ht_ hW_ => ⟨⟨(), rfl, by assumption, by rw [ht_]; exact hP, hD⟩, hS.F ht_⟩) hS.2.2 dX1_checkElement_12
  · exact n_throw0 () hx hb hst (own := RX1) (cls := "java/util/NoSuchElementException") (by exact ⟨rfl, by assumption⟩) rfl (names := ["java/lang/RuntimeException", "java/lang/Exception"]) (ik := 71) (ic := 73) hP hD hE hA hown (by decide +kernel) (by decide +kernel) (xl_use hK hts x_NSE) hS (hl.1.trans hml.symm) dX1_checkElement_4 dX1_checkElement_7 dX1_checkElement_8 dX1_checkElement_11 (fun x hx9 => (htb x hx9).elim) (Nat.le_of_ble_eq_true rfl) (Nat.le_of_ble_eq_true rfl) (Nat.le_of_ble_eq_true rfl) (Nat.le_of_ble_eq_true rfl) hlocks (Nat.le_of_ble_eq_true rfl) (Nat.le_of_ble_eq_true rfl)
set_option maxHeartbeats 4000000 in
set_option maxRecDepth 100000 in
theorem mt_X1_checkState (l : Launch) (E : EE)  (z : Bool) (hst : l.stackTraces = false) (sz : Nat) : vx_Met l yX1_checkState (ws_ yX1_checkState cX1_checkState 1 none) { frames := 6, cells := 1, slots := 6, locals := 92 } (va_Pc [iv (b2 z)] (UX E ([]) sz)) (UQxv E (fun u : Unit => z = true) (fun u : Unit => []) (va_A ([]) sz)) (UXx E (fun (En : String) (u : Unit) => En = "java/lang/IllegalStateException" ∧ z = false) (fun u : Unit => []) (fun u : Unit => none) (va_A ([]) sz)) 1 6 (va_A ([]) sz) := by
  refine vx_ofW (cc := cX1_checkState) (maxL := 1) (ret := none) (by decide) rfl ?_
  intro p e s m args below meth c s₁ B hml htb hv
  obtain ⟨rfl, hsz, hP, hK, hD0, hE⟩ := hv
  have hx := B.exec
  have hb := B.bytes
  have hr := B.returns
  have hts := atoms_spec (ws := (ws_ yX1_checkState cX1_checkState 1 none)) B.pre
  have hts : ∀ w ∈ lw_all, w.before _ s = true := fun w h => hts w (List.mem_cons_of_mem _ h)
  have hown : s.vm.findClass RX1 = some m.cls := findClass_of_methodNamed B.named
  have hlocks := B.notSynchronized
  subst hsz
  have hD := hD0.self (sz := s.heap.size)
  generalize hAe : va_A ([]) s.heap.size = A at hD hE ⊢
  have hA : ∀ q : Nat, s.heap.size ≤ q → A q := fun q h => by rw [← hAe]; exact Or.inr h
  have hS : va_S A s.heap s.heap [] := va_S.rf
  have hl := lv_entry ([iv (b2 z)]) (n := 1) (Nat.le_of_ble_eq_true rfl)
  rw [lg_entry_eq]
  generalize (lg_sl ([iv (b2 z)]) ++ List.replicate (1 - (lg_sl ([iv (b2 z)])).length) Slot.unset).toArray = ls at hl ⊢
  have hl : lv_has ls 1 [(0, iv (b2 z))] := hl
  refine lv_iload_n hx hb dX1_checkState_0 rfl (lv_at hl 0 rfl) ?_
  refine n_ifb_ne (tgt := 12) hx hb dX1_checkState_1 (by decide) (fun c_1 => ?_) (fun c_1 => ?_)
  · refine vx_ret ?_
    refine W.widen (k := 1) (n := 6) (Nat.le_of_ble_eq_true rfl) (Nat.le_of_ble_eq_true rfl) ?_
    exact W.vret hx hb hr (fun tt_ ht_ hW_ => ⟨⟨(), rfl, by assumption, by rw [ht_]; exact hP, hD⟩, hS.F ht_⟩) hS.2.2 dX1_checkState_12
  · exact n_throw0 () hx hb hst (own := RX1) (cls := "java/lang/IllegalStateException") (by exact ⟨rfl, by assumption⟩) rfl (names := ["java/lang/RuntimeException", "java/lang/Exception"]) (ik := 74) (ic := 76) hP hD hE hA hown (by decide +kernel) (by decide +kernel) (xl_use hK hts x_ISE) hS (hl.1.trans hml.symm) dX1_checkState_4 dX1_checkState_7 dX1_checkState_8 dX1_checkState_11 (fun x hx9 => (htb x hx9).elim) (Nat.le_of_ble_eq_true rfl) (Nat.le_of_ble_eq_true rfl) (Nat.le_of_ble_eq_true rfl) (Nat.le_of_ble_eq_true rfl) hlocks (Nat.le_of_ble_eq_true rfl) (Nat.le_of_ble_eq_true rfl)
set_option maxHeartbeats 4000000 in
set_option maxRecDepth 100000 in
theorem mt_X1_checkIndex (l : Launch) (E : EE)  (z : Bool) (hst : l.stackTraces = false) (sz : Nat) : vx_Met l yX1_checkIndex (ws_ yX1_checkIndex cX1_checkIndex 1 none) { frames := 6, cells := 1, slots := 6, locals := 92 } (va_Pc [iv (b2 z)] (UX E ([]) sz)) (UQxv E (fun u : Unit => z = true) (fun u : Unit => []) (va_A ([]) sz)) (UXx E (fun (En : String) (u : Unit) => En = "java/lang/IndexOutOfBoundsException" ∧ z = false) (fun u : Unit => []) (fun u : Unit => none) (va_A ([]) sz)) 1 6 (va_A ([]) sz) := by
  refine vx_ofW (cc := cX1_checkIndex) (maxL := 1) (ret := none) (by decide) rfl ?_
  intro p e s m args below meth c s₁ B hml htb hv
  obtain ⟨rfl, hsz, hP, hK, hD0, hE⟩ := hv
  have hx := B.exec
  have hb := B.bytes
  have hr := B.returns
  have hts := atoms_spec (ws := (ws_ yX1_checkIndex cX1_checkIndex 1 none)) B.pre
  have hts : ∀ w ∈ lw_all, w.before _ s = true := fun w h => hts w (List.mem_cons_of_mem _ h)
  have hown : s.vm.findClass RX1 = some m.cls := findClass_of_methodNamed B.named
  have hlocks := B.notSynchronized
  subst hsz
  have hD := hD0.self (sz := s.heap.size)
  generalize hAe : va_A ([]) s.heap.size = A at hD hE ⊢
  have hA : ∀ q : Nat, s.heap.size ≤ q → A q := fun q h => by rw [← hAe]; exact Or.inr h
  have hS : va_S A s.heap s.heap [] := va_S.rf
  have hl := lv_entry ([iv (b2 z)]) (n := 1) (Nat.le_of_ble_eq_true rfl)
  rw [lg_entry_eq]
  generalize (lg_sl ([iv (b2 z)]) ++ List.replicate (1 - (lg_sl ([iv (b2 z)])).length) Slot.unset).toArray = ls at hl ⊢
  have hl : lv_has ls 1 [(0, iv (b2 z))] := hl
  refine lv_iload_n hx hb dX1_checkIndex_0 rfl (lv_at hl 0 rfl) ?_
  refine n_ifb_ne (tgt := 12) hx hb dX1_checkIndex_1 (by decide) (fun c_1 => ?_) (fun c_1 => ?_)
  · refine vx_ret ?_
    refine W.widen (k := 1) (n := 6) (Nat.le_of_ble_eq_true rfl) (Nat.le_of_ble_eq_true rfl) ?_
    exact W.vret hx hb hr (fun tt_ ht_ hW_ => ⟨⟨(), rfl, by assumption, by rw [ht_]; exact hP, hD⟩, hS.F ht_⟩) hS.2.2 dX1_checkIndex_12
  · exact n_throw0 () hx hb hst (own := RX1) (cls := "java/lang/IndexOutOfBoundsException") (by exact ⟨rfl, by assumption⟩) rfl (names := ["java/lang/RuntimeException", "java/lang/Exception"]) (ik := 77) (ic := 79) hP hD hE hA hown (by decide +kernel) (by decide +kernel) (xl_use hK hts x_IOB) hS (hl.1.trans hml.symm) dX1_checkIndex_4 dX1_checkIndex_7 dX1_checkIndex_8 dX1_checkIndex_11 (fun x hx9 => (htb x hx9).elim) (Nat.le_of_ble_eq_true rfl) (Nat.le_of_ble_eq_true rfl) (Nat.le_of_ble_eq_true rfl) (Nat.le_of_ble_eq_true rfl) hlocks (Nat.le_of_ble_eq_true rfl) (Nat.le_of_ble_eq_true rfl)
set_option maxHeartbeats 4000000 in
set_option maxRecDepth 100000 in
theorem mt_X1_checkAny (l : Launch) (E : EE)  (v : Int) (hst : l.stackTraces = false) (h1 : -2147483648 ≤ v ∧ v < 2147483648) (sz : Nat) : vx_Met l yX1_checkAny (ws_ yX1_checkAny cX1_checkAny 1 none) { frames := 6, cells := 1, slots := 6, locals := 92 } (va_Pc [iv v] (UX E ([]) sz)) (UQxv E (fun u : Unit => ¬ v = 0) (fun u : Unit => []) (va_A ([]) sz)) (UXx E (fun (En : String) (u : Unit) => En = "java/lang/ArithmeticException" ∧ v = 0) (fun u : Unit => []) (fun u : Unit => none) (va_A ([]) sz)) 1 6 (va_A ([]) sz) := by
  refine vx_ofW (cc := cX1_checkAny) (maxL := 1) (ret := none) (by decide) rfl ?_
  intro p e s m args below meth c s₁ B hml htb hv
  obtain ⟨rfl, hsz, hP, hK, hD0, hE⟩ := hv
  have hx := B.exec
  have hb := B.bytes
  have hr := B.returns
  have hts := atoms_spec (ws := (ws_ yX1_checkAny cX1_checkAny 1 none)) B.pre
  have hts : ∀ w ∈ lw_all, w.before _ s = true := fun w h => hts w (List.mem_cons_of_mem _ h)
  have hown : s.vm.findClass RX1 = some m.cls := findClass_of_methodNamed B.named
  have hlocks := B.notSynchronized
  subst hsz
  have hD := hD0.self (sz := s.heap.size)
  generalize hAe : va_A ([]) s.heap.size = A at hD hE ⊢
  have hA : ∀ q : Nat, s.heap.size ≤ q → A q := fun q h => by rw [← hAe]; exact Or.inr h
  have hS : va_S A s.heap s.heap [] := va_S.rf
  have hl := lv_entry ([iv v]) (n := 1) (Nat.le_of_ble_eq_true rfl)
  rw [lg_entry_eq]
  generalize (lg_sl ([iv v]) ++ List.replicate (1 - (lg_sl ([iv v])).length) Slot.unset).toArray = ls at hl ⊢
  have hl : lv_has ls 1 [(0, iv v)] := hl
  refine lv_iload_n hx hb dX1_checkAny_0 rfl (lv_at hl 0 rfl) ?_
  refine n_if_ne (tgt := 12) hx hb dX1_checkAny_1 (by decide) (by omega) (fun c_1 => ?_) (fun c_1 => ?_)
  · refine vx_ret ?_
    refine W.widen (k := 1) (n := 6) (Nat.le_of_ble_eq_true rfl) (Nat.le_of_ble_eq_true rfl) ?_
    exact W.vret hx hb hr (fun tt_ ht_ hW_ => ⟨⟨(), rfl, by assumption, by rw [ht_]; exact hP, hD⟩, hS.F ht_⟩) hS.2.2 dX1_checkAny_12
  · exact n_throw0 () hx hb hst (own := RX1) (cls := "java/lang/ArithmeticException") (by exact ⟨rfl, by assumption⟩) rfl (names := ["java/lang/RuntimeException", "java/lang/Exception"]) (ik := 84) (ic := 86) hP hD hE hA hown (by decide +kernel) (by decide +kernel) (xl_use hK hts x_ARI) hS (hl.1.trans hml.symm) dX1_checkAny_4 dX1_checkAny_7 dX1_checkAny_8 dX1_checkAny_11 (fun x hx9 => (htb x hx9).elim) (Nat.le_of_ble_eq_true rfl) (Nat.le_of_ble_eq_true rfl) (Nat.le_of_ble_eq_true rfl) (Nat.le_of_ble_eq_true rfl) hlocks (Nat.le_of_ble_eq_true rfl) (Nat.le_of_ble_eq_true rfl)
set_option maxHeartbeats 4000000 in
set_option maxRecDepth 100000 in
theorem mt_X1_found (l : Launch) (E : EE)  (v : Int) (hst : l.stackTraces = false) (h1 : -2147483648 ≤ v ∧ v < 2147483648) (sz : Nat) : vx_Met l yX1_found (ws_ yX1_found cX1_found 1 (some .int)) { frames := 7, cells := 1, slots := 6, locals := 112 } (va_Pc [iv v] (UX E ([]) sz)) (UQx E (fun u : Unit => ¬ v = -1) (fun u : Unit => v) (fun u : Unit => []) (va_A ([]) sz)) (UXx E (fun (En : String) (u : Unit) => En = "java/util/NoSuchElementException" ∧ v = -1) (fun u : Unit => []) (fun u : Unit => none) (va_A ([]) sz)) 1 6 (va_A ([]) sz) := by
  refine vx_ofW (cc := cX1_found) (maxL := 1) (ret := (some .int)) (by decide) rfl ?_
  intro p e s m args below meth c s₁ B hml htb hv
  obtain ⟨rfl, hsz, hP, hK, hD0, hE⟩ := hv
  have hx := B.exec
  have hb := B.bytes
  have hr := B.returns
  have hts := atoms_spec (ws := (ws_ yX1_found cX1_found 1 (some .int))) B.pre
  have hts : ∀ w ∈ lw_all, w.before _ s = true := fun w h => hts w (List.mem_cons_of_mem _ h)
  have hown : s.vm.findClass RX1 = some m.cls := findClass_of_methodNamed B.named
  have hlocks := B.notSynchronized
  subst hsz
  have hD := hD0.self (sz := s.heap.size)
  generalize hAe : va_A ([]) s.heap.size = A at hD hE ⊢
  have hA : ∀ q : Nat, s.heap.size ≤ q → A q := fun q h => by rw [← hAe]; exact Or.inr h
  have hS : va_S A s.heap s.heap [] := va_S.rf
  have hl := lv_entry ([iv v]) (n := 1) (Nat.le_of_ble_eq_true rfl)
  rw [lg_entry_eq]
  generalize (lg_sl ([iv v]) ++ List.replicate (1 - (lg_sl ([iv v])).length) Slot.unset).toArray = ls at hl ⊢
  have hl : lv_has ls 1 [(0, iv v)] := hl
  have j_1 : W p l e (headSpec (ws_ yX1_found cX1_found 1 (some .int)) { frames := 7, cells := 1, slots := 6, locals := 112 }).room s m ([iv v] : List Value).toArray below meth c s.heap [] 0 0 (vx_MQ below (UQx E (fun u : Unit => ¬ v = -1) (fun u : Unit => v) (fun u : Unit => []) A) (UXx E (fun (En : String) (u : Unit) => En = "java/util/NoSuchElementException" ∧ v = -1) (fun u : Unit => []) (fun u : Unit => none) A) ([iv v] : List Value).toArray s 1 6 A) (F0 m 10 ls [iv (b2 (decide (¬ v = -1)))]) := by
    have hz_2 : s.heap.size ≤ s.heap.size := hS.1
    refine n_txvS (w2 := fun u_3 => []) (w3 := fun u_4 => []) (vx_runS (As := [iv (b2 (decide (¬ v = -1)))]) (rest := []) ⟨hx, hb, hml, hown, hts⟩ (mt_X1_checkElement l E (decide (¬ v = -1)) (by exact hst) _) (va_cwS 1 hts (lw_S q1040 q972 q94 q973) rfl rfl rfl (by decide +kernel) ⟨Nat.le_of_ble_eq_true rfl, Nat.le_of_ble_eq_true rfl⟩) (UX_S hP hK (hD) hE hS (va_A_in hD hS hA)) rfl rfl hl.1 rfl (lv_room (Nat.le_of_ble_eq_true rfl)) dX1_found_10 ⟨Nat.le_of_ble_eq_true rfl, Nat.le_of_ble_eq_true rfl⟩) hP hD hS hA [] [] [] [] rfl rfl rfl rfl rfl (fun _ => rfl) rfl (fun _ => rfl) ?_ ?_
    · intro En ce q9 u_4 H locs hCx hP hD hS hxf hq9 hce hcv hcl
      have hCx : En = "java/util/NoSuchElementException" ∧ (decide (¬ v = -1)) = false := hCx
      have hP : va_P E.1 CL ([]) H := hP
      have hD : va_D A ([]) := hD
      exact n_out () (by have q9 := of_decide_eq_false hCx.2; exact ⟨hCx.1, by omega⟩) hP hD hS hxf (Nat.le_trans hz_2 hq9) hce hcv hcl (fun x hx9 => (htb x hx9).elim) hlocks (Nat.le_of_ble_eq_true rfl) (Nat.le_of_ble_eq_true rfl)
    · intro u_3 H locs hC hP hD hS
      have hu_3 : (decide (¬ v = -1)) = true := hC
      have hP : va_P E.1 CL ([]) H := hP
      have hD : va_D A ([]) := hD
      have hne := of_decide_eq_true (by assumption)
      refine lv_iload_n hx hb dX1_found_13 rfl (lv_at hl 0 rfl) ?_
      refine vx_ret ?_
      refine W.widen (k := 1) (n := 6) (Nat.le_of_ble_eq_true rfl) (Nat.le_of_ble_eq_true rfl) ?_
      exact W.iret (v := iI v) hx hb hr (fun tt_ ht_ hW_ => ⟨⟨iI v, (), rfl, ⟨by assumption, rfl⟩, by rw [ht_]; exact hP, hD⟩, hS.F ht_⟩) hS.2.2 dX1_found_14
  refine lv_iload_n hx hb dX1_found_0 rfl (lv_at hl 0 rfl) ?_
  refine lv_iconst (v := iI (-1)) hx hb dX1_found_1 rfl ?_
  refine n_icmp_eq (tgt := 9) hx hb dX1_found_2 (by decide) (by omega) (by omega) (fun c_5 => ?_) (fun c_5 => ?_)
  · refine lv_iconst (v := iI 0) hx hb dX1_found_9 rfl ?_
    refine n_top (y := b2 (decide (¬ v = -1))) (by first | exact (b2_pos (by assumption)).symm | exact (b2_neg (by omega)).symm) ?_
    exact j_1
  · refine lv_iconst (v := iI 1) hx hb dX1_found_5 rfl ?_
    refine lv_goto (tgt := 10) hx hb dX1_found_6 (by decide) ?_
    refine n_top (y := b2 (decide (¬ v = -1))) (by first | exact (b2_pos (by assumption)).symm | exact (b2_neg (by omega)).symm) ?_
    exact j_1
set_option maxHeartbeats 4000000 in
set_option maxRecDepth 100000 in
theorem mt_X1_indexOf (l : Launch) (E : EE)  (v : Int) (hst : l.stackTraces = false) (h1 : 0 ≤ v ∧ v < 65536) (sz : Nat) : vx_Met l yX1_indexOf (ws_ yX1_indexOf cX1_indexOf 1 (some .int)) { frames := 7, cells := 1, slots := 6, locals := 112 } (va_Pc [iv v] (UX E ([]) sz)) (UQx E (fun u : Unit => 97 ≤ v ∧ v ≤ 104) (fun u : Unit => v - 97) (fun u : Unit => []) (va_A ([]) sz)) (UXx E (fun (En : String) (u : Unit) => En = "java/lang/IllegalArgumentException" ∧ ¬ (97 ≤ v ∧ v ≤ 104)) (fun u : Unit => []) (fun u : Unit => none) (va_A ([]) sz)) 1 6 (va_A ([]) sz) := by
  refine vx_ofW (cc := cX1_indexOf) (maxL := 1) (ret := (some .int)) (by decide) rfl ?_
  intro p e s m args below meth c s₁ B hml htb hv
  obtain ⟨rfl, hsz, hP, hK, hD0, hE⟩ := hv
  have hx := B.exec
  have hb := B.bytes
  have hr := B.returns
  have hts := atoms_spec (ws := (ws_ yX1_indexOf cX1_indexOf 1 (some .int))) B.pre
  have hts : ∀ w ∈ lw_all, w.before _ s = true := fun w h => hts w (List.mem_cons_of_mem _ h)
  have hown : s.vm.findClass RX1 = some m.cls := findClass_of_methodNamed B.named
  have hlocks := B.notSynchronized
  subst hsz
  have hD := hD0.self (sz := s.heap.size)
  generalize hAe : va_A ([]) s.heap.size = A at hD hE ⊢
  have hA : ∀ q : Nat, s.heap.size ≤ q → A q := fun q h => by rw [← hAe]; exact Or.inr h
  have hS : va_S A s.heap s.heap [] := va_S.rf
  have hl := lv_entry ([iv v]) (n := 1) (Nat.le_of_ble_eq_true rfl)
  rw [lg_entry_eq]
  generalize (lg_sl ([iv v]) ++ List.replicate (1 - (lg_sl ([iv v])).length) Slot.unset).toArray = ls at hl ⊢
  have hl : lv_has ls 1 [(0, iv v)] := hl
  refine lv_iload_n hx hb dX1_indexOf_0 rfl (lv_at hl 0 rfl) ?_
  refine n_csi (x := b2 (decide (97 ≤ v ∧ v ≤ 104))) (va_runS (As := [iv v]) (rest := []) ⟨hx, hb, hml, hown, hts⟩ (mt_X1_isTool l E v (by omega)) (va_cwS 1 hts (lw_S q965 q880 q94 q881) rfl rfl rfl (by decide +kernel) ⟨Nat.le_of_ble_eq_true rfl, Nat.le_of_ble_eq_true rfl⟩) (PW_S hP hK) rfl rfl hl.1 rfl (lv_room (Nat.le_of_ble_eq_true rfl)) dX1_indexOf_1 ⟨Nat.le_of_ble_eq_true rfl, Nat.le_of_ble_eq_true rfl⟩) ?_
  have hz_1 : s.heap.size ≤ s.heap.size := hS.1
  refine n_txvS (w2 := fun u_2 => []) (w3 := fun u_3 => []) (vx_runS (As := [iv (b2 (decide (97 ≤ v ∧ v ≤ 104)))]) (rest := []) ⟨hx, hb, hml, hown, hts⟩ (mt_X1_checkArgument l E (decide (97 ≤ v ∧ v ≤ 104)) (by exact hst) _) (va_cwS 1 hts (lw_S q966 q890 q94 q891) rfl rfl rfl (by decide +kernel) ⟨Nat.le_of_ble_eq_true rfl, Nat.le_of_ble_eq_true rfl⟩) (UX_S hP hK (hD) hE hS (va_A_in hD hS hA)) rfl rfl hl.1 rfl (lv_room (Nat.le_of_ble_eq_true rfl)) dX1_indexOf_4 ⟨Nat.le_of_ble_eq_true rfl, Nat.le_of_ble_eq_true rfl⟩) hP hD hS hA [] [] [] [] rfl rfl rfl rfl rfl (fun _ => rfl) rfl (fun _ => rfl) ?_ ?_
  · intro En ce q9 u_3 H locs hCx hP hD hS hxf hq9 hce hcv hcl
    have hCx : En = "java/lang/IllegalArgumentException" ∧ (decide (97 ≤ v ∧ v ≤ 104)) = false := hCx
    have hP : va_P E.1 CL ([]) H := hP
    have hD : va_D A ([]) := hD
    exact n_out () (by exact ⟨hCx.1, of_decide_eq_false hCx.2⟩) hP hD hS hxf (Nat.le_trans hz_1 hq9) hce hcv hcl (fun x hx9 => (htb x hx9).elim) hlocks (Nat.le_of_ble_eq_true rfl) (Nat.le_of_ble_eq_true rfl)
  · intro u_2 H locs hC hP hD hS
    have hu_2 : (decide (97 ≤ v ∧ v ≤ 104)) = true := hC
    have hP : va_P E.1 CL ([]) H := hP
    have hD : va_D A ([]) := hD
    refine lv_iload_n hx hb dX1_indexOf_7 rfl (lv_at hl 0 rfl) ?_
    refine lv_bipush (v := iI 97) hx hb dX1_indexOf_8 (by decide) ?_
    refine n_isub hx hb dX1_indexOf_10 ?_
    refine vx_ret ?_
    refine W.widen (k := 1) (n := 6) (Nat.le_of_ble_eq_true rfl) (Nat.le_of_ble_eq_true rfl) ?_
    exact W.iret (v := iI (v - 97)) hx hb hr (fun tt_ ht_ hW_ => ⟨⟨iI (v - 97), (), rfl, ⟨of_decide_eq_true (by assumption), rfl⟩, by rw [ht_]; exact hP, hD⟩, hS.F ht_⟩) hS.2.2 dX1_indexOf_11
