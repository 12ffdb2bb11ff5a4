set_option maxHeartbeats 1000000 in
set_option maxRecDepth 100000 in
theorem mt_X6_init_2 (l : Launch) (E : EE) (q : Nat) (fs : List Value) (r9 : Int) (d9 : Int) (oz : Option Nat) (hst : l.stackTraces = false) (sz : Nat) : Met l yX6_init_2 (ws_ yX6_init_2 cX6_init_2 4 none) { frames := 4, cells := 0, slots := 0, locals := 60 } (va_Pc [.ref q, iv r9, iv d9, va_rf oz] (UF E 5 q ([(q, .inr (5, fs))]) sz)) (UQxv E (fun u : List Value => u.length = 6) (fun u : List Value => [(q, .inr (5, u ++ [iv r9, iv d9, va_rf oz]))]) (va_A ([(q, .inr (5, fs))]) sz)) 0 0 (va_A ([(q, .inr (5, fs))]) sz) := by
  refine Met.ofW (cc := cX6_init_2) (maxL := 4) (ret := none) (by decide) rfl ?_
  intro p e s m args below meth c s₁ B hml hv
  obtain ⟨rfl, hsz, hP, hK, hD0, hE, hfr⟩ := hv
  have hx := B.exec
  have hb := B.bytes
  have hr := B.returns
  have hts := atoms_spec (ws := (ws_ yX6_init_2 cX6_init_2 4 none)) B.pre
  have hts : ∀ w ∈ lw_all, w.before _ s = true := fun w h => hts w (List.mem_cons_of_mem _ h)
  have hown : s.vm.findClass RX6 = some m.cls := findClass_of_methodNamed B.named
  have hlocks := B.notSynchronized
  have hin : meth.name = "<init>" := (name_of_methodNamed B.named B.method).1
  subst hsz
  have hD := hD0.self (sz := s.heap.size)
  generalize hAe : va_A ([(q, .inr (5, fs))]) s.heap.size = A at hD hE ⊢
  have hA : ∀ q : Nat, s.heap.size ≤ q → A q := fun q h => by rw [← hAe]; exact Or.inr h
  have hS : va_S A s.heap s.heap [] := va_S.rf
  have hl := lv_entry ([.ref q, iv r9, iv d9, va_rf oz]) (n := 4) (by cases oz <;> exact Nat.le_of_ble_eq_true rfl)
  rw [lg_entry_eq]
  generalize (lg_sl ([.ref q, iv r9, iv d9, va_rf oz]) ++ List.replicate (4 - (lg_sl ([.ref q, iv r9, iv d9, va_rf oz])).length) Slot.unset).toArray = ls at hl ⊢
  have hl : lv_has ls 4 [(0, .ref q), (1, iv r9), (2, iv d9), (3, va_rf oz)] := hl
  refine lv_aload_n hx hb dX6_init_2_0 rfl (lv_at hl 0 rfl) ?_
  refine n_superX hx hb hst (own := RX6) (obj := "ClockworkTailor$Refusal") (T0 := TX6) hown (xl_use hK hts sx_X6) rfl hK hE hP hD hS hfr (hl.1.trans hml.symm) dX6_init_2_1 (Nat.le_of_ble_eq_true rfl) (Nat.le_of_ble_eq_true rfl) ⟨Nat.zero_le _, Nat.zero_le _⟩ (fun gs_1 H locs hgl hP hD hS => ?_)
  obtain ⟨gs_1v0, gs_1v1, gs_1v2, gs_1v3, gs_1v4, gs_1v5, gs_1v6, gs_1v7, gs_1v8, rfl⟩ := lst_9 hgl
  have hP : va_P E.1 CL ([(q, .inr (5, [gs_1v0, gs_1v1, gs_1v2, gs_1v3, gs_1v4, gs_1v5, gs_1v6, gs_1v7, gs_1v8]))]) H := hP
  have hD : va_D A ([(q, .inr (5, [gs_1v0, gs_1v1, gs_1v2, gs_1v3, gs_1v4, gs_1v5, gs_1v6, gs_1v7, gs_1v8]))]) := hD
  refine lv_aload_n hx hb dX6_init_2_4 rfl (lv_at hl 0 rfl) ?_
  refine lv_iload_n hx hb dX6_init_2_5 rfl (lv_at hl 1 rfl) ?_
  refine va_putF (D := E.1) (ci := 5) (v := iv r9) (ty := .int) (C := RX6) (T := TX6) (N := 9) hx hb hts in_X6 tyX6 tyX6_ok nmX6 hown hK.1 hP hD hS 0 rfl rfl 6 (by decide) (hts _ q834) (fun _ h9 => h9) rfl hin rfl (by decide +kernel) rfl rfl (Nat.le_of_ble_eq_true rfl) dX6_init_2_6 (fun H locs hP hD hS => ?_)
  have hP : va_P E.1 CL ([(q, .inr (5, [gs_1v0, gs_1v1, gs_1v2, gs_1v3, gs_1v4, gs_1v5, iv r9, gs_1v7, gs_1v8]))]) H := hP
  have hD : va_D A ([(q, .inr (5, [gs_1v0, gs_1v1, gs_1v2, gs_1v3, gs_1v4, gs_1v5, iv r9, gs_1v7, gs_1v8]))]) := hD
  refine lv_aload_n hx hb dX6_init_2_9 rfl (lv_at hl 0 rfl) ?_
  refine lv_iload_n hx hb dX6_init_2_10 rfl (lv_at hl 2 rfl) ?_
  refine va_putF (D := E.1) (ci := 5) (v := iv d9) (ty := .int) (C := RX6) (T := TX6) (N := 9) hx hb hts in_X6 tyX6 tyX6_ok nmX6 hown hK.1 hP hD hS 0 rfl rfl 7 (by decide) (hts _ q836) (fun _ h9 => h9) rfl hin rfl (by decide +kernel) rfl rfl (Nat.le_of_ble_eq_true rfl) dX6_init_2_11 (fun H locs hP hD hS => ?_)
  have hP : va_P E.1 CL ([(q, .inr (5, [gs_1v0, gs_1v1, gs_1v2, gs_1v3, gs_1v4, gs_1v5, iv r9, iv d9, gs_1v8]))]) H := hP
  have hD : va_D A ([(q, .inr (5, [gs_1v0, gs_1v1, gs_1v2, gs_1v3, gs_1v4, gs_1v5, iv r9, iv d9, gs_1v8]))]) := hD
  refine lv_aload_n hx hb dX6_init_2_14 rfl (lv_at hl 0 rfl) ?_
  refine n_aloadq_n hx hb dX6_init_2_15 rfl (lv_at hl 3 rfl) ?_
  refine va_putF (D := E.1) (ci := 5) (v := va_rf oz) (ty := (tyX6 8)) (C := RX6) (T := TX6) (N := 9) hx hb hts in_X6 tyX6 tyX6_ok nmX6 hown hK.1 hP hD hS 0 rfl rfl 8 (by decide) (hts _ q838) (fun _ h9 => h9) rfl hin rfl (by decide +kernel) (nr_q _ _) (ft_q _ _) (Nat.le_of_ble_eq_true rfl) dX6_init_2_16 (fun H locs hP hD hS => ?_)
  have hP : va_P E.1 CL ([(q, .inr (5, [gs_1v0, gs_1v1, gs_1v2, gs_1v3, gs_1v4, gs_1v5, iv r9, iv d9, va_rf oz]))]) H := hP
  have hD : va_D A ([(q, .inr (5, [gs_1v0, gs_1v1, gs_1v2, gs_1v3, gs_1v4, gs_1v5, iv r9, iv d9, va_rf oz]))]) := hD
  exact W.vret hx hb hr (fun tt_ ht_ hW_ => ⟨⟨[gs_1v0, gs_1v1, gs_1v2, gs_1v3, gs_1v4, gs_1v5], rfl, rfl, by rw [ht_]; exact hP, hD⟩, hS.F ht_⟩) hS.2.2 dX6_init_2_19
set_option maxHeartbeats 1000000 in
set_option maxRecDepth 100000 in
theorem mt_X6_init (l : Launch) (E : EE) (q : Nat) (fs : List Value) (r9 : Int) (d9 : Int) (hst : l.stackTraces = false) (sz : Nat) : Met l yX6_init (ws_ yX6_init cX6_init 3 none) { frames := 5, cells := 0, slots := 0, locals := 83 } (va_Pc [.ref q, iv r9, iv d9] (UF E 5 q ([(q, .inr (5, fs))]) sz)) (UQxv E (fun u : List Value => u.length = 6) (fun u : List Value => [(q, .inr (5, u ++ [iv r9, iv d9, va_rf none]))]) (va_A ([(q, .inr (5, fs))]) sz)) 0 0 (va_A ([(q, .inr (5, fs))]) sz) := by
  refine Met.ofW (cc := cX6_init) (maxL := 3) (ret := none) (by decide) rfl ?_
  intro p e s m args below meth c s₁ B hml hv
  obtain ⟨rfl, hsz, hP, hK, hD0, hE, hfr⟩ := hv
  have hx := B.exec
  have hb := B.bytes
  have hr := B.returns
  have hts := atoms_spec (ws := (ws_ yX6_init cX6_init 3 none)) B.pre
  have hts : ∀ w ∈ lw_all, w.before _ s = true := fun w h => hts w (List.mem_cons_of_mem _ h)
  have hown : s.vm.findClass RX6 = some m.cls := findClass_of_methodNamed B.named
  have hlocks := B.notSynchronized
  have hin : meth.name = "<init>" := (name_of_methodNamed B.named B.method).1
  subst hsz
  have hD := hD0.self (sz := s.heap.size)
  generalize hAe : va_A ([(q, .inr (5, fs))]) s.heap.size = A at hD hE ⊢
  have hA : ∀ q : Nat, s.heap.size ≤ q → A q := fun q h => by rw [← hAe]; exact Or.inr h
  have hS : va_S A s.heap s.heap [] := va_S.rf
  have hl := lv_entry ([.ref q, iv r9, iv d9]) (n := 3) (Nat.le_of_ble_eq_true rfl)
  rw [lg_entry_eq]
  generalize (lg_sl ([.ref q, iv r9, iv d9]) ++ List.replicate (3 - (lg_sl ([.ref q, iv r9, iv d9])).length) Slot.unset).toArray = ls at hl ⊢
  have hl : lv_has ls 3 [(0, .ref q), (1, iv r9), (2, iv d9)] := hl
  refine lv_aload_n hx hb dX6_init_0 rfl (lv_at hl 0 rfl) ?_
  refine lv_iload_n hx hb dX6_init_1 rfl (lv_at hl 1 rfl) ?_
  refine lv_iload_n hx hb dX6_init_2 rfl (lv_at hl 2 rfl) ?_
  refine lv_null hx hb dX6_init_3 ?_
  refine n_cuxvSK (w2 := fun u_1 => [(q, .inr (5, u_1 ++ [iv r9, iv d9, va_rf none]))]) (va_runI (As := [iv r9, iv d9, .null]) (rest := []) ⟨hx, hb, hml, hown, hts⟩ (mt_X6_init_2 l E q fs r9 d9 none hst _) (n_cwI 3 hts q827 q828 q117 q829 rfl rfl rfl (by decide +kernel) ⟨Nat.le_of_ble_eq_true rfl, Nat.le_of_ble_eq_true rfl⟩) (UF_S (hP.sub (ws' := [(q, .inr (5, fs))]) [0] rfl) hK (hD.sub (ws' := [(q, .inr (5, fs))]) [0] rfl rfl) hE hS (va_sub_free hD hS hA [0] rfl) hfr) rfl rfl hl.1 rfl (lv_room (Nat.le_of_ble_eq_true rfl)) dX6_init_4 ⟨Nat.le_of_ble_eq_true rfl, Nat.le_of_ble_eq_true rfl⟩) hP hD hS hA [0] [] [0] rfl rfl rfl rfl rfl (fun _ => rfl) (fun u_1 H locs hk_2 hu_1 hP hD hS => ?_)
  have hu_1 : u_1.length = 6 := hu_1
  have hP : va_P E.1 CL ([(q, .inr (5, u_1 ++ [iv r9, iv d9, va_rf none]))]) H := hP
  have hD : va_D A ([(q, .inr (5, u_1 ++ [iv r9, iv d9, va_rf none]))]) := hD
  exact W.vret hx hb hr (fun tt_ ht_ hW_ => ⟨⟨u_1, rfl, hu_1, by rw [ht_]; exact hP, hD⟩, hS.F ht_⟩) hS.2.2 dX6_init_7
set_option maxHeartbeats 1000000 in
set_option maxRecDepth 100000 in
theorem mt_X9_init (l : Launch) (E : EE) (q : Nat) (fs : List Value) (r9 : Int) (hst : l.stackTraces = false) (sz : Nat) : Met l yX9_init (ws_ yX9_init cX9_init 2 none) { frames := 4, cells := 0, slots := 0, locals := 60 } (va_Pc [.ref q, iv r9] (UF E 8 q ([(q, .inr (8, fs))]) sz)) (UQxv E (fun u : List Value => u.length = 6) (fun u : List Value => [(q, .inr (8, u ++ [iv r9]))]) (va_A ([(q, .inr (8, fs))]) sz)) 0 0 (va_A ([(q, .inr (8, fs))]) sz) := by
  refine Met.ofW (cc := cX9_init) (maxL := 2) (ret := none) (by decide) rfl ?_
  intro p e s m args below meth c s₁ B hml hv
  obtain ⟨rfl, hsz, hP, hK, hD0, hE, hfr⟩ := hv
  have hx := B.exec
  have hb := B.bytes
  have hr := B.returns
  have hts := atoms_spec (ws := (ws_ yX9_init cX9_init 2 none)) B.pre
  have hts : ∀ w ∈ lw_all, w.before _ s = true := fun w h => hts w (List.mem_cons_of_mem _ h)
  have hown : s.vm.findClass RX9 = some m.cls := findClass_of_methodNamed B.named
  have hlocks := B.notSynchronized
  have hin : meth.name = "<init>" := (name_of_methodNamed B.named B.method).1
  subst hsz
  have hD := hD0.self (sz := s.heap.size)
  generalize hAe : va_A ([(q, .inr (8, fs))]) s.heap.size = A at hD hE ⊢
  have hA : ∀ q : Nat, s.heap.size ≤ q → A q := fun q h => by rw [← hAe]; exact Or.inr h
  have hS : va_S A s.heap s.heap [] := va_S.rf
  have hl := lv_entry ([.ref q, iv r9]) (n := 2) (Nat.le_of_ble_eq_true rfl)
  rw [lg_entry_eq]
  generalize (lg_sl ([.ref q, iv r9]) ++ List.replicate (2 - (lg_sl ([.ref q, iv r9])).length) Slot.unset).toArray = ls at hl ⊢
  have hl : lv_has ls 2 [(0, .ref q), (1, iv r9)] := hl
  refine lv_aload_n hx hb dX9_init_0 rfl (lv_at hl 0 rfl) ?_
  refine n_superX hx hb hst (own := RX9) (obj := "ClockworkTailor$SyntaxError") (T0 := TX9) hown (xl_use hK hts sx_X9) rfl hK hE hP hD hS hfr (hl.1.trans hml.symm) dX9_init_1 (Nat.le_of_ble_eq_true rfl) (Nat.le_of_ble_eq_true rfl) ⟨Nat.zero_le _, Nat.zero_le _⟩ (fun gs_1 H locs hgl hP hD hS => ?_)
  obtain ⟨gs_1v0, gs_1v1, gs_1v2, gs_1v3, gs_1v4, gs_1v5, gs_1v6, rfl⟩ := lst_7 hgl
  have hP : va_P E.1 CL ([(q, .inr (8, [gs_1v0, gs_1v1, gs_1v2, gs_1v3, gs_1v4, gs_1v5, gs_1v6]))]) H := hP
  have hD : va_D A ([(q, .inr (8, [gs_1v0, gs_1v1, gs_1v2, gs_1v3, gs_1v4, gs_1v5, gs_1v6]))]) := hD
  refine lv_aload_n hx hb dX9_init_4 rfl (lv_at hl 0 rfl) ?_
  refine lv_iload_n hx hb dX9_init_5 rfl (lv_at hl 1 rfl) ?_
  refine va_putF (D := E.1) (ci := 8) (v := iv r9) (ty := .int) (C := RX9) (T := TX9) (N := 7) hx hb hts in_X9 tyX9 tyX9_ok nmX9 hown hK.1 hP hD hS 0 rfl rfl 6 (by decide) (hts _ q1817) (fun _ h9 => h9) rfl hin rfl (by decide +kernel) rfl rfl (Nat.le_of_ble_eq_true rfl) dX9_init_6 (fun H locs hP hD hS => ?_)
  have hP : va_P E.1 CL ([(q, .inr (8, [gs_1v0, gs_1v1, gs_1v2, gs_1v3, gs_1v4, gs_1v5, iv r9]))]) H := hP
  have hD : va_D A ([(q, .inr (8, [gs_1v0, gs_1v1, gs_1v2, gs_1v3, gs_1v4, gs_1v5, iv r9]))]) := hD
  exact W.vret hx hb hr (fun tt_ ht_ hW_ => ⟨⟨[gs_1v0, gs_1v1, gs_1v2, gs_1v3, gs_1v4, gs_1v5], rfl, rfl, by rw [ht_]; exact hP, hD⟩, hS.F ht_⟩) hS.2.2 dX9_init_9
set_option maxHeartbeats 4000000 in
set_option maxRecDepth 100000 in
theorem mt_X1_refuseIf (l : Launch) (E : EE)  (z : Bool) (r9 : Int) (d9 : Int) (hst : l.stackTraces = false) (sz : Nat) : vx_Met l yX1_refuseIf (ws_ yX1_refuseIf cX1_refuseIf 3 none) { frames := 6, cells := 1, slots := 9, locals := 105 } (va_Pc [iv (b2 z), iv r9, iv d9] (UX E ([]) sz)) (UQxv E (fun u : Unit => z = false) (fun u : Unit => []) (va_A ([]) sz)) (UXx E (fun (En : String) (u : Unit) => En = "ClockworkTailor$Refusal" ∧ z = true) (fun u : Unit => []) (fun u : Unit => some (5, [iv r9, iv d9, .null])) (va_A ([]) sz)) 1 9 (va_A ([]) sz) := by
  refine vx_ofW (cc := cX1_refuseIf) (maxL := 3) (ret := none) (by decide) rfl ?_
  intro p e s m args below meth c s₁ B hml htb hv
  obtain ⟨rfl, hsz, hP, hK, hD0, hE⟩ := hv
  have hx := B.exec
  have hb := B.bytes
  have hr := B.returns
  have hts := atoms_spec (ws := (ws_ yX1_refuseIf cX1_refuseIf 3 none)) B.pre
  have hts : ∀ w ∈ lw_all, w.before _ s = true := fun w h => hts w (List.mem_cons_of_mem _ h)
  have hown : s.vm.findClass RX1 = some m.cls := findClass_of_methodNamed B.named
  have hlocks := B.notSynchronized
  subst hsz
  have hD := hD0.self (sz := s.heap.size)
  generalize hAe : va_A ([]) s.heap.size = A at hD hE ⊢
  have hA : ∀ q : Nat, s.heap.size ≤ q → A q := fun q h => by rw [← hAe]; exact Or.inr h
  have hS : va_S A s.heap s.heap [] := va_S.rf
  have hl := lv_entry ([iv (b2 z), iv r9, iv d9]) (n := 3) (Nat.le_of_ble_eq_true rfl)
  rw [lg_entry_eq]
  generalize (lg_sl ([iv (b2 z), iv r9, iv d9]) ++ List.replicate (3 - (lg_sl ([iv (b2 z), iv r9, iv d9])).length) Slot.unset).toArray = ls at hl ⊢
  have hl : lv_has ls 3 [(0, iv (b2 z)), (1, iv r9), (2, iv d9)] := hl
  refine lv_iload_n hx hb dX1_refuseIf_0 rfl (lv_at hl 0 rfl) ?_
  refine n_ifb_eq (tgt := 14) hx hb dX1_refuseIf_1 (by decide) (fun c_1 => ?_) (fun c_1 => ?_)
  · refine vx_ret ?_
    refine W.widen (k := 1) (n := 9) (Nat.le_of_ble_eq_true rfl) (Nat.le_of_ble_eq_true rfl) ?_
    exact W.vret hx hb hr (fun tt_ ht_ hW_ => ⟨⟨(), rfl, by assumption, by rw [ht_]; exact hP, hD⟩, hS.F ht_⟩) hS.2.2 dX1_refuseIf_14
  · have hz9_q_2 : s.heap.size ≤ (s.heap).size := hS.1
    refine n_newK (ci := 5) (fs := [.null, .null, .null, .null, .null, iv 0, iv 0, iv 0, .null]) (C := RX6) (T := TX6) (N := 9) hx hb hts in_X6 tyX6 tyX6_ok hown (hts _ q815) (hts _ q816) (hts _ q117) hK hP hD hS hA rfl (fun j hj => by rcases (show j = 0 ∨ j = 1 ∨ j = 2 ∨ j = 3 ∨ j = 4 ∨ j = 5 ∨ j = 6 ∨ j = 7 ∨ j = 8 by omega) with rfl | rfl | rfl | rfl | rfl | rfl | rfl | rfl | rfl <;> rfl) (Nat.le_of_ble_eq_true rfl) (Nat.le_of_ble_eq_true rfl) dX1_refuseIf_4 (fun q_2 H hfr_q_2 o_3 hsz_q_2 hP hD hS => ?_)
    have hge_q_2 : s.heap.size ≤ q_2 := Nat.le_trans hz9_q_2 hsz_q_2
    have hP : va_P E.1 CL ([(q_2, .inr (5, [.null, .null, .null, .null, .null, iv 0, iv 0, iv 0, .null]))]) H := hP
    have hD : va_D A ([(q_2, .inr (5, [.null, .null, .null, .null, .null, iv 0, iv 0, iv 0, .null]))]) := hD
    refine lv_dup hx hb dX1_refuseIf_7 rfl ?_
    refine lv_iload_n hx hb dX1_refuseIf_8 rfl (lv_at hl 1 rfl) ?_
    refine lv_iload_n hx hb dX1_refuseIf_9 rfl (lv_at hl 2 rfl) ?_
    refine n_cuxvSK (w2 := fun u_4 => [(q_2, .inr (5, u_4 ++ [iv r9, iv d9, va_rf none]))]) (va_runI (As := [iv r9, iv d9]) (rest := [.ref q_2]) ⟨hx, hb, hml, hown, hts⟩ (mt_X6_init l E q_2 [.null, .null, .null, .null, .null, iv 0, iv 0, iv 0, .null] r9 d9 hst _) (n_cwI 2 hts q824 q825 q117 q826 rfl rfl rfl (by decide +kernel) ⟨Nat.le_of_ble_eq_true rfl, Nat.le_of_ble_eq_true rfl⟩) (UF_S (hP.sub (ws' := [(q_2, .inr (5, [.null, .null, .null, .null, .null, iv 0, iv 0, iv 0, .null]))]) [0] rfl) hK (hD.sub (ws' := [(q_2, .inr (5, [.null, .null, .null, .null, .null, iv 0, iv 0, iv 0, .null]))]) [0] rfl rfl) hE hS (va_sub_free hD hS hA [0] rfl) hfr_q_2) rfl rfl hl.1 rfl (lv_room (Nat.le_of_ble_eq_true rfl)) dX1_refuseIf_10 ⟨Nat.le_of_ble_eq_true rfl, Nat.le_of_ble_eq_true rfl⟩) hP hD hS hA [0] [] [0] rfl rfl rfl rfl rfl (fun _ => rfl) (fun u_4 H locs hk_5 hu_4 hP hD hS => ?_)
    have hu_4 : u_4.length = 6 := hu_4
    have hP : va_P E.1 CL ([(q_2, .inr (5, u_4 ++ [iv r9, iv d9, va_rf none]))]) H := hP
    have hD : va_D A ([(q_2, .inr (5, u_4 ++ [iv r9, iv d9, va_rf none]))]) := hD
    have hP9 := hP.sub (ws' := []) [] rfl
    have hD9 := hD.sub (ws' := []) [] (by decide) rfl
    have hPq := hP.sub (ws' := [(q_2, .inr (5, u_4 ++ [iv r9, iv d9, va_rf none]))]) [0] rfl
    exact n_athrow () hx hb dX1_refuseIf_13 (k0 := 0) (ci := 5) (C0 := "ClockworkTailor$Refusal") (T0 := TX6) (N0 := 9) rfl rfl hK hP (by exact ⟨rfl, by assumption⟩) hP9 hD9 hS (by exact fun y hy => by cases hy; exact ⟨u_4, hu_4, hPq⟩) hge_q_2 (fun x hx9 => (htb x hx9).elim) hlocks (Nat.le_of_ble_eq_true rfl) (Nat.le_of_ble_eq_true rfl)
