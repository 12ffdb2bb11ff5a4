set_option maxHeartbeats 1000000 in
set_option maxRecDepth 100000 in
theorem mt_X1_lambda_addNeed_2 (l : Launch) (E : EE) (o : Nat → Nat) (sc : Nat → Int) (ar : Nat → Int → Int) (t : Int) (n9 : Int) (z : Bool) (g : Int → Int) (r : Int → Nat) (hst : l.stackTraces = false) (hsr : SR g sc ar) (ht : 0 ≤ t ∧ t < 65536) (hn : 0 ≤ n9 ∧ n9 < 65536) (htw : TW g) (hsw : SwOK g) (hhn : HN g) (hrk : RK g r) (sz : Nat) : vx_Met l yX1_lambda_addNeed_2 (ws_ yX1_lambda_addNeed_2 cX1_lambda_addNeed_2 4 (some .int)) { frames := 9, cells := 46, slots := 341, locals := 3163 } (va_Pc [iv t, iv n9, iv (b2 z), .ref (o 0)] (UX E (SW E o sc ar) sz)) (UQx E (fun u : SU => (∃ q, A_add g t n9 z = .inr (.inr q)) ∧ SR (rs_g g (A_add g t n9 z)) u.1 u.2) (fun u : SU => rs_val 0 (A_add g t n9 z)) (fun u : SU => SW E o u.1 u.2) (va_A (SW E o sc ar) sz)) (UXx E (fun (En : String) (u : SUX) => XC1 (nmX "java/lang/IllegalArgumentException" "java/util/NoSuchElementException" "") (A_add g t n9 z) En u.2.2) (fun u : SUX => SW E o u.1 u.2.1) (fun u : SUX => u.2.2) (va_A (SW E o sc ar) sz)) 46 341 (va_A (SW E o sc ar) sz) := by
  refine vx_ofW (cc := cX1_lambda_addNeed_2) (maxL := 4) (ret := (some .int)) (by decide) rfl ?_
  intro p e s m args below meth c s₁ B hml htb hv
  obtain ⟨rfl, hsz, hP, hK, hD0, hE⟩ := hv
  have hx := B.exec
  have hb := B.bytes
  have hr := B.returns
  have hts := atoms_spec (ws := (ws_ yX1_lambda_addNeed_2 cX1_lambda_addNeed_2 4 (some .int))) B.pre
  have hts : ∀ w ∈ lw_all, w.before _ s = true := fun w h => hts w (List.mem_cons_of_mem _ h)
  have hown : s.vm.findClass RX1 = some m.cls := findClass_of_methodNamed B.named
  have hlocks := B.notSynchronized
  subst hsz
  have hD := hD0.self (sz := s.heap.size)
  generalize hAe : va_A (SW E o sc ar) s.heap.size = A at hD hE ⊢
  have hA : ∀ q : Nat, s.heap.size ≤ q → A q := fun q h => by rw [← hAe]; exact Or.inr h
  have hS : va_S A s.heap s.heap [] := va_S.rf
  have hl := lv_entry ([iv t, iv n9, iv (b2 z), .ref (o 0)]) (n := 4) (Nat.le_of_ble_eq_true rfl)
  rw [lg_entry_eq]
  generalize (lg_sl ([iv t, iv n9, iv (b2 z), .ref (o 0)]) ++ List.replicate (4 - (lg_sl ([iv t, iv n9, iv (b2 z), .ref (o 0)])).length) Slot.unset).toArray = ls at hl ⊢
  have hl : lv_has ls 4 [(0, iv t), (1, iv n9), (2, iv (b2 z)), (3, .ref (o 0))] := hl
  refine lv_aload_n hx hb dX1_lambda_addNeed_2_0 rfl (lv_at hl 3 rfl) ?_
  refine lv_iload_n hx hb dX1_lambda_addNeed_2_1 rfl (lv_at hl 0 rfl) ?_
  refine lv_iload_n hx hb dX1_lambda_addNeed_2_2 rfl (lv_at hl 1 rfl) ?_
  refine lv_iload_n hx hb dX1_lambda_addNeed_2_3 rfl (lv_at hl 2 rfl) ?_
  have hz_1 : s.heap.size ≤ s.heap.size := hS.1
  refine n_txS (x := fun u_2 => rs_val 0 (A_add g t n9 z)) (w2 := fun u_2 => SW E o u_2.1 u_2.2) (w3 := fun u_3 => SW E o u_3.1 u_3.2.1) (vx_runV (As := [iv t, iv n9, iv (b2 z)]) (rest := []) ⟨hx, hb, hml, hown, hts⟩ (mt_X2_addNeed l E o sc ar t n9 z g r (by exact hst) (by assumption) (by omega) (by omega) (by assumption) (by assumption) (by assumption) (by assumption) _) (cwV 3 hts (lw_V q1003 q1004 q1005 q95 q1006) rfl rfl rfl (by decide +kernel) ⟨Nat.le_of_ble_eq_true rfl, Nat.le_of_ble_eq_true rfl⟩) (UX_V hP hK (hD) hE hS (va_A_in hD hS hA) (va_recv hK.1 hP (ci := 2) (q0 := 0) rfl rfl)) rfl rfl hl.1 rfl (lv_room (Nat.le_of_ble_eq_true rfl)) dX1_lambda_addNeed_2_4 ⟨Nat.le_of_ble_eq_true rfl, Nat.le_of_ble_eq_true rfl⟩) hP hD hS hA [0, 1, 2, 3, 4, 5, 6, 7, 8, 9, 10, 11, 12, 13, 14, 15, 16] [] [0, 1, 2, 3, 4, 5, 6, 7, 8, 9, 10, 11, 12, 13, 14, 15, 16] [0, 1, 2, 3, 4, 5, 6, 7, 8, 9, 10, 11, 12, 13, 14, 15, 16] rfl rfl rfl rfl rfl (fun _ => rfl) rfl (fun _ => rfl) ?_ ?_
  · intro En ce q9 u_3 H locs hCx hP hD hS hxf hq9 hce hcv hcl
    have hCx : XC1 (nmX "java/lang/IllegalArgumentException" "java/util/NoSuchElementException" "") (A_add g t n9 z) En u_3.2.2 := hCx
    have hP : va_P E.1 CL (SW E o u_3.1 u_3.2.1) H := hP
    have hD : va_D A (SW E o u_3.1 u_3.2.1) := hD
    exact n_out (u_3.1, u_3.2.1, u_3.2.2) (by exact hCx) hP hD hS hxf (Nat.le_trans hz_1 hq9) hce hcv hcl (fun x hx9 => (htb x hx9).elim) hlocks (Nat.le_of_ble_eq_true rfl) (Nat.le_of_ble_eq_true rfl)
  · intro u_2 H locs hC hP hD hS
    have hu_2 : (∃ q, A_add g t n9 z = .inr (.inr q)) ∧ SR (rs_g g (A_add g t n9 z)) u_2.1 u_2.2 := hC
    have hP : va_P E.1 CL (SW E o u_2.1 u_2.2) H := hP
    have hD : va_D A (SW E o u_2.1 u_2.2) := hD
    refine vx_ret ?_
    refine W.widen (k := 46) (n := 341) (Nat.le_of_ble_eq_true rfl) (Nat.le_of_ble_eq_true rfl) ?_
    exact W.iret (v := iI (rs_val 0 (A_add g t n9 z))) hx hb hr (fun tt_ ht_ hW_ => ⟨⟨iI (rs_val 0 (A_add g t n9 z)), (u_2.1, u_2.2), rfl, ⟨hu_2, rfl⟩, by rw [ht_]; exact hP, hD⟩, hS.F ht_⟩) hS.2.2 dX1_lambda_addNeed_2_7
set_option maxHeartbeats 1000000 in
set_option maxRecDepth 100000 in
theorem mt_X1_lambda_closeThread_7 (l : Launch) (E : EE) (o : Nat → Nat) (sc : Nat → Int) (ar : Nat → Int → Int) (th : Int) (g : Int → Int) (hst : l.stackTraces = false) (hsr : SR g sc ar) (hth : -2147483648 ≤ th ∧ th < 2147483648) (hg0 : 0 ≤ g 0) (how : OY g) (hhh : HH g) (hpl : ∀ k, 0 ≤ k → k < g 1 → 0 ≤ m_thing g k 1 ∧ m_thing g k 1 < 2147483648) (hsc : SC g) (sz : Nat) : vx_Met l yX1_lambda_closeThread_7 (ws_ yX1_lambda_closeThread_7 cX1_lambda_closeThread_7 2 (some .int)) { frames := 9, cells := 1, slots := 6, locals := 156 } (va_Pc [iv th, .ref (o 0)] (UX E (SW E o sc ar) sz)) (UQx E (fun u : SU => (∃ q, A_close g th = .inr (.inr q)) ∧ SR (rs_g g (A_close g th)) u.1 u.2) (fun u : SU => rs_val 0 (A_close g th)) (fun u : SU => SW E o u.1 u.2) (va_A (SW E o sc ar) sz)) (UXx E (fun (En : String) (u : SUX) => XC1 (nmX "java/lang/IndexOutOfBoundsException" "" "") (A_close g th) En u.2.2) (fun u : SUX => SW E o u.1 u.2.1) (fun u : SUX => u.2.2) (va_A (SW E o sc ar) sz)) 1 6 (va_A (SW E o sc ar) sz) := by
  refine vx_ofW (cc := cX1_lambda_closeThread_7) (maxL := 2) (ret := (some .int)) (by decide) rfl ?_
  intro p e s m args below meth c s₁ B hml htb hv
  obtain ⟨rfl, hsz, hP, hK, hD0, hE⟩ := hv
  have hx := B.exec
  have hb := B.bytes
  have hr := B.returns
  have hts := atoms_spec (ws := (ws_ yX1_lambda_closeThread_7 cX1_lambda_closeThread_7 2 (some .int))) B.pre
  have hts : ∀ w ∈ lw_all, w.before _ s = true := fun w h => hts w (List.mem_cons_of_mem _ h)
  have hown : s.vm.findClass RX1 = some m.cls := findClass_of_methodNamed B.named
  have hlocks := B.notSynchronized
  subst hsz
  have hD := hD0.self (sz := s.heap.size)
  generalize hAe : va_A (SW E o sc ar) s.heap.size = A at hD hE ⊢
  have hA : ∀ q : Nat, s.heap.size ≤ q → A q := fun q h => by rw [← hAe]; exact Or.inr h
  have hS : va_S A s.heap s.heap [] := va_S.rf
  have hl := lv_entry ([iv th, .ref (o 0)]) (n := 2) (Nat.le_of_ble_eq_true rfl)
  rw [lg_entry_eq]
  generalize (lg_sl ([iv th, .ref (o 0)]) ++ List.replicate (2 - (lg_sl ([iv th, .ref (o 0)])).length) Slot.unset).toArray = ls at hl ⊢
  have hl : lv_has ls 2 [(0, iv th), (1, .ref (o 0))] := hl
  refine lv_aload_n hx hb dX1_lambda_closeThread_7_0 rfl (lv_at hl 1 rfl) ?_
  refine lv_iload_n hx hb dX1_lambda_closeThread_7_1 rfl (lv_at hl 0 rfl) ?_
  have hz_1 : s.heap.size ≤ s.heap.size := hS.1
  refine n_txS (x := fun u_2 => rs_val 0 (A_close g th)) (w2 := fun u_2 => SW E o u_2.1 u_2.2) (w3 := fun u_3 => SW E o u_3.1 u_3.2.1) (vx_runV (As := [iv th]) (rest := []) ⟨hx, hb, hml, hown, hts⟩ (mt_X2_closeThread l E o sc ar th g (by exact hst) (by assumption) (by omega) (by assumption) (by assumption) (by assumption) (by assumption) (by assumption) _) (cwV 1 hts (lw_V q1235 q1236 q1237 q95 q1238) rfl rfl rfl (by decide +kernel) ⟨Nat.le_of_ble_eq_true rfl, Nat.le_of_ble_eq_true rfl⟩) (UX_V hP hK (hD) hE hS (va_A_in hD hS hA) (va_recv hK.1 hP (ci := 2) (q0 := 0) rfl rfl)) rfl rfl hl.1 rfl (lv_room (Nat.le_of_ble_eq_true rfl)) dX1_lambda_closeThread_7_2 ⟨Nat.le_of_ble_eq_true rfl, Nat.le_of_ble_eq_true rfl⟩) hP hD hS hA [0, 1, 2, 3, 4, 5, 6, 7, 8, 9, 10, 11, 12, 13, 14, 15, 16] [] [0, 1, 2, 3, 4, 5, 6, 7, 8, 9, 10, 11, 12, 13, 14, 15, 16] [0, 1, 2, 3, 4, 5, 6, 7, 8, 9, 10, 11, 12, 13, 14, 15, 16] rfl rfl rfl rfl rfl (fun _ => rfl) rfl (fun _ => rfl) ?_ ?_
  · intro En ce q9 u_3 H locs hCx hP hD hS hxf hq9 hce hcv hcl
    have hCx : XC1 (nmX "java/lang/IndexOutOfBoundsException" "" "") (A_close g th) En u_3.2.2 := hCx
    have hP : va_P E.1 CL (SW E o u_3.1 u_3.2.1) H := hP
    have hD : va_D A (SW E o u_3.1 u_3.2.1) := hD
    exact n_out (u_3.1, u_3.2.1, u_3.2.2) (by exact hCx) hP hD hS hxf (Nat.le_trans hz_1 hq9) hce hcv hcl (fun x hx9 => (htb x hx9).elim) hlocks (Nat.le_of_ble_eq_true rfl) (Nat.le_of_ble_eq_true rfl)
  · intro u_2 H locs hC hP hD hS
    have hu_2 : (∃ q, A_close g th = .inr (.inr q)) ∧ SR (rs_g g (A_close g th)) u_2.1 u_2.2 := hC
    have hP : va_P E.1 CL (SW E o u_2.1 u_2.2) H := hP
    have hD : va_D A (SW E o u_2.1 u_2.2) := hD
    refine vx_ret ?_
    refine W.widen (k := 1) (n := 6) (Nat.le_of_ble_eq_true rfl) (Nat.le_of_ble_eq_true rfl) ?_
    exact W.iret (v := iI (rs_val 0 (A_close g th))) hx hb hr (fun tt_ ht_ hW_ => ⟨⟨iI (rs_val 0 (A_close g th)), (u_2.1, u_2.2), rfl, ⟨hu_2, rfl⟩, by rw [ht_]; exact hP, hD⟩, hS.F ht_⟩) hS.2.2 dX1_lambda_closeThread_7_5
set_option maxHeartbeats 1000000 in
set_option maxRecDepth 100000 in
theorem mt_X1_lambda_define_0 (l : Launch) (E : EE) (o : Nat → Nat) (sc : Nat → Int) (ar : Nat → Int → Int) (t : Int) (sp : Int) (mn : Int) (g : Int → Int) (hst : l.stackTraces = false) (hsr : SR g sc ar) (ht : 0 ≤ t ∧ t < 65536) (hs : 0 ≤ sp ∧ sp < 65536) (hm : -2147483648 ≤ mn ∧ mn < 2147483648) (sz : Nat) : vx_Met l yX1_lambda_define_0 (ws_ yX1_lambda_define_0 cX1_lambda_define_0 4 (some .int)) { frames := 8, cells := 2, slots := 12, locals := 136 } (va_Pc [iv t, iv sp, iv mn, .ref (o 0)] (UX E (SW E o sc ar) sz)) (UQx E (fun u : SU => (∃ q, A_def g t sp mn = .inr (.inr q)) ∧ SR (rs_g g (A_def g t sp mn)) u.1 u.2) (fun u : SU => rs_val 0 (A_def g t sp mn)) (fun u : SU => SW E o u.1 u.2) (va_A (SW E o sc ar) sz)) (UXx E (fun (En : String) (u : SUX) => XC1 (nmX "java/lang/IllegalArgumentException" "java/lang/IllegalStateException" "") (A_def g t sp mn) En u.2.2) (fun u : SUX => SW E o u.1 u.2.1) (fun u : SUX => u.2.2) (va_A (SW E o sc ar) sz)) 2 12 (va_A (SW E o sc ar) sz) := by
  refine vx_ofW (cc := cX1_lambda_define_0) (maxL := 4) (ret := (some .int)) (by decide) rfl ?_
  intro p e s m args below meth c s₁ B hml htb hv
  obtain ⟨rfl, hsz, hP, hK, hD0, hE⟩ := hv
  have hx := B.exec
  have hb := B.bytes
  have hr := B.returns
  have hts := atoms_spec (ws := (ws_ yX1_lambda_define_0 cX1_lambda_define_0 4 (some .int))) B.pre
  have hts : ∀ w ∈ lw_all, w.before _ s = true := fun w h => hts w (List.mem_cons_of_mem _ h)
  have hown : s.vm.findClass RX1 = some m.cls := findClass_of_methodNamed B.named
  have hlocks := B.notSynchronized
  subst hsz
  have hD := hD0.self (sz := s.heap.size)
  generalize hAe : va_A (SW E o sc ar) s.heap.size = A at hD hE ⊢
  have hA : ∀ q : Nat, s.heap.size ≤ q → A q := fun q h => by rw [← hAe]; exact Or.inr h
  have hS : va_S A s.heap s.heap [] := va_S.rf
  have hl := lv_entry ([iv t, iv sp, iv mn, .ref (o 0)]) (n := 4) (Nat.le_of_ble_eq_true rfl)
  rw [lg_entry_eq]
  generalize (lg_sl ([iv t, iv sp, iv mn, .ref (o 0)]) ++ List.replicate (4 - (lg_sl ([iv t, iv sp, iv mn, .ref (o 0)])).length) Slot.unset).toArray = ls at hl ⊢
  have hl : lv_has ls 4 [(0, iv t), (1, iv sp), (2, iv mn), (3, .ref (o 0))] := hl
  refine lv_aload_n hx hb dX1_lambda_define_0_0 rfl (lv_at hl 3 rfl) ?_
  refine lv_iload_n hx hb dX1_lambda_define_0_1 rfl (lv_at hl 0 rfl) ?_
  refine lv_iload_n hx hb dX1_lambda_define_0_2 rfl (lv_at hl 1 rfl) ?_
  refine lv_iload_n hx hb dX1_lambda_define_0_3 rfl (lv_at hl 2 rfl) ?_
  have hz_1 : s.heap.size ≤ s.heap.size := hS.1
  refine n_txS (x := fun u_2 => rs_val 0 (A_def g t sp mn)) (w2 := fun u_2 => SW E o u_2.1 u_2.2) (w3 := fun u_3 => SW E o u_3.1 u_3.2.1) (vx_runV (As := [iv t, iv sp, iv mn]) (rest := []) ⟨hx, hb, hml, hown, hts⟩ (mt_X2_define l E o sc ar t sp mn g (by exact hst) (by assumption) (by omega) (by omega) (by omega) _) (cwV 3 hts (lw_V q875 q876 q877 q95 q878) rfl rfl rfl (by decide +kernel) ⟨Nat.le_of_ble_eq_true rfl, Nat.le_of_ble_eq_true rfl⟩) (UX_V hP hK (hD) hE hS (va_A_in hD hS hA) (va_recv hK.1 hP (ci := 2) (q0 := 0) rfl rfl)) rfl rfl hl.1 rfl (lv_room (Nat.le_of_ble_eq_true rfl)) dX1_lambda_define_0_4 ⟨Nat.le_of_ble_eq_true rfl, Nat.le_of_ble_eq_true rfl⟩) hP hD hS hA [0, 1, 2, 3, 4, 5, 6, 7, 8, 9, 10, 11, 12, 13, 14, 15, 16] [] [0, 1, 2, 3, 4, 5, 6, 7, 8, 9, 10, 11, 12, 13, 14, 15, 16] [0, 1, 2, 3, 4, 5, 6, 7, 8, 9, 10, 11, 12, 13, 14, 15, 16] rfl rfl rfl rfl rfl (fun _ => rfl) rfl (fun _ => rfl) ?_ ?_
  · intro En ce q9 u_3 H locs hCx hP hD hS hxf hq9 hce hcv hcl
    have hCx : XC1 (nmX "java/lang/IllegalArgumentException" "java/lang/IllegalStateException" "") (A_def g t sp mn) En u_3.2.2 := hCx
    have hP : va_P E.1 CL (SW E o u_3.1 u_3.2.1) H := hP
    have hD : va_D A (SW E o u_3.1 u_3.2.1) := hD
    exact n_out (u_3.1, u_3.2.1, u_3.2.2) (by exact hCx) hP hD hS hxf (Nat.le_trans hz_1 hq9) hce hcv hcl (fun x hx9 => (htb x hx9).elim) hlocks (Nat.le_of_ble_eq_true rfl) (Nat.le_of_ble_eq_true rfl)
  · intro u_2 H locs hC hP hD hS
    have hu_2 : (∃ q, A_def g t sp mn = .inr (.inr q)) ∧ SR (rs_g g (A_def g t sp mn)) u_2.1 u_2.2 := hC
    have hP : va_P E.1 CL (SW E o u_2.1 u_2.2) H := hP
    have hD : va_D A (SW E o u_2.1 u_2.2) := hD
    refine vx_ret ?_
    refine W.widen (k := 2) (n := 12) (Nat.le_of_ble_eq_true rfl) (Nat.le_of_ble_eq_true rfl) ?_
    exact W.iret (v := iI (rs_val 0 (A_def g t sp mn))) hx hb hr (fun tt_ ht_ hW_ => ⟨⟨iI (rs_val 0 (A_def g t sp mn)), (u_2.1, u_2.2), rfl, ⟨hu_2, rfl⟩, by rw [ht_]; exact hP, hD⟩, hS.F ht_⟩) hS.2.2 dX1_lambda_define_0_7
set_option maxHeartbeats 1000000 in
set_option maxRecDepth 100000 in
theorem mt_X1_lambda_dropRecipe_1 (l : Launch) (E : EE) (o : Nat → Nat) (sc : Nat → Int) (ar : Nat → Int → Int) (t : Int) (g : Int → Int) (hst : l.stackTraces = false) (hsr : SR g sc ar) (ht : 0 ≤ t ∧ t < 65536) (how : OY g) (sz : Nat) : vx_Met l yX1_lambda_dropRecipe_1 (ws_ yX1_lambda_dropRecipe_1 cX1_lambda_dropRecipe_1 2 (some .int)) { frames := 9, cells := 3, slots := 18, locals := 155 } (va_Pc [iv t, .ref (o 0)] (UX E (SW E o sc ar) sz)) (UQx E (fun u : SU => (∃ q, A_drop g t = .inr (.inr q)) ∧ SR (rs_g g (A_drop g t)) u.1 u.2) (fun u : SU => rs_val 0 (A_drop g t)) (fun u : SU => SW E o u.1 u.2) (va_A (SW E o sc ar) sz)) (UXx E (fun (En : String) (u : SUX) => XC1 (nmX "java/lang/IllegalArgumentException" "java/util/NoSuchElementException" "java/lang/IllegalStateException") (A_drop g t) En u.2.2) (fun u : SUX => SW E o u.1 u.2.1) (fun u : SUX => u.2.2) (va_A (SW E o sc ar) sz)) 3 18 (va_A (SW E o sc ar) sz) := by
  refine vx_ofW (cc := cX1_lambda_dropRecipe_1) (maxL := 2) (ret := (some .int)) (by decide) rfl ?_
  intro p e s m args below meth c s₁ B hml htb hv
  obtain ⟨rfl, hsz, hP, hK, hD0, hE⟩ := hv
  have hx := B.exec
  have hb := B.bytes
  have hr := B.returns
  have hts := atoms_spec (ws := (ws_ yX1_lambda_dropRecipe_1 cX1_lambda_dropRecipe_1 2 (some .int))) B.pre
  have hts : ∀ w ∈ lw_all, w.before _ s = true := fun w h => hts w (List.mem_cons_of_mem _ h)
  have hown : s.vm.findClass RX1 = some m.cls := findClass_of_methodNamed B.named
  have hlocks := B.notSynchronized
  subst hsz
  have hD := hD0.self (sz := s.heap.size)
  generalize hAe : va_A (SW E o sc ar) s.heap.size = A at hD hE ⊢
  have hA : ∀ q : Nat, s.heap.size ≤ q → A q := fun q h => by rw [← hAe]; exact Or.inr h
  have hS : va_S A s.heap s.heap [] := va_S.rf
  have hl := lv_entry ([iv t, .ref (o 0)]) (n := 2) (Nat.le_of_ble_eq_true rfl)
  rw [lg_entry_eq]
  generalize (lg_sl ([iv t, .ref (o 0)]) ++ List.replicate (2 - (lg_sl ([iv t, .ref (o 0)])).length) Slot.unset).toArray = ls at hl ⊢
  have hl : lv_has ls 2 [(0, iv t), (1, .ref (o 0))] := hl
  refine lv_aload_n hx hb dX1_lambda_dropRecipe_1_0 rfl (lv_at hl 1 rfl) ?_
  refine lv_iload_n hx hb dX1_lambda_dropRecipe_1_1 rfl (lv_at hl 0 rfl) ?_
  have hz_1 : s.heap.size ≤ s.heap.size := hS.1
  refine n_txS (x := fun u_2 => rs_val 0 (A_drop g t)) (w2 := fun u_2 => SW E o u_2.1 u_2.2) (w3 := fun u_3 => SW E o u_3.1 u_3.2.1) (vx_runV (As := [iv t]) (rest := []) ⟨hx, hb, hml, hown, hts⟩ (mt_X2_dropRecipe l E o sc ar t g (by exact hst) (by assumption) (by omega) (by assumption) _) (cwV 1 hts (lw_V q958 q959 q960 q95 q961) rfl rfl rfl (by decide +kernel) ⟨Nat.le_of_ble_eq_true rfl, Nat.le_of_ble_eq_true rfl⟩) (UX_V hP hK (hD) hE hS (va_A_in hD hS hA) (va_recv hK.1 hP (ci := 2) (q0 := 0) rfl rfl)) rfl rfl hl.1 rfl (lv_room (Nat.le_of_ble_eq_true rfl)) dX1_lambda_dropRecipe_1_2 ⟨Nat.le_of_ble_eq_true rfl, Nat.le_of_ble_eq_true rfl⟩) hP hD hS hA [0, 1, 2, 3, 4, 5, 6, 7, 8, 9, 10, 11, 12, 13, 14, 15, 16] [] [0, 1, 2, 3, 4, 5, 6, 7, 8, 9, 10, 11, 12, 13, 14, 15, 16] [0, 1, 2, 3, 4, 5, 6, 7, 8, 9, 10, 11, 12, 13, 14, 15, 16] rfl rfl rfl rfl rfl (fun _ => rfl) rfl (fun _ => rfl) ?_ ?_
  · intro En ce q9 u_3 H locs hCx hP hD hS hxf hq9 hce hcv hcl
    have hCx : XC1 (nmX "java/lang/IllegalArgumentException" "java/util/NoSuchElementException" "java/lang/IllegalStateException") (A_drop g t) En u_3.2.2 := hCx
    have hP : va_P E.1 CL (SW E o u_3.1 u_3.2.1) H := hP
    have hD : va_D A (SW E o u_3.1 u_3.2.1) := hD
    exact n_out (u_3.1, u_3.2.1, u_3.2.2) (by exact hCx) hP hD hS hxf (Nat.le_trans hz_1 hq9) hce hcv hcl (fun x hx9 => (htb x hx9).elim) hlocks (Nat.le_of_ble_eq_true rfl) (Nat.le_of_ble_eq_true rfl)
  · intro u_2 H locs hC hP hD hS
    have hu_2 : (∃ q, A_drop g t = .inr (.inr q)) ∧ SR (rs_g g (A_drop g t)) u_2.1 u_2.2 := hC
    have hP : va_P E.1 CL (SW E o u_2.1 u_2.2) H := hP
    have hD : va_D A (SW E o u_2.1 u_2.2) := hD
    refine vx_ret ?_
    refine W.widen (k := 3) (n := 18) (Nat.le_of_ble_eq_true rfl) (Nat.le_of_ble_eq_true rfl) ?_
    exact W.iret (v := iI (rs_val 0 (A_drop g t))) hx hb hr (fun tt_ ht_ hW_ => ⟨⟨iI (rs_val 0 (A_drop g t)), (u_2.1, u_2.2), rfl, ⟨hu_2, rfl⟩, by rw [ht_]; exact hP, hD⟩, hS.F ht_⟩) hS.2.2 dX1_lambda_dropRecipe_1_5
set_option maxHeartbeats 1000000 in
set_option maxRecDepth 100000 in
theorem mt_X1_lambda_make_8 (l : Launch) (E : EE) (o : Nat → Nat) (sc : Nat → Int) (ar : Nat → Int → Int) (t : Int) (th : Int) (g : Int → Int) (r : Int → Nat) (fl : Int → Int) (hst : l.stackTraces = false) (hsr : SR g sc ar) (ht : 0 ≤ t ∧ t < 65536) (hth : -2147483648 ≤ th ∧ th < 2147483648) (htw : TW g) (hsw : SwOK g) (htm : TM g) (hhn : HN g) (hsc : SC g) (hrk : RK g r) (hr8 : ∀ t, 0 ≤ t → t < 8 → r t < 8) (how : OY g) (h60 : g 1 ≤ 60) (hfit : ∀ t, 0 ≤ t → t < 8 → ∀ th, g 1 + (m_dues g t th).1 ≤ 160) (sz : Nat) : vx_Met l yX1_lambda_make_8 (ws_ yX1_lambda_make_8 cX1_lambda_make_8 3 (some .int)) { frames := 22, cells := 4, slots := 25, locals := 671 } (va_Pc [iv t, iv th, .ref (o 0)] (UX E (SW E o sc ar) sz)) (UQx E (fun u : SU => (∃ q, A_make g fl t th = .inr (.inr q)) ∧ SR (rs_g g (A_make g fl t th)) u.1 u.2) (fun u : SU => rs_val 0 (A_make g fl t th)) (fun u : SU => SW E o u.1 u.2) (va_A (SW E o sc ar) sz)) (UXx E (fun (En : String) (u : SUX) => XC1 (nmX "java/lang/IllegalArgumentException" "java/lang/IndexOutOfBoundsException" "") (A_make g fl t th) En u.2.2) (fun u : SUX => SW E o u.1 u.2.1) (fun u : SUX => u.2.2) (va_A (SW E o sc ar) sz)) 4 25 (va_A (SW E o sc ar) sz) := by
  refine vx_ofW (cc := cX1_lambda_make_8) (maxL := 3) (ret := (some .int)) (by decide) rfl ?_
  intro p e s m args below meth c s₁ B hml htb hv
  obtain ⟨rfl, hsz, hP, hK, hD0, hE⟩ := hv
  have hx := B.exec
  have hb := B.bytes
  have hr := B.returns
  have hts := atoms_spec (ws := (ws_ yX1_lambda_make_8 cX1_lambda_make_8 3 (some .int))) B.pre
  have hts : ∀ w ∈ lw_all, w.before _ s = true := fun w h => hts w (List.mem_cons_of_mem _ h)
  have hown : s.vm.findClass RX1 = some m.cls := findClass_of_methodNamed B.named
  have hlocks := B.notSynchronized
  subst hsz
  have hD := hD0.self (sz := s.heap.size)
  generalize hAe : va_A (SW E o sc ar) s.heap.size = A at hD hE ⊢
  have hA : ∀ q : Nat, s.heap.size ≤ q → A q := fun q h => by rw [← hAe]; exact Or.inr h
  have hS : va_S A s.heap s.heap [] := va_S.rf
  have hl := lv_entry ([iv t, iv th, .ref (o 0)]) (n := 3) (Nat.le_of_ble_eq_true rfl)
  rw [lg_entry_eq]
  generalize (lg_sl ([iv t, iv th, .ref (o 0)]) ++ List.replicate (3 - (lg_sl ([iv t, iv th, .ref (o 0)])).length) Slot.unset).toArray = ls at hl ⊢
  have hl : lv_has ls 3 [(0, iv t), (1, iv th), (2, .ref (o 0))] := hl
  refine lv_aload_n hx hb dX1_lambda_make_8_0 rfl (lv_at hl 2 rfl) ?_
  refine lv_iload_n hx hb dX1_lambda_make_8_1 rfl (lv_at hl 0 rfl) ?_
  refine lv_iload_n hx hb dX1_lambda_make_8_2 rfl (lv_at hl 1 rfl) ?_
  have hz_1 : s.heap.size ≤ s.heap.size := hS.1
  refine n_txS (x := fun u_2 => rs_val 0 (A_make g fl t th)) (w2 := fun u_2 => SW E o u_2.1 u_2.2) (w3 := fun u_3 => SW E o u_3.1 u_3.2.1) (vx_runV (As := [iv t, iv th]) (rest := []) ⟨hx, hb, hml, hown, hts⟩ (mt_X2_make l E o sc ar t th g r fl (by exact hst) (by assumption) (by omega) (by omega) (by assumption) (by assumption) (by assumption) (by assumption) (by assumption) (by assumption) (by assumption) (by assumption) (by assumption) (by assumption) _) (cwV 2 hts (lw_V q1264 q1265 q1266 q95 q1267) rfl rfl rfl (by decide +kernel) ⟨Nat.le_of_ble_eq_true rfl, Nat.le_of_ble_eq_true rfl⟩) (UX_V hP hK (hD) hE hS (va_A_in hD hS hA) (va_recv hK.1 hP (ci := 2) (q0 := 0) rfl rfl)) rfl rfl hl.1 rfl (lv_room (Nat.le_of_ble_eq_true rfl)) dX1_lambda_make_8_3 ⟨Nat.le_of_ble_eq_true rfl, Nat.le_of_ble_eq_true rfl⟩) hP hD hS hA [0, 1, 2, 3, 4, 5, 6, 7, 8, 9, 10, 11, 12, 13, 14, 15, 16] [] [0, 1, 2, 3, 4, 5, 6, 7, 8, 9, 10, 11, 12, 13, 14, 15, 16] [0, 1, 2, 3, 4, 5, 6, 7, 8, 9, 10, 11, 12, 13, 14, 15, 16] rfl rfl rfl rfl rfl (fun _ => rfl) rfl (fun _ => rfl) ?_ ?_
  · intro En ce q9 u_3 H locs hCx hP hD hS hxf hq9 hce hcv hcl
    have hCx : XC1 (nmX "java/lang/IllegalArgumentException" "java/lang/IndexOutOfBoundsException" "") (A_make g fl t th) En u_3.2.2 := hCx
    have hP : va_P E.1 CL (SW E o u_3.1 u_3.2.1) H := hP
    have hD : va_D A (SW E o u_3.1 u_3.2.1) := hD
    exact n_out (u_3.1, u_3.2.1, u_3.2.2) (by exact hCx) hP hD hS hxf (Nat.le_trans hz_1 hq9) hce hcv hcl (fun x hx9 => (htb x hx9).elim) hlocks (Nat.le_of_ble_eq_true rfl) (Nat.le_of_ble_eq_true rfl)
  · intro u_2 H locs hC hP hD hS
    have hu_2 : (∃ q, A_make g fl t th = .inr (.inr q)) ∧ SR (rs_g g (A_make g fl t th)) u_2.1 u_2.2 := hC
    have hP : va_P E.1 CL (SW E o u_2.1 u_2.2) H := hP
    have hD : va_D A (SW E o u_2.1 u_2.2) := hD
    refine vx_ret ?_
    refine W.widen (k := 4) (n := 25) (Nat.le_of_ble_eq_true rfl) (Nat.le_of_ble_eq_true rfl) ?_
    exact W.iret (v := iI (rs_val 0 (A_make g fl t th))) hx hb hr (fun tt_ ht_ hW_ => ⟨⟨iI (rs_val 0 (A_make g fl t th)), (u_2.1, u_2.2), rfl, ⟨hu_2, rfl⟩, by rw [ht_]; exact hP, hD⟩, hS.F ht_⟩) hS.2.2 dX1_lambda_make_8_6
set_option maxHeartbeats 1000000 in
set_option maxRecDepth 100000 in
theorem mt_X1_lambda_openThread_6 (l : Launch) (E : EE) (o : Nat → Nat) (sc : Nat → Int) (ar : Nat → Int → Int)  (g : Int → Int) (hst : l.stackTraces = false) (hsr : SR g sc ar) (hg0 : 0 ≤ g 0) (sz : Nat) : vx_Met l yX1_lambda_openThread_6 (ws_ yX1_lambda_openThread_6 cX1_lambda_openThread_6 1 (some .int)) { frames := 8, cells := 1, slots := 6, locals := 133 } (va_Pc [.ref (o 0)] (UX E (SW E o sc ar) sz)) (UQx E (fun u : SU => (∃ q, A_open g = .inr (.inr q)) ∧ SR (rs_g g (A_open g)) u.1 u.2) (fun u : SU => rs_val 0 (A_open g)) (fun u : SU => SW E o u.1 u.2) (va_A (SW E o sc ar) sz)) (UXx E (fun (En : String) (u : SUX) => XC1 (nmX "java/lang/IllegalStateException" "" "") (A_open g) En u.2.2) (fun u : SUX => SW E o u.1 u.2.1) (fun u : SUX => u.2.2) (va_A (SW E o sc ar) sz)) 1 6 (va_A (SW E o sc ar) sz) := by
  refine vx_ofW (cc := cX1_lambda_openThread_6) (maxL := 1) (ret := (some .int)) (by decide) rfl ?_
  intro p e s m args below meth c s₁ B hml htb hv
  obtain ⟨rfl, hsz, hP, hK, hD0, hE⟩ := hv
  have hx := B.exec
  have hb := B.bytes
  have hr := B.returns
  have hts := atoms_spec (ws := (ws_ yX1_lambda_openThread_6 cX1_lambda_openThread_6 1 (some .int))) B.pre
  have hts : ∀ w ∈ lw_all, w.before _ s = true := fun w h => hts w (List.mem_cons_of_mem _ h)
  have hown : s.vm.findClass RX1 = some m.cls := findClass_of_methodNamed B.named
  have hlocks := B.notSynchronized
  subst hsz
  have hD := hD0.self (sz := s.heap.size)
  generalize hAe : va_A (SW E o sc ar) s.heap.size = A at hD hE ⊢
  have hA : ∀ q : Nat, s.heap.size ≤ q → A q := fun q h => by rw [← hAe]; exact Or.inr h
  have hS : va_S A s.heap s.heap [] := va_S.rf
  have hl := lv_entry ([.ref (o 0)]) (n := 1) (Nat.le_of_ble_eq_true rfl)
  rw [lg_entry_eq]
  generalize (lg_sl ([.ref (o 0)]) ++ List.replicate (1 - (lg_sl ([.ref (o 0)])).length) Slot.unset).toArray = ls at hl ⊢
  have hl : lv_has ls 1 [(0, .ref (o 0))] := hl
  refine lv_aload_n hx hb dX1_lambda_openThread_6_0 rfl (lv_at hl 0 rfl) ?_
  have hz_1 : s.heap.size ≤ s.heap.size := hS.1
  refine n_txS (x := fun u_2 => rs_val 0 (A_open g)) (w2 := fun u_2 => SW E o u_2.1 u_2.2) (w3 := fun u_3 => SW E o u_3.1 u_3.2.1) (vx_runV (As := []) (rest := []) ⟨hx, hb, hml, hown, hts⟩ (mt_X2_openThread l E o sc ar  g (by exact hst) (by assumption) (by assumption) _) (cwV 0 hts (lw_V q1222 q1223 q1224 q95 q1225) rfl rfl rfl (by decide +kernel) ⟨Nat.le_of_ble_eq_true rfl, Nat.le_of_ble_eq_true rfl⟩) (UX_V hP hK (hD) hE hS (va_A_in hD hS hA) (va_recv hK.1 hP (ci := 2) (q0 := 0) rfl rfl)) rfl rfl hl.1 rfl (lv_room (Nat.le_of_ble_eq_true rfl)) dX1_lambda_openThread_6_1 ⟨Nat.le_of_ble_eq_true rfl, Nat.le_of_ble_eq_true rfl⟩) hP hD hS hA [0, 1, 2, 3, 4, 5, 6, 7, 8, 9, 10, 11, 12, 13, 14, 15, 16] [] [0, 1, 2, 3, 4, 5, 6, 7, 8, 9, 10, 11, 12, 13, 14, 15, 16] [0, 1, 2, 3, 4, 5, 6, 7, 8, 9, 10, 11, 12, 13, 14, 15, 16] rfl rfl rfl rfl rfl (fun _ => rfl) rfl (fun _ => rfl) ?_ ?_
  · intro En ce q9 u_3 H locs hCx hP hD hS hxf hq9 hce hcv hcl
    have hCx : XC1 (nmX "java/lang/IllegalStateException" "" "") (A_open g) En u_3.2.2 := hCx
    have hP : va_P E.1 CL (SW E o u_3.1 u_3.2.1) H := hP
    have hD : va_D A (SW E o u_3.1 u_3.2.1) := hD
    exact n_out (u_3.1, u_3.2.1, u_3.2.2) (by exact hCx) hP hD hS hxf (Nat.le_trans hz_1 hq9) hce hcv hcl (fun x hx9 => (htb x hx9).elim) hlocks (Nat.le_of_ble_eq_true rfl) (Nat.le_of_ble_eq_true rfl)
  · intro u_2 H locs hC hP hD hS
    have hu_2 : (∃ q, A_open g = .inr (.inr q)) ∧ SR (rs_g g (A_open g)) u_2.1 u_2.2 := hC
    have hP : va_P E.1 CL (SW E o u_2.1 u_2.2) H := hP
    have hD : va_D A (SW E o u_2.1 u_2.2) := hD
    refine vx_ret ?_
    refine W.widen (k := 1) (n := 6) (Nat.le_of_ble_eq_true rfl) (Nat.le_of_ble_eq_true rfl) ?_
    exact W.iret (v := iI (rs_val 0 (A_open g))) hx hb hr (fun tt_ ht_ hW_ => ⟨⟨iI (rs_val 0 (A_open g)), (u_2.1, u_2.2), rfl, ⟨hu_2, rfl⟩, by rw [ht_]; exact hP, hD⟩, hS.F ht_⟩) hS.2.2 dX1_lambda_openThread_6_4
set_option maxHeartbeats 1000000 in
set_option maxRecDepth 100000 in
theorem mt_X1_lambda_putBack_5 (l : Launch) (E : EE) (o : Nat → Nat) (sc : Nat → Int) (ar : Nat → Int → Int) (t : Int) (g : Int → Int) (hst : l.stackTraces = false) (hsr : SR g sc ar) (ht : 0 ≤ t ∧ t < 65536) (htw : TW g) (hsw : SwOK g) (hhn : HN g) (sz : Nat) : vx_Met l yX1_lambda_putBack_5 (ws_ yX1_lambda_putBack_5 cX1_lambda_putBack_5 2 (some .int)) { frames := 9, cells := 43, slots := 317, locals := 3160 } (va_Pc [iv t, .ref (o 0)] (UX E (SW E o sc ar) sz)) (UQx E (fun u : SU => (∃ q, A_back g t = .inr (.inr q)) ∧ SR (rs_g g (A_back g t)) u.1 u.2) (fun u : SU => rs_val 0 (A_back g t)) (fun u : SU => SW E o u.1 u.2) (va_A (SW E o sc ar) sz)) (UXx E (fun (En : String) (u : SUX) => XC1 (nmX "java/lang/IllegalArgumentException" "java/util/NoSuchElementException" "") (A_back g t) En u.2.2) (fun u : SUX => SW E o u.1 u.2.1) (fun u : SUX => u.2.2) (va_A (SW E o sc ar) sz)) 43 317 (va_A (SW E o sc ar) sz) := by
  refine vx_ofW (cc := cX1_lambda_putBack_5) (maxL := 2) (ret := (some .int)) (by decide) rfl ?_
  intro p e s m args below meth c s₁ B hml htb hv
  obtain ⟨rfl, hsz, hP, hK, hD0, hE⟩ := hv
  have hx := B.exec
  have hb := B.bytes
  have hr := B.returns
  have hts := atoms_spec (ws := (ws_ yX1_lambda_putBack_5 cX1_lambda_putBack_5 2 (some .int))) B.pre
  have hts : ∀ w ∈ lw_all, w.before _ s = true := fun w h => hts w (List.mem_cons_of_mem _ h)
  have hown : s.vm.findClass RX1 = some m.cls := findClass_of_methodNamed B.named
  have hlocks := B.notSynchronized
  subst hsz
  have hD := hD0.self (sz := s.heap.size)
  generalize hAe : va_A (SW E o sc ar) s.heap.size = A at hD hE ⊢
  have hA : ∀ q : Nat, s.heap.size ≤ q → A q := fun q h => by rw [← hAe]; exact Or.inr h
  have hS : va_S A s.heap s.heap [] := va_S.rf
  have hl := lv_entry ([iv t, .ref (o 0)]) (n := 2) (Nat.le_of_ble_eq_true rfl)
  rw [lg_entry_eq]
  generalize (lg_sl ([iv t, .ref (o 0)]) ++ List.replicate (2 - (lg_sl ([iv t, .ref (o 0)])).length) Slot.unset).toArray = ls at hl ⊢
  have hl : lv_has ls 2 [(0, iv t), (1, .ref (o 0))] := hl
  refine lv_aload_n hx hb dX1_lambda_putBack_5_0 rfl (lv_at hl 1 rfl) ?_
  refine lv_iload_n hx hb dX1_lambda_putBack_5_1 rfl (lv_at hl 0 rfl) ?_
  have hz_1 : s.heap.size ≤ s.heap.size := hS.1
  refine n_txS (x := fun u_2 => rs_val 0 (A_back g t)) (w2 := fun u_2 => SW E o u_2.1 u_2.2) (w3 := fun u_3 => SW E o u_3.1 u_3.2.1) (vx_runV (As := [iv t]) (rest := []) ⟨hx, hb, hml, hown, hts⟩ (mt_X2_putBack l E o sc ar t g (by exact hst) (by assumption) (by omega) (by assumption) (by assumption) (by assumption) _) (cwV 1 hts (lw_V q1167 q1168 q1169 q95 q1170) rfl rfl rfl (by decide +kernel) ⟨Nat.le_of_ble_eq_true rfl, Nat.le_of_ble_eq_true rfl⟩) (UX_V hP hK (hD) hE hS (va_A_in hD hS hA) (va_recv hK.1 hP (ci := 2) (q0 := 0) rfl rfl)) rfl rfl hl.1 rfl (lv_room (Nat.le_of_ble_eq_true rfl)) dX1_lambda_putBack_5_2 ⟨Nat.le_of_ble_eq_true rfl, Nat.le_of_ble_eq_true rfl⟩) hP hD hS hA [0, 1, 2, 3, 4, 5, 6, 7, 8, 9, 10, 11, 12, 13, 14, 15, 16] [] [0, 1, 2, 3, 4, 5, 6, 7, 8, 9, 10, 11, 12, 13, 14, 15, 16] [0, 1, 2, 3, 4, 5, 6, 7, 8, 9, 10, 11, 12, 13, 14, 15, 16] rfl rfl rfl rfl rfl (fun _ => rfl) rfl (fun _ => rfl) ?_ ?_
  · intro En ce q9 u_3 H locs hCx hP hD hS hxf hq9 hce hcv hcl
    have hCx : XC1 (nmX "java/lang/IllegalArgumentException" "java/util/NoSuchElementException" "") (A_back g t) En u_3.2.2 := hCx
    have hP : va_P E.1 CL (SW E o u_3.1 u_3.2.1) H := hP
    have hD : va_D A (SW E o u_3.1 u_3.2.1) := hD
    exact n_out (u_3.1, u_3.2.1, u_3.2.2) (by exact hCx) hP hD hS hxf (Nat.le_trans hz_1 hq9) hce hcv hcl (fun x hx9 => (htb x hx9).elim) hlocks (Nat.le_of_ble_eq_true rfl) (Nat.le_of_ble_eq_true rfl)
  · intro u_2 H locs hC hP hD hS
    have hu_2 : (∃ q, A_back g t = .inr (.inr q)) ∧ SR (rs_g g (A_back g t)) u_2.1 u_2.2 := hC
    have hP : va_P E.1 CL (SW E o u_2.1 u_2.2) H := hP
    have hD : va_D A (SW E o u_2.1 u_2.2) := hD
    refine vx_ret ?_
    refine W.widen (k := 43) (n := 317) (Nat.le_of_ble_eq_true rfl) (Nat.le_of_ble_eq_true rfl) ?_
    exact W.iret (v := iI (rs_val 0 (A_back g t))) hx hb hr (fun tt_ ht_ hW_ => ⟨⟨iI (rs_val 0 (A_back g t)), (u_2.1, u_2.2), rfl, ⟨hu_2, rfl⟩, by rw [ht_]; exact hP, hD⟩, hS.F ht_⟩) hS.2.2 dX1_lambda_putBack_5_5
set_option maxHeartbeats 1000000 in
set_option maxRecDepth 100000 in
theorem mt_X1_lambda_removeNeed_3 (l : Launch) (E : EE) (o : Nat → Nat) (sc : Nat → Int) (ar : Nat → Int → Int) (t : Int) (n9 : Int) (g : Int → Int) (hst : l.stackTraces = false) (hsr : SR g sc ar) (ht : 0 ≤ t ∧ t < 65536) (hn : 0 ≤ n9 ∧ n9 < 65536) (htw : TW g) (hhn : HN g) (sz : Nat) : vx_Met l yX1_lambda_removeNeed_3 (ws_ yX1_lambda_removeNeed_3 cX1_lambda_removeNeed_3 3 (some .int)) { frames := 9, cells := 4, slots := 24, locals := 158 } (va_Pc [iv t, iv n9, .ref (o 0)] (UX E (SW E o sc ar) sz)) (UQx E (fun u : SU => (∃ q, A_rem g t n9 = .inr (.inr q)) ∧ SR (rs_g g (A_rem g t n9)) u.1 u.2) (fun u : SU => rs_val 0 (A_rem g t n9)) (fun u : SU => SW E o u.1 u.2) (va_A (SW E o sc ar) sz)) (UXx E (fun (En : String) (u : SUX) => XC1 (nmX "java/lang/IllegalArgumentException" "java/util/NoSuchElementException" "") (A_rem g t n9) En u.2.2) (fun u : SUX => SW E o u.1 u.2.1) (fun u : SUX => u.2.2) (va_A (SW E o sc ar) sz)) 4 24 (va_A (SW E o sc ar) sz) := by
  refine vx_ofW (cc := cX1_lambda_removeNeed_3) (maxL := 3) (ret := (some .int)) (by decide) rfl ?_
  intro p e s m args below meth c s₁ B hml htb hv
  obtain ⟨rfl, hsz, hP, hK, hD0, hE⟩ := hv
  have hx := B.exec
  have hb := B.bytes
  have hr := B.returns
  have hts := atoms_spec (ws := (ws_ yX1_lambda_removeNeed_3 cX1_lambda_removeNeed_3 3 (some .int))) B.pre
  have hts : ∀ w ∈ lw_all, w.before _ s = true := fun w h => hts w (List.mem_cons_of_mem _ h)
  have hown : s.vm.findClass RX1 = some m.cls := findClass_of_methodNamed B.named
  have hlocks := B.notSynchronized
  subst hsz
  have hD := hD0.self (sz := s.heap.size)
  generalize hAe : va_A (SW E o sc ar) s.heap.size = A at hD hE ⊢
  have hA : ∀ q : Nat, s.heap.size ≤ q → A q := fun q h => by rw [← hAe]; exact Or.inr h
  have hS : va_S A s.heap s.heap [] := va_S.rf
  have hl := lv_entry ([iv t, iv n9, .ref (o 0)]) (n := 3) (Nat.le_of_ble_eq_true rfl)
  rw [lg_entry_eq]
  generalize (lg_sl ([iv t, iv n9, .ref (o 0)]) ++ List.replicate (3 - (lg_sl ([iv t, iv n9, .ref (o 0)])).length) Slot.unset).toArray = ls at hl ⊢
  have hl : lv_has ls 3 [(0, iv t), (1, iv n9), (2, .ref (o 0))] := hl
  refine lv_aload_n hx hb dX1_lambda_removeNeed_3_0 rfl (lv_at hl 2 rfl) ?_
  refine lv_iload_n hx hb dX1_lambda_removeNeed_3_1 rfl (lv_at hl 0 rfl) ?_
  refine lv_iload_n hx hb dX1_lambda_removeNeed_3_2 rfl (lv_at hl 1 rfl) ?_
  have hz_1 : s.heap.size ≤ s.heap.size := hS.1
  refine n_txS (x := fun u_2 => rs_val 0 (A_rem g t n9)) (w2 := fun u_2 => SW E o u_2.1 u_2.2) (w3 := fun u_3 => SW E o u_3.1 u_3.2.1) (vx_runV (As := [iv t, iv n9]) (rest := []) ⟨hx, hb, hml, hown, hts⟩ (mt_X2_removeNeed l E o sc ar t n9 g (by exact hst) (by assumption) (by omega) (by omega) (by assumption) (by assumption) _) (cwV 2 hts (lw_V q1033 q1034 q1035 q95 q1036) rfl rfl rfl (by decide +kernel) ⟨Nat.le_of_ble_eq_true rfl, Nat.le_of_ble_eq_true rfl⟩) (UX_V hP hK (hD) hE hS (va_A_in hD hS hA) (va_recv hK.1 hP (ci := 2) (q0 := 0) rfl rfl)) rfl rfl hl.1 rfl (lv_room (Nat.le_of_ble_eq_true rfl)) dX1_lambda_removeNeed_3_3 ⟨Nat.le_of_ble_eq_true rfl, Nat.le_of_ble_eq_true rfl⟩) hP hD hS hA [0, 1, 2, 3, 4, 5, 6, 7, 8, 9, 10, 11, 12, 13, 14, 15, 16] [] [0, 1, 2, 3, 4, 5, 6, 7, 8, 9, 10, 11, 12, 13, 14, 15, 16] [0, 1, 2, 3, 4, 5, 6, 7, 8, 9, 10, 11, 12, 13, 14, 15, 16] rfl rfl rfl rfl rfl (fun _ => rfl) rfl (fun _ => rfl) ?_ ?_
  · intro En ce q9 u_3 H locs hCx hP hD hS hxf hq9 hce hcv hcl
    have hCx : XC1 (nmX "java/lang/IllegalArgumentException" "java/util/NoSuchElementException" "") (A_rem g t n9) En u_3.2.2 := hCx
    have hP : va_P E.1 CL (SW E o u_3.1 u_3.2.1) H := hP
    have hD : va_D A (SW E o u_3.1 u_3.2.1) := hD
    exact n_out (u_3.1, u_3.2.1, u_3.2.2) (by exact hCx) hP hD hS hxf (Nat.le_trans hz_1 hq9) hce hcv hcl (fun x hx9 => (htb x hx9).elim) hlocks (Nat.le_of_ble_eq_true rfl) (Nat.le_of_ble_eq_true rfl)
  · intro u_2 H locs hC hP hD hS
    have hu_2 : (∃ q, A_rem g t n9 = .inr (.inr q)) ∧ SR (rs_g g (A_rem g t n9)) u_2.1 u_2.2 := hC
    have hP : va_P E.1 CL (SW E o u_2.1 u_2.2) H := hP
    have hD : va_D A (SW E o u_2.1 u_2.2) := hD
    refine vx_ret ?_
    refine W.widen (k := 4) (n := 24) (Nat.le_of_ble_eq_true rfl) (Nat.le_of_ble_eq_true rfl) ?_
    exact W.iret (v := iI (rs_val 0 (A_rem g t n9))) hx hb hr (fun tt_ ht_ hW_ => ⟨⟨iI (rs_val 0 (A_rem g t n9)), (u_2.1, u_2.2), rfl, ⟨hu_2, rfl⟩, by rw [ht_]; exact hP, hD⟩, hS.F ht_⟩) hS.2.2 dX1_lambda_removeNeed_3_6
set_option maxHeartbeats 1000000 in
set_option maxRecDepth 100000 in
theorem mt_X1_lambda_replace_4 (l : Launch) (E : EE) (o : Nat → Nat) (sc : Nat → Int) (ar : Nat → Int → Int) (t : Int) (n9 : Int) (g : Int → Int) (hst : l.stackTraces = false) (hsr : SR g sc ar) (ht : 0 ≤ t ∧ t < 65536) (hn : 0 ≤ n9 ∧ n9 < 65536) (htw : TW g) (hsw : SwOK g) (hhn : HN g) (sz : Nat) : vx_Met l yX1_lambda_replace_4 (ws_ yX1_lambda_replace_4 cX1_lambda_replace_4 3 (some .int)) { frames := 9, cells := 45, slots := 332, locals := 3162 } (va_Pc [iv t, iv n9, .ref (o 0)] (UX E (SW E o sc ar) sz)) (UQx E (fun u : SU => (∃ q, A_repl g t n9 = .inr (.inr q)) ∧ SR (rs_g g (A_repl g t n9)) u.1 u.2) (fun u : SU => rs_val 0 (A_repl g t n9)) (fun u : SU => SW E o u.1 u.2) (va_A (SW E o sc ar) sz)) (UXx E (fun (En : String) (u : SUX) => XC1 (nmX "java/lang/IllegalArgumentException" "" "") (A_repl g t n9) En u.2.2) (fun u : SUX => SW E o u.1 u.2.1) (fun u : SUX => u.2.2) (va_A (SW E o sc ar) sz)) 45 332 (va_A (SW E o sc ar) sz) := by
  refine vx_ofW (cc := cX1_lambda_replace_4) (maxL := 3) (ret := (some .int)) (by decide) rfl ?_
  intro p e s m args below meth c s₁ B hml htb hv
  obtain ⟨rfl, hsz, hP, hK, hD0, hE⟩ := hv
  have hx := B.exec
  have hb := B.bytes
  have hr := B.returns
  have hts := atoms_spec (ws := (ws_ yX1_lambda_replace_4 cX1_lambda_replace_4 3 (some .int))) B.pre
  have hts : ∀ w ∈ lw_all, w.before _ s = true := fun w h => hts w (List.mem_cons_of_mem _ h)
  have hown : s.vm.findClass RX1 = some m.cls := findClass_of_methodNamed B.named
  have hlocks := B.notSynchronized
  subst hsz
  have hD := hD0.self (sz := s.heap.size)
  generalize hAe : va_A (SW E o sc ar) s.heap.size = A at hD hE ⊢
  have hA : ∀ q : Nat, s.heap.size ≤ q → A q := fun q h => by rw [← hAe]; exact Or.inr h
  have hS : va_S A s.heap s.heap [] := va_S.rf
  have hl := lv_entry ([iv t, iv n9, .ref (o 0)]) (n := 3) (Nat.le_of_ble_eq_true rfl)
  rw [lg_entry_eq]
  generalize (lg_sl ([iv t, iv n9, .ref (o 0)]) ++ List.replicate (3 - (lg_sl ([iv t, iv n9, .ref (o 0)])).length) Slot.unset).toArray = ls at hl ⊢
  have hl : lv_has ls 3 [(0, iv t), (1, iv n9), (2, .ref (o 0))] := hl
  refine lv_aload_n hx hb dX1_lambda_replace_4_0 rfl (lv_at hl 2 rfl) ?_
  refine lv_iload_n hx hb dX1_lambda_replace_4_1 rfl (lv_at hl 0 rfl) ?_
  refine lv_iload_n hx hb dX1_lambda_replace_4_2 rfl (lv_at hl 1 rfl) ?_
  have hz_1 : s.heap.size ≤ s.heap.size := hS.1
  refine n_txS (x := fun u_2 => rs_val 0 (A_repl g t n9)) (w2 := fun u_2 => SW E o u_2.1 u_2.2) (w3 := fun u_3 => SW E o u_3.1 u_3.2.1) (vx_runV (As := [iv t, iv n9]) (rest := []) ⟨hx, hb, hml, hown, hts⟩ (mt_X2_replace l E o sc ar t n9 g (by exact hst) (by assumption) (by omega) (by omega) (by assumption) (by assumption) (by assumption) _) (cwV 2 hts (lw_V q1146 q1147 q1148 q95 q1149) rfl rfl rfl (by decide +kernel) ⟨Nat.le_of_ble_eq_true rfl, Nat.le_of_ble_eq_true rfl⟩) (UX_V hP hK (hD) hE hS (va_A_in hD hS hA) (va_recv hK.1 hP (ci := 2) (q0 := 0) rfl rfl)) rfl rfl hl.1 rfl (lv_room (Nat.le_of_ble_eq_true rfl)) dX1_lambda_replace_4_3 ⟨Nat.le_of_ble_eq_true rfl, Nat.le_of_ble_eq_true rfl⟩) hP hD hS hA [0, 1, 2, 3, 4, 5, 6, 7, 8, 9, 10, 11, 12, 13, 14, 15, 16] [] [0, 1, 2, 3, 4, 5, 6, 7, 8, 9, 10, 11, 12, 13, 14, 15, 16] [0, 1, 2, 3, 4, 5, 6, 7, 8, 9, 10, 11, 12, 13, 14, 15, 16] rfl rfl rfl rfl rfl (fun _ => rfl) rfl (fun _ => rfl) ?_ ?_
  · intro En ce q9 u_3 H locs hCx hP hD hS hxf hq9 hce hcv hcl
    have hCx : XC1 (nmX "java/lang/IllegalArgumentException" "" "") (A_repl g t n9) En u_3.2.2 := hCx
    have hP : va_P E.1 CL (SW E o u_3.1 u_3.2.1) H := hP
    have hD : va_D A (SW E o u_3.1 u_3.2.1) := hD
    exact n_out (u_3.1, u_3.2.1, u_3.2.2) (by exact hCx) hP hD hS hxf (Nat.le_trans hz_1 hq9) hce hcv hcl (fun x hx9 => (htb x hx9).elim) hlocks (Nat.le_of_ble_eq_true rfl) (Nat.le_of_ble_eq_true rfl)
  · intro u_2 H locs hC hP hD hS
    have hu_2 : (∃ q, A_repl g t n9 = .inr (.inr q)) ∧ SR (rs_g g (A_repl g t n9)) u_2.1 u_2.2 := hC
    have hP : va_P E.1 CL (SW E o u_2.1 u_2.2) H := hP
    have hD : va_D A (SW E o u_2.1 u_2.2) := hD
    refine vx_ret ?_
    refine W.widen (k := 45) (n := 332) (Nat.le_of_ble_eq_true rfl) (Nat.le_of_ble_eq_true rfl) ?_
    exact W.iret (v := iI (rs_val 0 (A_repl g t n9))) hx hb hr (fun tt_ ht_ hW_ => ⟨⟨iI (rs_val 0 (A_repl g t n9)), (u_2.1, u_2.2), rfl, ⟨hu_2, rfl⟩, by rw [ht_]; exact hP, hD⟩, hS.F ht_⟩) hS.2.2 dX1_lambda_replace_4_6
set_option maxHeartbeats 1000000 in
set_option maxRecDepth 100000 in
theorem mt_X1_lambda_touch_9 (l : Launch) (E : EE) (o : Nat → Nat) (sc : Nat → Int) (ar : Nat → Int → Int) (k : Int) (p9 : Int) (th : Int) (g : Int → Int) (r : Int → Nat) (fl : Int → Int) (hst : l.stackTraces = false) (hsr : SR g sc ar) (hk : -2147483648 ≤ k ∧ k < 2147483648) (hp : -2147483648 ≤ p9 ∧ p9 < 2147483648) (hth : -2147483648 ≤ th ∧ th < 2147483648) (htw : TW g) (hsw : SwOK g) (htm : TM g) (hhn : HN g) (hsc : SC g) (hrk : RK g r) (hr8 : ∀ t, 0 ≤ t → t < 8 → r t < 8) (how : OY g) (h60 : g 1 ≤ 60) (hfit : ∀ t, 0 ≤ t → t < 8 → ∀ th, g 1 + (m_dues g t th).1 ≤ 160) (sz : Nat) : vx_Met l yX1_lambda_touch_9 (ws_ yX1_lambda_touch_9 cX1_lambda_touch_9 4 (some .int)) { frames := 22, cells := 5, slots := 31, locals := 673 } (va_Pc [iv k, iv p9, iv th, .ref (o 0)] (UX E (SW E o sc ar) sz)) (UQx E (fun u : SU => (∃ q, A_tch g fl k p9 th = .inr (.inr q)) ∧ SR (rs_g g (A_tch g fl k p9 th)) u.1 u.2) (fun u : SU => rs_val 0 (A_tch g fl k p9 th)) (fun u : SU => SW E o u.1 u.2) (va_A (SW E o sc ar) sz)) (UXx E (fun (En : String) (u : SUX) => XC1 (nmX "java/lang/IndexOutOfBoundsException" "" "") (A_tch g fl k p9 th) En u.2.2) (fun u : SUX => SW E o u.1 u.2.1) (fun u : SUX => u.2.2) (va_A (SW E o sc ar) sz)) 5 31 (va_A (SW E o sc ar) sz) := by
  refine vx_ofW (cc := cX1_lambda_touch_9) (maxL := 4) (ret := (some .int)) (by decide) rfl ?_
  intro p e s m args below meth c s₁ B hml htb hv
  obtain ⟨rfl, hsz, hP, hK, hD0, hE⟩ := hv
  have hx := B.exec
  have hb := B.bytes
  have hr := B.returns
  have hts := atoms_spec (ws := (ws_ yX1_lambda_touch_9 cX1_lambda_touch_9 4 (some .int))) B.pre
  have hts : ∀ w ∈ lw_all, w.before _ s = true := fun w h => hts w (List.mem_cons_of_mem _ h)
  have hown : s.vm.findClass RX1 = some m.cls := findClass_of_methodNamed B.named
  have hlocks := B.notSynchronized
  subst hsz
  have hD := hD0.self (sz := s.heap.size)
  generalize hAe : va_A (SW E o sc ar) s.heap.size = A at hD hE ⊢
  have hA : ∀ q : Nat, s.heap.size ≤ q → A q := fun q h => by rw [← hAe]; exact Or.inr h
  have hS : va_S A s.heap s.heap [] := va_S.rf
  have hl := lv_entry ([iv k, iv p9, iv th, .ref (o 0)]) (n := 4) (Nat.le_of_ble_eq_true rfl)
  rw [lg_entry_eq]
  generalize (lg_sl ([iv k, iv p9, iv th, .ref (o 0)]) ++ List.replicate (4 - (lg_sl ([iv k, iv p9, iv th, .ref (o 0)])).length) Slot.unset).toArray = ls at hl ⊢
  have hl : lv_has ls 4 [(0, iv k), (1, iv p9), (2, iv th), (3, .ref (o 0))] := hl
  refine lv_aload_n hx hb dX1_lambda_touch_9_0 rfl (lv_at hl 3 rfl) ?_
  refine lv_iload_n hx hb dX1_lambda_touch_9_1 rfl (lv_at hl 0 rfl) ?_
  refine lv_iload_n hx hb dX1_lambda_touch_9_2 rfl (lv_at hl 1 rfl) ?_
  refine lv_iload_n hx hb dX1_lambda_touch_9_3 rfl (lv_at hl 2 rfl) ?_
  have hz_1 : s.heap.size ≤ s.heap.size := hS.1
  refine n_txS (x := fun u_2 => rs_val 0 (A_tch g fl k p9 th)) (w2 := fun u_2 => SW E o u_2.1 u_2.2) (w3 := fun u_3 => SW E o u_3.1 u_3.2.1) (vx_runV (As := [iv k, iv p9, iv th]) (rest := []) ⟨hx, hb, hml, hown, hts⟩ (mt_X2_touch l E o sc ar k p9 th g r fl (by exact hst) (by assumption) (by omega) (by omega) (by omega) (by assumption) (by assumption) (by assumption) (by assumption) (by assumption) (by assumption) (by assumption) (by assumption) (by assumption) (by assumption) _) (cwV 3 hts (lw_V q1281 q1282 q1283 q95 q1284) rfl rfl rfl (by decide +kernel) ⟨Nat.le_of_ble_eq_true rfl, Nat.le_of_ble_eq_true rfl⟩) (UX_V hP hK (hD) hE hS (va_A_in hD hS hA) (va_recv hK.1 hP (ci := 2) (q0 := 0) rfl rfl)) rfl rfl hl.1 rfl (lv_room (Nat.le_of_ble_eq_true rfl)) dX1_lambda_touch_9_4 ⟨Nat.le_of_ble_eq_true rfl, Nat.le_of_ble_eq_true rfl⟩) hP hD hS hA [0, 1, 2, 3, 4, 5, 6, 7, 8, 9, 10, 11, 12, 13, 14, 15, 16] [] [0, 1, 2, 3, 4, 5, 6, 7, 8, 9, 10, 11, 12, 13, 14, 15, 16] [0, 1, 2, 3, 4, 5, 6, 7, 8, 9, 10, 11, 12, 13, 14, 15, 16] rfl rfl rfl rfl rfl (fun _ => rfl) rfl (fun _ => rfl) ?_ ?_
  · intro En ce q9 u_3 H locs hCx hP hD hS hxf hq9 hce hcv hcl
    have hCx : XC1 (nmX "java/lang/IndexOutOfBoundsException" "" "") (A_tch g fl k p9 th) En u_3.2.2 := hCx
    have hP : va_P E.1 CL (SW E o u_3.1 u_3.2.1) H := hP
    have hD : va_D A (SW E o u_3.1 u_3.2.1) := hD
    exact n_out (u_3.1, u_3.2.1, u_3.2.2) (by exact hCx) hP hD hS hxf (Nat.le_trans hz_1 hq9) hce hcv hcl (fun x hx9 => (htb x hx9).elim) hlocks (Nat.le_of_ble_eq_true rfl) (Nat.le_of_ble_eq_true rfl)
  · intro u_2 H locs hC hP hD hS
    have hu_2 : (∃ q, A_tch g fl k p9 th = .inr (.inr q)) ∧ SR (rs_g g (A_tch g fl k p9 th)) u_2.1 u_2.2 := hC
    have hP : va_P E.1 CL (SW E o u_2.1 u_2.2) H := hP
    have hD : va_D A (SW E o u_2.1 u_2.2) := hD
    refine vx_ret ?_
    refine W.widen (k := 5) (n := 31) (Nat.le_of_ble_eq_true rfl) (Nat.le_of_ble_eq_true rfl) ?_
    exact W.iret (v := iI (rs_val 0 (A_tch g fl k p9 th))) hx hb hr (fun tt_ ht_ hW_ => ⟨⟨iI (rs_val 0 (A_tch g fl k p9 th)), (u_2.1, u_2.2), rfl, ⟨hu_2, rfl⟩, by rw [ht_]; exact hP, hD⟩, hS.F ht_⟩) hS.2.2 dX1_lambda_touch_9_7
set_option maxHeartbeats 1000000 in
set_option maxRecDepth 100000 in
theorem mt_X4_lambda_closing_7 (l : Launch) (E : EE) (o : Nat → Nat) (sc : Nat → Int) (ar : Nat → Int → Int) (th : Int) (g : Int → Int) (hst : l.stackTraces = false) (hsr : SR g sc ar) (hth : -2147483648 ≤ th ∧ th < 2147483648) (hg0 : 0 ≤ g 0) (how : OY g) (hhh : HH g) (hpl : ∀ k, 0 ≤ k → k < g 1 → 0 ≤ m_thing g k 1 ∧ m_thing g k 1 < 2147483648) (hsc : SC g) (sz : Nat) : vx_Met l yX4_lambda_closing_7 (ws_ yX4_lambda_closing_7 cX4_lambda_closing_7 2 (some .int)) { frames := 9, cells := 1, slots := 6, locals := 156 } (va_Pc [iv th, .ref (o 0)] (UX E (SW E o sc ar) sz)) (UQx E (fun u : SU => (∃ q, A_close g th = .inr (.inr q)) ∧ SR (rs_g g (A_close g th)) u.1 u.2) (fun u : SU => rs_val 0 (A_close g th)) (fun u : SU => SW E o u.1 u.2) (va_A (SW E o sc ar) sz)) (UXx E (fun (En : String) (u : SUX) => XC1 (nmX "java/lang/IndexOutOfBoundsException" "" "") (A_close g th) En u.2.2) (fun u : SUX => SW E o u.1 u.2.1) (fun u : SUX => u.2.2) (va_A (SW E o sc ar) sz)) 1 6 (va_A (SW E o sc ar) sz) := by
  refine vx_ofW (cc := cX4_lambda_closing_7) (maxL := 2) (ret := (some .int)) (by decide) rfl ?_
  intro p e s m args below meth c s₁ B hml htb hv
  obtain ⟨rfl, hsz, hP, hK, hD0, hE⟩ := hv
  have hx := B.exec
  have hb := B.bytes
  have hr := B.returns
  have hts := atoms_spec (ws := (ws_ yX4_lambda_closing_7 cX4_lambda_closing_7 2 (some .int))) B.pre
  have hts : ∀ w ∈ lw_all, w.before _ s = true := fun w h => hts w (List.mem_cons_of_mem _ h)
  have hown : s.vm.findClass RX4 = some m.cls := findClass_of_methodNamed B.named
  have hlocks := B.notSynchronized
  subst hsz
  have hD := hD0.self (sz := s.heap.size)
  generalize hAe : va_A (SW E o sc ar) s.heap.size = A at hD hE ⊢
  have hA : ∀ q : Nat, s.heap.size ≤ q → A q := fun q h => by rw [← hAe]; exact Or.inr h
  have hS : va_S A s.heap s.heap [] := va_S.rf
  have hl := lv_entry ([iv th, .ref (o 0)]) (n := 2) (Nat.le_of_ble_eq_true rfl)
  rw [lg_entry_eq]
  generalize (lg_sl ([iv th, .ref (o 0)]) ++ List.replicate (2 - (lg_sl ([iv th, .ref (o 0)])).length) Slot.unset).toArray = ls at hl ⊢
  have hl : lv_has ls 2 [(0, iv th), (1, .ref (o 0))] := hl
  refine lv_aload_n hx hb dX4_lambda_closing_7_0 rfl (lv_at hl 1 rfl) ?_
  refine lv_iload_n hx hb dX4_lambda_closing_7_1 rfl (lv_at hl 0 rfl) ?_
  have hz_1 : s.heap.size ≤ s.heap.size := hS.1
  refine n_txS (x := fun u_2 => rs_val 0 (A_close g th)) (w2 := fun u_2 => SW E o u_2.1 u_2.2) (w3 := fun u_3 => SW E o u_3.1 u_3.2.1) (vx_runV (As := [iv th]) (rest := []) ⟨hx, hb, hml, hown, hts⟩ (mt_X2_closeThread l E o sc ar th g (by exact hst) (by assumption) (by omega) (by assumption) (by assumption) (by assumption) (by assumption) (by assumption) _) (cwV 1 hts (lw_V q1865 q1236 q1237 q95 q1238) rfl rfl rfl (by decide +kernel) ⟨Nat.le_of_ble_eq_true rfl, Nat.le_of_ble_eq_true rfl⟩) (UX_V hP hK (hD) hE hS (va_A_in hD hS hA) (va_recv hK.1 hP (ci := 2) (q0 := 0) rfl rfl)) rfl rfl hl.1 rfl (lv_room (Nat.le_of_ble_eq_true rfl)) dX4_lambda_closing_7_2 ⟨Nat.le_of_ble_eq_true rfl, Nat.le_of_ble_eq_true rfl⟩) hP hD hS hA [0, 1, 2, 3, 4, 5, 6, 7, 8, 9, 10, 11, 12, 13, 14, 15, 16] [] [0, 1, 2, 3, 4, 5, 6, 7, 8, 9, 10, 11, 12, 13, 14, 15, 16] [0, 1, 2, 3, 4, 5, 6, 7, 8, 9, 10, 11, 12, 13, 14, 15, 16] rfl rfl rfl rfl rfl (fun _ => rfl) rfl (fun _ => rfl) ?_ ?_
  · intro En ce q9 u_3 H locs hCx hP hD hS hxf hq9 hce hcv hcl
    have hCx : XC1 (nmX "java/lang/IndexOutOfBoundsException" "" "") (A_close g th) En u_3.2.2 := hCx
    have hP : va_P E.1 CL (SW E o u_3.1 u_3.2.1) H := hP
    have hD : va_D A (SW E o u_3.1 u_3.2.1) := hD
    exact n_out (u_3.1, u_3.2.1, u_3.2.2) (by exact hCx) hP hD hS hxf (Nat.le_trans hz_1 hq9) hce hcv hcl (fun x hx9 => (htb x hx9).elim) hlocks (Nat.le_of_ble_eq_true rfl) (Nat.le_of_ble_eq_true rfl)
  · intro u_2 H locs hC hP hD hS
    have hu_2 : (∃ q, A_close g th = .inr (.inr q)) ∧ SR (rs_g g (A_close g th)) u_2.1 u_2.2 := hC
    have hP : va_P E.1 CL (SW E o u_2.1 u_2.2) H := hP
    have hD : va_D A (SW E o u_2.1 u_2.2) := hD
    refine vx_ret ?_
    refine W.widen (k := 1) (n := 6) (Nat.le_of_ble_eq_true rfl) (Nat.le_of_ble_eq_true rfl) ?_
    exact W.iret (v := iI (rs_val 0 (A_close g th))) hx hb hr (fun tt_ ht_ hW_ => ⟨⟨iI (rs_val 0 (A_close g th)), (u_2.1, u_2.2), rfl, ⟨hu_2, rfl⟩, by rw [ht_]; exact hP, hD⟩, hS.F ht_⟩) hS.2.2 dX4_lambda_closing_7_5
set_option maxHeartbeats 1000000 in
set_option maxRecDepth 100000 in
theorem mt_X4_lambda_cutting_3 (l : Launch) (E : EE) (o : Nat → Nat) (sc : Nat → Int) (ar : Nat → Int → Int) (t : Int) (n9 : Int) (g : Int → Int) (hst : l.stackTraces = false) (hsr : SR g sc ar) (ht : 0 ≤ t ∧ t < 65536) (hn : 0 ≤ n9 ∧ n9 < 65536) (htw : TW g) (hhn : HN g) (sz : Nat) : vx_Met l yX4_lambda_cutting_3 (ws_ yX4_lambda_cutting_3 cX4_lambda_cutting_3 3 (some .int)) { frames := 9, cells := 4, slots := 24, locals := 158 } (va_Pc [iv t, iv n9, .ref (o 0)] (UX E (SW E o sc ar) sz)) (UQx E (fun u : SU => (∃ q, A_rem g t n9 = .inr (.inr q)) ∧ SR (rs_g g (A_rem g t n9)) u.1 u.2) (fun u : SU => rs_val 0 (A_rem g t n9)) (fun u : SU => SW E o u.1 u.2) (va_A (SW E o sc ar) sz)) (UXx E (fun (En : String) (u : SUX) => XC1 (nmX "java/lang/IllegalArgumentException" "java/util/NoSuchElementException" "") (A_rem g t n9) En u.2.2) (fun u : SUX => SW E o u.1 u.2.1) (fun u : SUX => u.2.2) (va_A (SW E o sc ar) sz)) 4 24 (va_A (SW E o sc ar) sz) := by
  refine vx_ofW (cc := cX4_lambda_cutting_3) (maxL := 3) (ret := (some .int)) (by decide) rfl ?_
  intro p e s m args below meth c s₁ B hml htb hv
  obtain ⟨rfl, hsz, hP, hK, hD0, hE⟩ := hv
  have hx := B.exec
  have hb := B.bytes
  have hr := B.returns
  have hts := atoms_spec (ws := (ws_ yX4_lambda_cutting_3 cX4_lambda_cutting_3 3 (some .int))) B.pre
  have hts : ∀ w ∈ lw_all, w.before _ s = true := fun w h => hts w (List.mem_cons_of_mem _ h)
  have hown : s.vm.findClass RX4 = some m.cls := findClass_of_methodNamed B.named
  have hlocks := B.notSynchronized
  subst hsz
  have hD := hD0.self (sz := s.heap.size)
  generalize hAe : va_A (SW E o sc ar) s.heap.size = A at hD hE ⊢
  have hA : ∀ q : Nat, s.heap.size ≤ q → A q := fun q h => by rw [← hAe]; exact Or.inr h
  have hS : va_S A s.heap s.heap [] := va_S.rf
  have hl := lv_entry ([iv t, iv n9, .ref (o 0)]) (n := 3) (Nat.le_of_ble_eq_true rfl)
  rw [lg_entry_eq]
  generalize (lg_sl ([iv t, iv n9, .ref (o 0)]) ++ List.replicate (3 - (lg_sl ([iv t, iv n9, .ref (o 0)])).length) Slot.unset).toArray = ls at hl ⊢
  have hl : lv_has ls 3 [(0, iv t), (1, iv n9), (2, .ref (o 0))] := hl
  refine lv_aload_n hx hb dX4_lambda_cutting_3_0 rfl (lv_at hl 2 rfl) ?_
  refine lv_iload_n hx hb dX4_lambda_cutting_3_1 rfl (lv_at hl 0 rfl) ?_
  refine lv_iload_n hx hb dX4_lambda_cutting_3_2 rfl (lv_at hl 1 rfl) ?_
  have hz_1 : s.heap.size ≤ s.heap.size := hS.1
  refine n_txS (x := fun u_2 => rs_val 0 (A_rem g t n9)) (w2 := fun u_2 => SW E o u_2.1 u_2.2) (w3 := fun u_3 => SW E o u_3.1 u_3.2.1) (vx_runV (As := [iv t, iv n9]) (rest := []) ⟨hx, hb, hml, hown, hts⟩ (mt_X2_removeNeed l E o sc ar t n9 g (by exact hst) (by assumption) (by omega) (by omega) (by assumption) (by assumption) _) (cwV 2 hts (lw_V q1873 q1034 q1035 q95 q1036) rfl rfl rfl (by decide +kernel) ⟨Nat.le_of_ble_eq_true rfl, Nat.le_of_ble_eq_true rfl⟩) (UX_V hP hK (hD) hE hS (va_A_in hD hS hA) (va_recv hK.1 hP (ci := 2) (q0 := 0) rfl rfl)) rfl rfl hl.1 rfl (lv_room (Nat.le_of_ble_eq_true rfl)) dX4_lambda_cutting_3_3 ⟨Nat.le_of_ble_eq_true rfl, Nat.le_of_ble_eq_true rfl⟩) hP hD hS hA [0, 1, 2, 3, 4, 5, 6, 7, 8, 9, 10, 11, 12, 13, 14, 15, 16] [] [0, 1, 2, 3, 4, 5, 6, 7, 8, 9, 10, 11, 12, 13, 14, 15, 16] [0, 1, 2, 3, 4, 5, 6, 7, 8, 9, 10, 11, 12, 13, 14, 15, 16] rfl rfl rfl rfl rfl (fun _ => rfl) rfl (fun _ => rfl) ?_ ?_
  · intro En ce q9 u_3 H locs hCx hP hD hS hxf hq9 hce hcv hcl
    have hCx : XC1 (nmX "java/lang/IllegalArgumentException" "java/util/NoSuchElementException" "") (A_rem g t n9) En u_3.2.2 := hCx
    have hP : va_P E.1 CL (SW E o u_3.1 u_3.2.1) H := hP
    have hD : va_D A (SW E o u_3.1 u_3.2.1) := hD
    exact n_out (u_3.1, u_3.2.1, u_3.2.2) (by exact hCx) hP hD hS hxf (Nat.le_trans hz_1 hq9) hce hcv hcl (fun x hx9 => (htb x hx9).elim) hlocks (Nat.le_of_ble_eq_true rfl) (Nat.le_of_ble_eq_true rfl)
  · intro u_2 H locs hC hP hD hS
    have hu_2 : (∃ q, A_rem g t n9 = .inr (.inr q)) ∧ SR (rs_g g (A_rem g t n9)) u_2.1 u_2.2 := hC
    have hP : va_P E.1 CL (SW E o u_2.1 u_2.2) H := hP
    have hD : va_D A (SW E o u_2.1 u_2.2) := hD
    refine vx_ret ?_
    refine W.widen (k := 4) (n := 24) (Nat.le_of_ble_eq_true rfl) (Nat.le_of_ble_eq_true rfl) ?_
    exact W.iret (v := iI (rs_val 0 (A_rem g t n9))) hx hb hr (fun tt_ ht_ hW_ => ⟨⟨iI (rs_val 0 (A_rem g t n9)), (u_2.1, u_2.2), rfl, ⟨hu_2, rfl⟩, by rw [ht_]; exact hP, hD⟩, hS.F ht_⟩) hS.2.2 dX4_lambda_cutting_3_6
set_option maxHeartbeats 1000000 in
set_option maxRecDepth 100000 in
theorem mt_X4_lambda_dropping_1 (l : Launch) (E : EE) (o : Nat → Nat) (sc : Nat → Int) (ar : Nat → Int → Int) (t : Int) (g : Int → Int) (hst : l.stackTraces = false) (hsr : SR g sc ar) (ht : 0 ≤ t ∧ t < 65536) (how : OY g) (sz : Nat) : vx_Met l yX4_lambda_dropping_1 (ws_ yX4_lambda_dropping_1 cX4_lambda_dropping_1 2 (some .int)) { frames := 9, cells := 3, slots := 18, locals := 155 } (va_Pc [iv t, .ref (o 0)] (UX E (SW E o sc ar) sz)) (UQx E (fun u : SU => (∃ q, A_drop g t = .inr (.inr q)) ∧ SR (rs_g g (A_drop g t)) u.1 u.2) (fun u : SU => rs_val 0 (A_drop g t)) (fun u : SU => SW E o u.1 u.2) (va_A (SW E o sc ar) sz)) (UXx E (fun (En : String) (u : SUX) => XC1 (nmX "java/lang/IllegalArgumentException" "java/util/NoSuchElementException" "java/lang/IllegalStateException") (A_drop g t) En u.2.2) (fun u : SUX => SW E o u.1 u.2.1) (fun u : SUX => u.2.2) (va_A (SW E o sc ar) sz)) 3 18 (va_A (SW E o sc ar) sz) := by
  refine vx_ofW (cc := cX4_lambda_dropping_1) (maxL := 2) (ret := (some .int)) (by decide) rfl ?_
  intro p e s m args below meth c s₁ B hml htb hv
  obtain ⟨rfl, hsz, hP, hK, hD0, hE⟩ := hv
  have hx := B.exec
  have hb := B.bytes
  have hr := B.returns
  have hts := atoms_spec (ws := (ws_ yX4_lambda_dropping_1 cX4_lambda_dropping_1 2 (some .int))) B.pre
  have hts : ∀ w ∈ lw_all, w.before _ s = true := fun w h => hts w (List.mem_cons_of_mem _ h)
  have hown : s.vm.findClass RX4 = some m.cls := findClass_of_methodNamed B.named
  have hlocks := B.notSynchronized
  subst hsz
  have hD := hD0.self (sz := s.heap.size)
  generalize hAe : va_A (SW E o sc ar) s.heap.size = A at hD hE ⊢
  have hA : ∀ q : Nat, s.heap.size ≤ q → A q := fun q h => by rw [← hAe]; exact Or.inr h
  have hS : va_S A s.heap s.heap [] := va_S.rf
  have hl := lv_entry ([iv t, .ref (o 0)]) (n := 2) (Nat.le_of_ble_eq_true rfl)
  rw [lg_entry_eq]
  generalize (lg_sl ([iv t, .ref (o 0)]) ++ List.replicate (2 - (lg_sl ([iv t, .ref (o 0)])).length) Slot.unset).toArray = ls at hl ⊢
  have hl : lv_has ls 2 [(0, iv t), (1, .ref (o 0))] := hl
  refine lv_aload_n hx hb dX4_lambda_dropping_1_0 rfl (lv_at hl 1 rfl) ?_
  refine lv_iload_n hx hb dX4_lambda_dropping_1_1 rfl (lv_at hl 0 rfl) ?_
  have hz_1 : s.heap.size ≤ s.heap.size := hS.1
  refine n_txS (x := fun u_2 => rs_val 0 (A_drop g t)) (w2 := fun u_2 => SW E o u_2.1 u_2.2) (w3 := fun u_3 => SW E o u_3.1 u_3.2.1) (vx_runV (As := [iv t]) (rest := []) ⟨hx, hb, hml, hown, hts⟩ (mt_X2_dropRecipe l E o sc ar t g (by exact hst) (by assumption) (by omega) (by assumption) _) (cwV 1 hts (lw_V q1848 q959 q960 q95 q961) rfl rfl rfl (by decide +kernel) ⟨Nat.le_of_ble_eq_true rfl, Nat.le_of_ble_eq_true rfl⟩) (UX_V hP hK (hD) hE hS (va_A_in hD hS hA) (va_recv hK.1 hP (ci := 2) (q0 := 0) rfl rfl)) rfl rfl hl.1 rfl (lv_room (Nat.le_of_ble_eq_true rfl)) dX4_lambda_dropping_1_2 ⟨Nat.le_of_ble_eq_true rfl, Nat.le_of_ble_eq_true rfl⟩) hP hD hS hA [0, 1, 2, 3, 4, 5, 6, 7, 8, 9, 10, 11, 12, 13, 14, 15, 16] [] [0, 1, 2, 3, 4, 5, 6, 7, 8, 9, 10, 11, 12, 13, 14, 15, 16] [0, 1, 2, 3, 4, 5, 6, 7, 8, 9, 10, 11, 12, 13, 14, 15, 16] rfl rfl rfl rfl rfl (fun _ => rfl) rfl (fun _ => rfl) ?_ ?_
  · intro En ce q9 u_3 H locs hCx hP hD hS hxf hq9 hce hcv hcl
    have hCx : XC1 (nmX "java/lang/IllegalArgumentException" "java/util/NoSuchElementException" "java/lang/IllegalStateException") (A_drop g t) En u_3.2.2 := hCx
    have hP : va_P E.1 CL (SW E o u_3.1 u_3.2.1) H := hP
    have hD : va_D A (SW E o u_3.1 u_3.2.1) := hD
    exact n_out (u_3.1, u_3.2.1, u_3.2.2) (by exact hCx) hP hD hS hxf (Nat.le_trans hz_1 hq9) hce hcv hcl (fun x hx9 => (htb x hx9).elim) hlocks (Nat.le_of_ble_eq_true rfl) (Nat.le_of_ble_eq_true rfl)
  · intro u_2 H locs hC hP hD hS
    have hu_2 : (∃ q, A_drop g t = .inr (.inr q)) ∧ SR (rs_g g (A_drop g t)) u_2.1 u_2.2 := hC
    have hP : va_P E.1 CL (SW E o u_2.1 u_2.2) H := hP
    have hD : va_D A (SW E o u_2.1 u_2.2) := hD
    refine vx_ret ?_
    refine W.widen (k := 3) (n := 18) (Nat.le_of_ble_eq_true rfl) (Nat.le_of_ble_eq_true rfl) ?_
    exact W.iret (v := iI (rs_val 0 (A_drop g t))) hx hb hr (fun tt_ ht_ hW_ => ⟨⟨iI (rs_val 0 (A_drop g t)), (u_2.1, u_2.2), rfl, ⟨hu_2, rfl⟩, by rw [ht_]; exact hP, hD⟩, hS.F ht_⟩) hS.2.2 dX4_lambda_dropping_1_5
set_option maxHeartbeats 1000000 in
set_option maxRecDepth 100000 in
theorem mt_X4_lambda_making_8 (l : Launch) (E : EE) (o : Nat → Nat) (sc : Nat → Int) (ar : Nat → Int → Int) (t : Int) (th : Int) (g : Int → Int) (r : Int → Nat) (fl : Int → Int) (hst : l.stackTraces = false) (hsr : SR g sc ar) (ht : 0 ≤ t ∧ t < 65536) (hth : -2147483648 ≤ th ∧ th < 2147483648) (htw : TW g) (hsw : SwOK g) (htm : TM g) (hhn : HN g) (hsc : SC g) (hrk : RK g r) (hr8 : ∀ t, 0 ≤ t → t < 8 → r t < 8) (how : OY g) (h60 : g 1 ≤ 60) (hfit : ∀ t, 0 ≤ t → t < 8 → ∀ th, g 1 + (m_dues g t th).1 ≤ 160) (sz : Nat) : vx_Met l yX4_lambda_making_8 (ws_ yX4_lambda_making_8 cX4_lambda_making_8 3 (some .int)) { frames := 22, cells := 4, slots := 25, locals := 671 } (va_Pc [iv t, iv th, .ref (o 0)] (UX E (SW E o sc ar) sz)) (UQx E (fun u : SU => (∃ q, A_make g fl t th = .inr (.inr q)) ∧ SR (rs_g g (A_make g fl t th)) u.1 u.2) (fun u : SU => rs_val 0 (A_make g fl t th)) (fun u : SU => SW E o u.1 u.2) (va_A (SW E o sc ar) sz)) (UXx E (fun (En : String) (u : SUX) => XC1 (nmX "java/lang/IllegalArgumentException" "java/lang/IndexOutOfBoundsException" "") (A_make g fl t th) En u.2.2) (fun u : SUX => SW E o u.1 u.2.1) (fun u : SUX => u.2.2) (va_A (SW E o sc ar) sz)) 4 25 (va_A (SW E o sc ar) sz) := by
  refine vx_ofW (cc := cX4_lambda_making_8) (maxL := 3) (ret := (some .int)) (by decide) rfl ?_
  intro p e s m args below meth c s₁ B hml htb hv
  obtain ⟨rfl, hsz, hP, hK, hD0, hE⟩ := hv
  have hx := B.exec
  have hb := B.bytes
  have hr := B.returns
  have hts := atoms_spec (ws := (ws_ yX4_lambda_making_8 cX4_lambda_making_8 3 (some .int))) B.pre
  have hts : ∀ w ∈ lw_all, w.before _ s = true := fun w h => hts w (List.mem_cons_of_mem _ h)
  have hown : s.vm.findClass RX4 = some m.cls := findClass_of_methodNamed B.named
  have hlocks := B.notSynchronized
  subst hsz
  have hD := hD0.self (sz := s.heap.size)
  generalize hAe : va_A (SW E o sc ar) s.heap.size = A at hD hE ⊢
  have hA : ∀ q : Nat, s.heap.size ≤ q → A q := fun q h => by rw [← hAe]; exact Or.inr h
  have hS : va_S A s.heap s.heap [] := va_S.rf
  have hl := lv_entry ([iv t, iv th, .ref (o 0)]) (n := 3) (Nat.le_of_ble_eq_true rfl)
  rw [lg_entry_eq]
  generalize (lg_sl ([iv t, iv th, .ref (o 0)]) ++ List.replicate (3 - (lg_sl ([iv t, iv th, .ref (o 0)])).length) Slot.unset).toArray = ls at hl ⊢
  have hl : lv_has ls 3 [(0, iv t), (1, iv th), (2, .ref (o 0))] := hl
  refine lv_aload_n hx hb dX4_lambda_making_8_0 rfl (lv_at hl 2 rfl) ?_
  refine lv_iload_n hx hb dX4_lambda_making_8_1 rfl (lv_at hl 0 rfl) ?_
  refine lv_iload_n hx hb dX4_lambda_making_8_2 rfl (lv_at hl 1 rfl) ?_
  have hz_1 : s.heap.size ≤ s.heap.size := hS.1
  refine n_txS (x := fun u_2 => rs_val 0 (A_make g fl t th)) (w2 := fun u_2 => SW E o u_2.1 u_2.2) (w3 := fun u_3 => SW E o u_3.1 u_3.2.1) (vx_runV (As := [iv t, iv th]) (rest := []) ⟨hx, hb, hml, hown, hts⟩ (mt_X2_make l E o sc ar t th g r fl (by exact hst) (by assumption) (by omega) (by omega) (by assumption) (by assumption) (by assumption) (by assumption) (by assumption) (by assumption) (by assumption) (by assumption) (by assumption) (by assumption) _) (cwV 2 hts (lw_V q1905 q1265 q1266 q95 q1267) rfl rfl rfl (by decide +kernel) ⟨Nat.le_of_ble_eq_true rfl, Nat.le_of_ble_eq_true rfl⟩) (UX_V hP hK (hD) hE hS (va_A_in hD hS hA) (va_recv hK.1 hP (ci := 2) (q0 := 0) rfl rfl)) rfl rfl hl.1 rfl (lv_room (Nat.le_of_ble_eq_true rfl)) dX4_lambda_making_8_3 ⟨Nat.le_of_ble_eq_true rfl, Nat.le_of_ble_eq_true rfl⟩) hP hD hS hA [0, 1, 2, 3, 4, 5, 6, 7, 8, 9, 10, 11, 12, 13, 14, 15, 16] [] [0, 1, 2, 3, 4, 5, 6, 7, 8, 9, 10, 11, 12, 13, 14, 15, 16] [0, 1, 2, 3, 4, 5, 6, 7, 8, 9, 10, 11, 12, 13, 14, 15, 16] rfl rfl rfl rfl rfl (fun _ => rfl) rfl (fun _ => rfl) ?_ ?_
  · intro En ce q9 u_3 H locs hCx hP hD hS hxf hq9 hce hcv hcl
    have hCx : XC1 (nmX "java/lang/IllegalArgumentException" "java/lang/IndexOutOfBoundsException" "") (A_make g fl t th) En u_3.2.2 := hCx
    have hP : va_P E.1 CL (SW E o u_3.1 u_3.2.1) H := hP
    have hD : va_D A (SW E o u_3.1 u_3.2.1) := hD
    exact n_out (u_3.1, u_3.2.1, u_3.2.2) (by exact hCx) hP hD hS hxf (Nat.le_trans hz_1 hq9) hce hcv hcl (fun x hx9 => (htb x hx9).elim) hlocks (Nat.le_of_ble_eq_true rfl) (Nat.le_of_ble_eq_true rfl)
  · intro u_2 H locs hC hP hD hS
    have hu_2 : (∃ q, A_make g fl t th = .inr (.inr q)) ∧ SR (rs_g g (A_make g fl t th)) u_2.1 u_2.2 := hC
    have hP : va_P E.1 CL (SW E o u_2.1 u_2.2) H := hP
    have hD : va_D A (SW E o u_2.1 u_2.2) := hD
    refine vx_ret ?_
    refine W.widen (k := 4) (n := 25) (Nat.le_of_ble_eq_true rfl) (Nat.le_of_ble_eq_true rfl) ?_
    exact W.iret (v := iI (rs_val 0 (A_make g fl t th))) hx hb hr (fun tt_ ht_ hW_ => ⟨⟨iI (rs_val 0 (A_make g fl t th)), (u_2.1, u_2.2), rfl, ⟨hu_2, rfl⟩, by rw [ht_]; exact hP, hD⟩, hS.F ht_⟩) hS.2.2 dX4_lambda_making_8_6
set_option maxHeartbeats 1000000 in
set_option maxRecDepth 100000 in
theorem mt_X4_lambda_needing_2 (l : Launch) (E : EE) (o : Nat → Nat) (sc : Nat → Int) (ar : Nat → Int → Int) (t : Int) (n9 : Int) (z : Bool) (g : Int → Int) (r : Int → Nat) (hst : l.stackTraces = false) (hsr : SR g sc ar) (ht : 0 ≤ t ∧ t < 65536) (hn : 0 ≤ n9 ∧ n9 < 65536) (htw : TW g) (hsw : SwOK g) (hhn : HN g) (hrk : RK g r) (sz : Nat) : vx_Met l yX4_lambda_needing_2 (ws_ yX4_lambda_needing_2 cX4_lambda_needing_2 4 (some .int)) { frames := 9, cells := 46, slots := 341, locals := 3163 } (va_Pc [iv t, iv n9, iv (b2 z), .ref (o 0)] (UX E (SW E o sc ar) sz)) (UQx E (fun u : SU => (∃ q, A_add g t n9 z = .inr (.inr q)) ∧ SR (rs_g g (A_add g t n9 z)) u.1 u.2) (fun u : SU => rs_val 0 (A_add g t n9 z)) (fun u : SU => SW E o u.1 u.2) (va_A (SW E o sc ar) sz)) (UXx E (fun (En : String) (u : SUX) => XC1 (nmX "java/lang/IllegalArgumentException" "java/util/NoSuchElementException" "") (A_add g t n9 z) En u.2.2) (fun u : SUX => SW E o u.1 u.2.1) (fun u : SUX => u.2.2) (va_A (SW E o sc ar) sz)) 46 341 (va_A (SW E o sc ar) sz) := by
  refine vx_ofW (cc := cX4_lambda_needing_2) (maxL := 4) (ret := (some .int)) (by decide) rfl ?_
  intro p e s m args below meth c s₁ B hml htb hv
  obtain ⟨rfl, hsz, hP, hK, hD0, hE⟩ := hv
  have hx := B.exec
  have hb := B.bytes
  have hr := B.returns
  have hts := atoms_spec (ws := (ws_ yX4_lambda_needing_2 cX4_lambda_needing_2 4 (some .int))) B.pre
  have hts : ∀ w ∈ lw_all, w.before _ s = true := fun w h => hts w (List.mem_cons_of_mem _ h)
  have hown : s.vm.findClass RX4 = some m.cls := findClass_of_methodNamed B.named
  have hlocks := B.notSynchronized
  subst hsz
  have hD := hD0.self (sz := s.heap.size)
  generalize hAe : va_A (SW E o sc ar) s.heap.size = A at hD hE ⊢
  have hA : ∀ q : Nat, s.heap.size ≤ q → A q := fun q h => by rw [← hAe]; exact Or.inr h
  have hS : va_S A s.heap s.heap [] := va_S.rf
  have hl := lv_entry ([iv t, iv n9, iv (b2 z), .ref (o 0)]) (n := 4) (Nat.le_of_ble_eq_true rfl)
  rw [lg_entry_eq]
  generalize (lg_sl ([iv t, iv n9, iv (b2 z), .ref (o 0)]) ++ List.replicate (4 - (lg_sl ([iv t, iv n9, iv (b2 z), .ref (o 0)])).length) Slot.unset).toArray = ls at hl ⊢
  have hl : lv_has ls 4 [(0, iv t), (1, iv n9), (2, iv (b2 z)), (3, .ref (o 0))] := hl
  refine lv_aload_n hx hb dX4_lambda_needing_2_0 rfl (lv_at hl 3 rfl) ?_
  refine lv_iload_n hx hb dX4_lambda_needing_2_1 rfl (lv_at hl 0 rfl) ?_
  refine lv_iload_n hx hb dX4_lambda_needing_2_2 rfl (lv_at hl 1 rfl) ?_
  refine lv_iload_n hx hb dX4_lambda_needing_2_3 rfl (lv_at hl 2 rfl) ?_
  have hz_1 : s.heap.size ≤ s.heap.size := hS.1
  refine n_txS (x := fun u_2 => rs_val 0 (A_add g t n9 z)) (w2 := fun u_2 => SW E o u_2.1 u_2.2) (w3 := fun u_3 => SW E o u_3.1 u_3.2.1) (vx_runV (As := [iv t, iv n9, iv (b2 z)]) (rest := []) ⟨hx, hb, hml, hown, hts⟩ (mt_X2_addNeed l E o sc ar t n9 z g r (by exact hst) (by assumption) (by omega) (by omega) (by assumption) (by assumption) (by assumption) (by assumption) _) (cwV 3 hts (lw_V q1857 q1004 q1005 q95 q1006) rfl rfl rfl (by decide +kernel) ⟨Nat.le_of_ble_eq_true rfl, Nat.le_of_ble_eq_true rfl⟩) (UX_V hP hK (hD) hE hS (va_A_in hD hS hA) (va_recv hK.1 hP (ci := 2) (q0 := 0) rfl rfl)) rfl rfl hl.1 rfl (lv_room (Nat.le_of_ble_eq_true rfl)) dX4_lambda_needing_2_4 ⟨Nat.le_of_ble_eq_true rfl, Nat.le_of_ble_eq_true rfl⟩) hP hD hS hA [0, 1, 2, 3, 4, 5, 6, 7, 8, 9, 10, 11, 12, 13, 14, 15, 16] [] [0, 1, 2, 3, 4, 5, 6, 7, 8, 9, 10, 11, 12, 13, 14, 15, 16] [0, 1, 2, 3, 4, 5, 6, 7, 8, 9, 10, 11, 12, 13, 14, 15, 16] rfl rfl rfl rfl rfl (fun _ => rfl) rfl (fun _ => rfl) ?_ ?_
  · intro En ce q9 u_3 H locs hCx hP hD hS hxf hq9 hce hcv hcl
    have hCx : XC1 (nmX "java/lang/IllegalArgumentException" "java/util/NoSuchElementException" "") (A_add g t n9 z) En u_3.2.2 := hCx
    have hP : va_P E.1 CL (SW E o u_3.1 u_3.2.1) H := hP
    have hD : va_D A (SW E o u_3.1 u_3.2.1) := hD
    exact n_out (u_3.1, u_3.2.1, u_3.2.2) (by exact hCx) hP hD hS hxf (Nat.le_trans hz_1 hq9) hce hcv hcl (fun x hx9 => (htb x hx9).elim) hlocks (Nat.le_of_ble_eq_true rfl) (Nat.le_of_ble_eq_true rfl)
  · intro u_2 H locs hC hP hD hS
    have hu_2 : (∃ q, A_add g t n9 z = .inr (.inr q)) ∧ SR (rs_g g (A_add g t n9 z)) u_2.1 u_2.2 := hC
    have hP : va_P E.1 CL (SW E o u_2.1 u_2.2) H := hP
    have hD : va_D A (SW E o u_2.1 u_2.2) := hD
    refine vx_ret ?_
    refine W.widen (k := 46) (n := 341) (Nat.le_of_ble_eq_true rfl) (Nat.le_of_ble_eq_true rfl) ?_
    exact W.iret (v := iI (rs_val 0 (A_add g t n9 z))) hx hb hr (fun tt_ ht_ hW_ => ⟨⟨iI (rs_val 0 (A_add g t n9 z)), (u_2.1, u_2.2), rfl, ⟨hu_2, rfl⟩, by rw [ht_]; exact hP, hD⟩, hS.F ht_⟩) hS.2.2 dX4_lambda_needing_2_7
set_option maxHeartbeats 1000000 in
set_option maxRecDepth 100000 in
theorem mt_X4_lambda_opening_6 (l : Launch) (E : EE) (o : Nat → Nat) (sc : Nat → Int) (ar : Nat → Int → Int)  (g : Int → Int) (hst : l.stackTraces = false) (hsr : SR g sc ar) (hg0 : 0 ≤ g 0) (sz : Nat) : vx_Met l yX4_lambda_opening_6 (ws_ yX4_lambda_opening_6 cX4_lambda_opening_6 1 (some .int)) { frames := 8, cells := 1, slots := 6, locals := 133 } (va_Pc [.ref (o 0)] (UX E (SW E o sc ar) sz)) (UQx E (fun u : SU => (∃ q, A_open g = .inr (.inr q)) ∧ SR (rs_g g (A_open g)) u.1 u.2) (fun u : SU => rs_val 0 (A_open g)) (fun u : SU => SW E o u.1 u.2) (va_A (SW E o sc ar) sz)) (UXx E (fun (En : String) (u : SUX) => XC1 (nmX "java/lang/IllegalStateException" "" "") (A_open g) En u.2.2) (fun u : SUX => SW E o u.1 u.2.1) (fun u : SUX => u.2.2) (va_A (SW E o sc ar) sz)) 1 6 (va_A (SW E o sc ar) sz) := by
  refine vx_ofW (cc := cX4_lambda_opening_6) (maxL := 1) (ret := (some .int)) (by decide) rfl ?_
  intro p e s m args below meth c s₁ B hml htb hv
  obtain ⟨rfl, hsz, hP, hK, hD0, hE⟩ := hv
  have hx := B.exec
  have hb := B.bytes
  have hr := B.returns
  have hts := atoms_spec (ws := (ws_ yX4_lambda_opening_6 cX4_lambda_opening_6 1 (some .int))) B.pre
  have hts : ∀ w ∈ lw_all, w.before _ s = true := fun w h => hts w (List.mem_cons_of_mem _ h)
  have hown : s.vm.findClass RX4 = some m.cls := findClass_of_methodNamed B.named
  have hlocks := B.notSynchronized
  subst hsz
  have hD := hD0.self (sz := s.heap.size)
  generalize hAe : va_A (SW E o sc ar) s.heap.size = A at hD hE ⊢
  have hA : ∀ q : Nat, s.heap.size ≤ q → A q := fun q h => by rw [← hAe]; exact Or.inr h
  have hS : va_S A s.heap s.heap [] := va_S.rf
  have hl := lv_entry ([.ref (o 0)]) (n := 1) (Nat.le_of_ble_eq_true rfl)
  rw [lg_entry_eq]
  generalize (lg_sl ([.ref (o 0)]) ++ List.replicate (1 - (lg_sl ([.ref (o 0)])).length) Slot.unset).toArray = ls at hl ⊢
  have hl : lv_has ls 1 [(0, .ref (o 0))] := hl
  refine lv_aload_n hx hb dX4_lambda_opening_6_0 rfl (lv_at hl 0 rfl) ?_
  have hz_1 : s.heap.size ≤ s.heap.size := hS.1
  refine n_txS (x := fun u_2 => rs_val 0 (A_open g)) (w2 := fun u_2 => SW E o u_2.1 u_2.2) (w3 := fun u_3 => SW E o u_3.1 u_3.2.1) (vx_runV (As := []) (rest := []) ⟨hx, hb, hml, hown, hts⟩ (mt_X2_openThread l E o sc ar  g (by exact hst) (by assumption) (by assumption) _) (cwV 0 hts (lw_V q1897 q1223 q1224 q95 q1225) rfl rfl rfl (by decide +kernel) ⟨Nat.le_of_ble_eq_true rfl, Nat.le_of_ble_eq_true rfl⟩) (UX_V hP hK (hD) hE hS (va_A_in hD hS hA) (va_recv hK.1 hP (ci := 2) (q0 := 0) rfl rfl)) rfl rfl hl.1 rfl (lv_room (Nat.le_of_ble_eq_true rfl)) dX4_lambda_opening_6_1 ⟨Nat.le_of_ble_eq_true rfl, Nat.le_of_ble_eq_true rfl⟩) hP hD hS hA [0, 1, 2, 3, 4, 5, 6, 7, 8, 9, 10, 11, 12, 13, 14, 15, 16] [] [0, 1, 2, 3, 4, 5, 6, 7, 8, 9, 10, 11, 12, 13, 14, 15, 16] [0, 1, 2, 3, 4, 5, 6, 7, 8, 9, 10, 11, 12, 13, 14, 15, 16] rfl rfl rfl rfl rfl (fun _ => rfl) rfl (fun _ => rfl) ?_ ?_
  · intro En ce q9 u_3 H locs hCx hP hD hS hxf hq9 hce hcv hcl
    have hCx : XC1 (nmX "java/lang/IllegalStateException" "" "") (A_open g) En u_3.2.2 := hCx
    have hP : va_P E.1 CL (SW E o u_3.1 u_3.2.1) H := hP
    have hD : va_D A (SW E o u_3.1 u_3.2.1) := hD
    exact n_out (u_3.1, u_3.2.1, u_3.2.2) (by exact hCx) hP hD hS hxf (Nat.le_trans hz_1 hq9) hce hcv hcl (fun x hx9 => (htb x hx9).elim) hlocks (Nat.le_of_ble_eq_true rfl) (Nat.le_of_ble_eq_true rfl)
  · intro u_2 H locs hC hP hD hS
    have hu_2 : (∃ q, A_open g = .inr (.inr q)) ∧ SR (rs_g g (A_open g)) u_2.1 u_2.2 := hC
    have hP : va_P E.1 CL (SW E o u_2.1 u_2.2) H := hP
    have hD : va_D A (SW E o u_2.1 u_2.2) := hD
    refine vx_ret ?_
    refine W.widen (k := 1) (n := 6) (Nat.le_of_ble_eq_true rfl) (Nat.le_of_ble_eq_true rfl) ?_
    exact W.iret (v := iI (rs_val 0 (A_open g))) hx hb hr (fun tt_ ht_ hW_ => ⟨⟨iI (rs_val 0 (A_open g)), (u_2.1, u_2.2), rfl, ⟨hu_2, rfl⟩, by rw [ht_]; exact hP, hD⟩, hS.F ht_⟩) hS.2.2 dX4_lambda_opening_6_4
set_option maxHeartbeats 1000000 in
set_option maxRecDepth 100000 in
theorem mt_X4_lambda_puttingBack_5 (l : Launch) (E : EE) (o : Nat → Nat) (sc : Nat → Int) (ar : Nat → Int → Int) (t : Int) (g : Int → Int) (hst : l.stackTraces = false) (hsr : SR g sc ar) (ht : 0 ≤ t ∧ t < 65536) (htw : TW g) (hsw : SwOK g) (hhn : HN g) (sz : Nat) : vx_Met l yX4_lambda_puttingBack_5 (ws_ yX4_lambda_puttingBack_5 cX4_lambda_puttingBack_5 2 (some .int)) { frames := 9, cells := 43, slots := 317, locals := 3160 } (va_Pc [iv t, .ref (o 0)] (UX E (SW E o sc ar) sz)) (UQx E (fun u : SU => (∃ q, A_back g t = .inr (.inr q)) ∧ SR (rs_g g (A_back g t)) u.1 u.2) (fun u : SU => rs_val 0 (A_back g t)) (fun u : SU => SW E o u.1 u.2) (va_A (SW E o sc ar) sz)) (UXx E (fun (En : String) (u : SUX) => XC1 (nmX "java/lang/IllegalArgumentException" "java/util/NoSuchElementException" "") (A_back g t) En u.2.2) (fun u : SUX => SW E o u.1 u.2.1) (fun u : SUX => u.2.2) (va_A (SW E o sc ar) sz)) 43 317 (va_A (SW E o sc ar) sz) := by
  refine vx_ofW (cc := cX4_lambda_puttingBack_5) (maxL := 2) (ret := (some .int)) (by decide) rfl ?_
  intro p e s m args below meth c s₁ B hml htb hv
  obtain ⟨rfl, hsz, hP, hK, hD0, hE⟩ := hv
  have hx := B.exec
  have hb := B.bytes
  have hr := B.returns
  have hts := atoms_spec (ws := (ws_ yX4_lambda_puttingBack_5 cX4_lambda_puttingBack_5 2 (some .int))) B.pre
  have hts : ∀ w ∈ lw_all, w.before _ s = true := fun w h => hts w (List.mem_cons_of_mem _ h)
  have hown : s.vm.findClass RX4 = some m.cls := findClass_of_methodNamed B.named
  have hlocks := B.notSynchronized
  subst hsz
  have hD := hD0.self (sz := s.heap.size)
  generalize hAe : va_A (SW E o sc ar) s.heap.size = A at hD hE ⊢
  have hA : ∀ q : Nat, s.heap.size ≤ q → A q := fun q h => by rw [← hAe]; exact Or.inr h
  have hS : va_S A s.heap s.heap [] := va_S.rf
  have hl := lv_entry ([iv t, .ref (o 0)]) (n := 2) (Nat.le_of_ble_eq_true rfl)
  rw [lg_entry_eq]
  generalize (lg_sl ([iv t, .ref (o 0)]) ++ List.replicate (2 - (lg_sl ([iv t, .ref (o 0)])).length) Slot.unset).toArray = ls at hl ⊢
  have hl : lv_has ls 2 [(0, iv t), (1, .ref (o 0))] := hl
  refine lv_aload_n hx hb dX4_lambda_puttingBack_5_0 rfl (lv_at hl 1 rfl) ?_
  refine lv_iload_n hx hb dX4_lambda_puttingBack_5_1 rfl (lv_at hl 0 rfl) ?_
  have hz_1 : s.heap.size ≤ s.heap.size := hS.1
  refine n_txS (x := fun u_2 => rs_val 0 (A_back g t)) (w2 := fun u_2 => SW E o u_2.1 u_2.2) (w3 := fun u_3 => SW E o u_3.1 u_3.2.1) (vx_runV (As := [iv t]) (rest := []) ⟨hx, hb, hml, hown, hts⟩ (mt_X2_putBack l E o sc ar t g (by exact hst) (by assumption) (by omega) (by assumption) (by assumption) (by assumption) _) (cwV 1 hts (lw_V q1889 q1168 q1169 q95 q1170) rfl rfl rfl (by decide +kernel) ⟨Nat.le_of_ble_eq_true rfl, Nat.le_of_ble_eq_true rfl⟩) (UX_V hP hK (hD) hE hS (va_A_in hD hS hA) (va_recv hK.1 hP (ci := 2) (q0 := 0) rfl rfl)) rfl rfl hl.1 rfl (lv_room (Nat.le_of_ble_eq_true rfl)) dX4_lambda_puttingBack_5_2 ⟨Nat.le_of_ble_eq_true rfl, Nat.le_of_ble_eq_true rfl⟩) hP hD hS hA [0, 1, 2, 3, 4, 5, 6, 7, 8, 9, 10, 11, 12, 13, 14, 15, 16] [] [0, 1, 2, 3, 4, 5, 6, 7, 8, 9, 10, 11, 12, 13, 14, 15, 16] [0, 1, 2, 3, 4, 5, 6, 7, 8, 9, 10, 11, 12, 13, 14, 15, 16] rfl rfl rfl rfl rfl (fun _ => rfl) rfl (fun _ => rfl) ?_ ?_
  · intro En ce q9 u_3 H locs hCx hP hD hS hxf hq9 hce hcv hcl
    have hCx : XC1 (nmX "java/lang/IllegalArgumentException" "java/util/NoSuchElementException" "") (A_back g t) En u_3.2.2 := hCx
    have hP : va_P E.1 CL (SW E o u_3.1 u_3.2.1) H := hP
    have hD : va_D A (SW E o u_3.1 u_3.2.1) := hD
    exact n_out (u_3.1, u_3.2.1, u_3.2.2) (by exact hCx) hP hD hS hxf (Nat.le_trans hz_1 hq9) hce hcv hcl (fun x hx9 => (htb x hx9).elim) hlocks (Nat.le_of_ble_eq_true rfl) (Nat.le_of_ble_eq_true rfl)
  · intro u_2 H locs hC hP hD hS
    have hu_2 : (∃ q, A_back g t = .inr (.inr q)) ∧ SR (rs_g g (A_back g t)) u_2.1 u_2.2 := hC
    have hP : va_P E.1 CL (SW E o u_2.1 u_2.2) H := hP
    have hD : va_D A (SW E o u_2.1 u_2.2) := hD
    refine vx_ret ?_
    refine W.widen (k := 43) (n := 317) (Nat.le_of_ble_eq_true rfl) (Nat.le_of_ble_eq_true rfl) ?_
    exact W.iret (v := iI (rs_val 0 (A_back g t))) hx hb hr (fun tt_ ht_ hW_ => ⟨⟨iI (rs_val 0 (A_back g t)), (u_2.1, u_2.2), rfl, ⟨hu_2, rfl⟩, by rw [ht_]; exact hP, hD⟩, hS.F ht_⟩) hS.2.2 dX4_lambda_puttingBack_5_5
set_option maxHeartbeats 1000000 in
set_option maxRecDepth 100000 in
theorem mt_X4_lambda_recipe_0 (l : Launch) (E : EE) (o : Nat → Nat) (sc : Nat → Int) (ar : Nat → Int → Int) (t : Int) (sp : Int) (mn : Int) (g : Int → Int) (hst : l.stackTraces = false) (hsr : SR g sc ar) (ht : 0 ≤ t ∧ t < 65536) (hs : 0 ≤ sp ∧ sp < 65536) (hm : -2147483648 ≤ mn ∧ mn < 2147483648) (sz : Nat) : vx_Met l yX4_lambda_recipe_0 (ws_ yX4_lambda_recipe_0 cX4_lambda_recipe_0 4 (some .int)) { frames := 8, cells := 2, slots := 12, locals := 136 } (va_Pc [iv t, iv sp, iv mn, .ref (o 0)] (UX E (SW E o sc ar) sz)) (UQx E (fun u : SU => (∃ q, A_def g t sp mn = .inr (.inr q)) ∧ SR (rs_g g (A_def g t sp mn)) u.1 u.2) (fun u : SU => rs_val 0 (A_def g t sp mn)) (fun u : SU => SW E o u.1 u.2) (va_A (SW E o sc ar) sz)) (UXx E (fun (En : String) (u : SUX) => XC1 (nmX "java/lang/IllegalArgumentException" "java/lang/IllegalStateException" "") (A_def g t sp mn) En u.2.2) (fun u : SUX => SW E o u.1 u.2.1) (fun u : SUX => u.2.2) (va_A (SW E o sc ar) sz)) 2 12 (va_A (SW E o sc ar) sz) := by
  refine vx_ofW (cc := cX4_lambda_recipe_0) (maxL := 4) (ret := (some .int)) (by decide) rfl ?_
  intro p e s m args below meth c s₁ B hml htb hv
  obtain ⟨rfl, hsz, hP, hK, hD0, hE⟩ := hv
  have hx := B.exec
  have hb := B.bytes
  have hr := B.returns
  have hts := atoms_spec (ws := (ws_ yX4_lambda_recipe_0 cX4_lambda_recipe_0 4 (some .int))) B.pre
  have hts : ∀ w ∈ lw_all, w.before _ s = true := fun w h => hts w (List.mem_cons_of_mem _ h)
  have hown : s.vm.findClass RX4 = some m.cls := findClass_of_methodNamed B.named
  have hlocks := B.notSynchronized
  subst hsz
  have hD := hD0.self (sz := s.heap.size)
  generalize hAe : va_A (SW E o sc ar) s.heap.size = A at hD hE ⊢
  have hA : ∀ q : Nat, s.heap.size ≤ q → A q := fun q h => by rw [← hAe]; exact Or.inr h
  have hS : va_S A s.heap s.heap [] := va_S.rf
  have hl := lv_entry ([iv t, iv sp, iv mn, .ref (o 0)]) (n := 4) (Nat.le_of_ble_eq_true rfl)
  rw [lg_entry_eq]
  generalize (lg_sl ([iv t, iv sp, iv mn, .ref (o 0)]) ++ List.replicate (4 - (lg_sl ([iv t, iv sp, iv mn, .ref (o 0)])).length) Slot.unset).toArray = ls at hl ⊢
  have hl : lv_has ls 4 [(0, iv t), (1, iv sp), (2, iv mn), (3, .ref (o 0))] := hl
  refine lv_aload_n hx hb dX4_lambda_recipe_0_0 rfl (lv_at hl 3 rfl) ?_
  refine lv_iload_n hx hb dX4_lambda_recipe_0_1 rfl (lv_at hl 0 rfl) ?_
  refine lv_iload_n hx hb dX4_lambda_recipe_0_2 rfl (lv_at hl 1 rfl) ?_
  refine lv_iload_n hx hb dX4_lambda_recipe_0_3 rfl (lv_at hl 2 rfl) ?_
  have hz_1 : s.heap.size ≤ s.heap.size := hS.1
  refine n_txS (x := fun u_2 => rs_val 0 (A_def g t sp mn)) (w2 := fun u_2 => SW E o u_2.1 u_2.2) (w3 := fun u_3 => SW E o u_3.1 u_3.2.1) (vx_runV (As := [iv t, iv sp, iv mn]) (rest := []) ⟨hx, hb, hml, hown, hts⟩ (mt_X2_define l E o sc ar t sp mn g (by exact hst) (by assumption) (by omega) (by omega) (by omega) _) (cwV 3 hts (lw_V q1840 q876 q877 q95 q878) rfl rfl rfl (by decide +kernel) ⟨Nat.le_of_ble_eq_true rfl, Nat.le_of_ble_eq_true rfl⟩) (UX_V hP hK (hD) hE hS (va_A_in hD hS hA) (va_recv hK.1 hP (ci := 2) (q0 := 0) rfl rfl)) rfl rfl hl.1 rfl (lv_room (Nat.le_of_ble_eq_true rfl)) dX4_lambda_recipe_0_4 ⟨Nat.le_of_ble_eq_true rfl, Nat.le_of_ble_eq_true rfl⟩) hP hD hS hA [0, 1, 2, 3, 4, 5, 6, 7, 8, 9, 10, 11, 12, 13, 14, 15, 16] [] [0, 1, 2, 3, 4, 5, 6, 7, 8, 9, 10, 11, 12, 13, 14, 15, 16] [0, 1, 2, 3, 4, 5, 6, 7, 8, 9, 10, 11, 12, 13, 14, 15, 16] rfl rfl rfl rfl rfl (fun _ => rfl) rfl (fun _ => rfl) ?_ ?_
  · intro En ce q9 u_3 H locs hCx hP hD hS hxf hq9 hce hcv hcl
    have hCx : XC1 (nmX "java/lang/IllegalArgumentException" "java/lang/IllegalStateException" "") (A_def g t sp mn) En u_3.2.2 := hCx
    have hP : va_P E.1 CL (SW E o u_3.1 u_3.2.1) H := hP
    have hD : va_D A (SW E o u_3.1 u_3.2.1) := hD
    exact n_out (u_3.1, u_3.2.1, u_3.2.2) (by exact hCx) hP hD hS hxf (Nat.le_trans hz_1 hq9) hce hcv hcl (fun x hx9 => (htb x hx9).elim) hlocks (Nat.le_of_ble_eq_true rfl) (Nat.le_of_ble_eq_true rfl)
  · intro u_2 H locs hC hP hD hS
    have hu_2 : (∃ q, A_def g t sp mn = .inr (.inr q)) ∧ SR (rs_g g (A_def g t sp mn)) u_2.1 u_2.2 := hC
    have hP : va_P E.1 CL (SW E o u_2.1 u_2.2) H := hP
    have hD : va_D A (SW E o u_2.1 u_2.2) := hD
    refine vx_ret ?_
    refine W.widen (k := 2) (n := 12) (Nat.le_of_ble_eq_true rfl) (Nat.le_of_ble_eq_true rfl) ?_
    exact W.iret (v := iI (rs_val 0 (A_def g t sp mn))) hx hb hr (fun tt_ ht_ hW_ => ⟨⟨iI (rs_val 0 (A_def g t sp mn)), (u_2.1, u_2.2), rfl, ⟨hu_2, rfl⟩, by rw [ht_]; exact hP, hD⟩, hS.F ht_⟩) hS.2.2 dX4_lambda_recipe_0_7
set_option maxHeartbeats 1000000 in
set_option maxRecDepth 100000 in
theorem mt_X4_lambda_swapping_4 (l : Launch) (E : EE) (o : Nat → Nat) (sc : Nat → Int) (ar : Nat → Int → Int) (t : Int) (n9 : Int) (g : Int → Int) (hst : l.stackTraces = false) (hsr : SR g sc ar) (ht : 0 ≤ t ∧ t < 65536) (hn : 0 ≤ n9 ∧ n9 < 65536) (htw : TW g) (hsw : SwOK g) (hhn : HN g) (sz : Nat) : vx_Met l yX4_lambda_swapping_4 (ws_ yX4_lambda_swapping_4 cX4_lambda_swapping_4 3 (some .int)) { frames := 9, cells := 45, slots := 332, locals := 3162 } (va_Pc [iv t, iv n9, .ref (o 0)] (UX E (SW E o sc ar) sz)) (UQx E (fun u : SU => (∃ q, A_repl g t n9 = .inr (.inr q)) ∧ SR (rs_g g (A_repl g t n9)) u.1 u.2) (fun u : SU => rs_val 0 (A_repl g t n9)) (fun u : SU => SW E o u.1 u.2) (va_A (SW E o sc ar) sz)) (UXx E (fun (En : String) (u : SUX) => XC1 (nmX "java/lang/IllegalArgumentException" "" "") (A_repl g t n9) En u.2.2) (fun u : SUX => SW E o u.1 u.2.1) (fun u : SUX => u.2.2) (va_A (SW E o sc ar) sz)) 45 332 (va_A (SW E o sc ar) sz) := by
  refine vx_ofW (cc := cX4_lambda_swapping_4) (maxL := 3) (ret := (some .int)) (by decide) rfl ?_
  intro p e s m args below meth c s₁ B hml htb hv
  obtain ⟨rfl, hsz, hP, hK, hD0, hE⟩ := hv
  have hx := B.exec
  have hb := B.bytes
  have hr := B.returns
  have hts := atoms_spec (ws := (ws_ yX4_lambda_swapping_4 cX4_lambda_swapping_4 3 (some .int))) B.pre
  have hts : ∀ w ∈ lw_all, w.before _ s = true := fun w h => hts w (List.mem_cons_of_mem _ h)
  have hown : s.vm.findClass RX4 = some m.cls := findClass_of_methodNamed B.named
  have hlocks := B.notSynchronized
  subst hsz
  have hD := hD0.self (sz := s.heap.size)
  generalize hAe : va_A (SW E o sc ar) s.heap.size = A at hD hE ⊢
  have hA : ∀ q : Nat, s.heap.size ≤ q → A q := fun q h => by rw [← hAe]; exact Or.inr h
  have hS : va_S A s.heap s.heap [] := va_S.rf
  have hl := lv_entry ([iv t, iv n9, .ref (o 0)]) (n := 3) (Nat.le_of_ble_eq_true rfl)
  rw [lg_entry_eq]
  generalize (lg_sl ([iv t, iv n9, .ref (o 0)]) ++ List.replicate (3 - (lg_sl ([iv t, iv n9, .ref (o 0)])).length) Slot.unset).toArray = ls at hl ⊢
  have hl : lv_has ls 3 [(0, iv t), (1, iv n9), (2, .ref (o 0))] := hl
  refine lv_aload_n hx hb dX4_lambda_swapping_4_0 rfl (lv_at hl 2 rfl) ?_
  refine lv_iload_n hx hb dX4_lambda_swapping_4_1 rfl (lv_at hl 0 rfl) ?_
  refine lv_iload_n hx hb dX4_lambda_swapping_4_2 rfl (lv_at hl 1 rfl) ?_
  have hz_1 : s.heap.size ≤ s.heap.size := hS.1
  refine n_txS (x := fun u_2 => rs_val 0 (A_repl g t n9)) (w2 := fun u_2 => SW E o u_2.1 u_2.2) (w3 := fun u_3 => SW E o u_3.1 u_3.2.1) (vx_runV (As := [iv t, iv n9]) (rest := []) ⟨hx, hb, hml, hown, hts⟩ (mt_X2_replace l E o sc ar t n9 g (by exact hst) (by assumption) (by omega) (by omega) (by assumption) (by assumption) (by assumption) _) (cwV 2 hts (lw_V q1881 q1147 q1148 q95 q1149) rfl rfl rfl (by decide +kernel) ⟨Nat.le_of_ble_eq_true rfl, Nat.le_of_ble_eq_true rfl⟩) (UX_V hP hK (hD) hE hS (va_A_in hD hS hA) (va_recv hK.1 hP (ci := 2) (q0 := 0) rfl rfl)) rfl rfl hl.1 rfl (lv_room (Nat.le_of_ble_eq_true rfl)) dX4_lambda_swapping_4_3 ⟨Nat.le_of_ble_eq_true rfl, Nat.le_of_ble_eq_true rfl⟩) hP hD hS hA [0, 1, 2, 3, 4, 5, 6, 7, 8, 9, 10, 11, 12, 13, 14, 15, 16] [] [0, 1, 2, 3, 4, 5, 6, 7, 8, 9, 10, 11, 12, 13, 14, 15, 16] [0, 1, 2, 3, 4, 5, 6, 7, 8, 9, 10, 11, 12, 13, 14, 15, 16] rfl rfl rfl rfl rfl (fun _ => rfl) rfl (fun _ => rfl) ?_ ?_
  · intro En ce q9 u_3 H locs hCx hP hD hS hxf hq9 hce hcv hcl
    have hCx : XC1 (nmX "java/lang/IllegalArgumentException" "" "") (A_repl g t n9) En u_3.2.2 := hCx
    have hP : va_P E.1 CL (SW E o u_3.1 u_3.2.1) H := hP
    have hD : va_D A (SW E o u_3.1 u_3.2.1) := hD
    exact n_out (u_3.1, u_3.2.1, u_3.2.2) (by exact hCx) hP hD hS hxf (Nat.le_trans hz_1 hq9) hce hcv hcl (fun x hx9 => (htb x hx9).elim) hlocks (Nat.le_of_ble_eq_true rfl) (Nat.le_of_ble_eq_true rfl)
  · intro u_2 H locs hC hP hD hS
    have hu_2 : (∃ q, A_repl g t n9 = .inr (.inr q)) ∧ SR (rs_g g (A_repl g t n9)) u_2.1 u_2.2 := hC
    have hP : va_P E.1 CL (SW E o u_2.1 u_2.2) H := hP
    have hD : va_D A (SW E o u_2.1 u_2.2) := hD
    refine vx_ret ?_
    refine W.widen (k := 45) (n := 332) (Nat.le_of_ble_eq_true rfl) (Nat.le_of_ble_eq_true rfl) ?_
    exact W.iret (v := iI (rs_val 0 (A_repl g t n9))) hx hb hr (fun tt_ ht_ hW_ => ⟨⟨iI (rs_val 0 (A_repl g t n9)), (u_2.1, u_2.2), rfl, ⟨hu_2, rfl⟩, by rw [ht_]; exact hP, hD⟩, hS.F ht_⟩) hS.2.2 dX4_lambda_swapping_4_6
set_option maxHeartbeats 1000000 in
set_option maxRecDepth 100000 in
theorem mt_X4_lambda_touching_9 (l : Launch) (E : EE) (o : Nat → Nat) (sc : Nat → Int) (ar : Nat → Int → Int) (k : Int) (p9 : Int) (th : Int) (g : Int → Int) (r : Int → Nat) (fl : Int → Int) (hst : l.stackTraces = false) (hsr : SR g sc ar) (hk : -2147483648 ≤ k ∧ k < 2147483648) (hp : -2147483648 ≤ p9 ∧ p9 < 2147483648) (hth : -2147483648 ≤ th ∧ th < 2147483648) (htw : TW g) (hsw : SwOK g) (htm : TM g) (hhn : HN g) (hsc : SC g) (hrk : RK g r) (hr8 : ∀ t, 0 ≤ t → t < 8 → r t < 8) (how : OY g) (h60 : g 1 ≤ 60) (hfit : ∀ t, 0 ≤ t → t < 8 → ∀ th, g 1 + (m_dues g t th).1 ≤ 160) (sz : Nat) : vx_Met l yX4_lambda_touching_9 (ws_ yX4_lambda_touching_9 cX4_lambda_touching_9 4 (some .int)) { frames := 22, cells := 5, slots := 31, locals := 673 } (va_Pc [iv k, iv p9, iv th, .ref (o 0)] (UX E (SW E o sc ar) sz)) (UQx E (fun u : SU => (∃ q, A_tch g fl k p9 th = .inr (.inr q)) ∧ SR (rs_g g (A_tch g fl k p9 th)) u.1 u.2) (fun u : SU => rs_val 0 (A_tch g fl k p9 th)) (fun u : SU => SW E o u.1 u.2) (va_A (SW E o sc ar) sz)) (UXx E (fun (En : String) (u : SUX) => XC1 (nmX "java/lang/IndexOutOfBoundsException" "" "") (A_tch g fl k p9 th) En u.2.2) (fun u : SUX => SW E o u.1 u.2.1) (fun u : SUX => u.2.2) (va_A (SW E o sc ar) sz)) 5 31 (va_A (SW E o sc ar) sz) := by
  refine vx_ofW (cc := cX4_lambda_touching_9) (maxL := 4) (ret := (some .int)) (by decide) rfl ?_
  intro p e s m args below meth c s₁ B hml htb hv
  obtain ⟨rfl, hsz, hP, hK, hD0, hE⟩ := hv
  have hx := B.exec
  have hb := B.bytes
  have hr := B.returns
  have hts := atoms_spec (ws := (ws_ yX4_lambda_touching_9 cX4_lambda_touching_9 4 (some .int))) B.pre
  have hts : ∀ w ∈ lw_all, w.before _ s = true := fun w h => hts w (List.mem_cons_of_mem _ h)
  have hown : s.vm.findClass RX4 = some m.cls := findClass_of_methodNamed B.named
  have hlocks := B.notSynchronized
  subst hsz
  have hD := hD0.self (sz := s.heap.size)
  generalize hAe : va_A (SW E o sc ar) s.heap.size = A at hD hE ⊢
  have hA : ∀ q : Nat, s.heap.size ≤ q → A q := fun q h => by rw [← hAe]; exact Or.inr h
  have hS : va_S A s.heap s.heap [] := va_S.rf
  have hl := lv_entry ([iv k, iv p9, iv th, .ref (o 0)]) (n := 4) (Nat.le_of_ble_eq_true rfl)
  rw [lg_entry_eq]
  generalize (lg_sl ([iv k, iv p9, iv th, .ref (o 0)]) ++ List.replicate (4 - (lg_sl ([iv k, iv p9, iv th, .ref (o 0)])).length) Slot.unset).toArray = ls at hl ⊢
  have hl : lv_has ls 4 [(0, iv k), (1, iv p9), (2, iv th), (3, .ref (o 0))] := hl
  refine lv_aload_n hx hb dX4_lambda_touching_9_0 rfl (lv_at hl 3 rfl) ?_
  refine lv_iload_n hx hb dX4_lambda_touching_9_1 rfl (lv_at hl 0 rfl) ?_
  refine lv_iload_n hx hb dX4_lambda_touching_9_2 rfl (lv_at hl 1 rfl) ?_
  refine lv_iload_n hx hb dX4_lambda_touching_9_3 rfl (lv_at hl 2 rfl) ?_
  have hz_1 : s.heap.size ≤ s.heap.size := hS.1
  refine n_txS (x := fun u_2 => rs_val 0 (A_tch g fl k p9 th)) (w2 := fun u_2 => SW E o u_2.1 u_2.2) (w3 := fun u_3 => SW E o u_3.1 u_3.2.1) (vx_runV (As := [iv k, iv p9, iv th]) (rest := []) ⟨hx, hb, hml, hown, hts⟩ (mt_X2_touch l E o sc ar k p9 th g r fl (by exact hst) (by assumption) (by omega) (by omega) (by omega) (by assumption) (by assumption) (by assumption) (by assumption) (by assumption) (by assumption) (by assumption) (by assumption) (by assumption) (by assumption) _) (cwV 3 hts (lw_V q1913 q1282 q1283 q95 q1284) rfl rfl rfl (by decide +kernel) ⟨Nat.le_of_ble_eq_true rfl, Nat.le_of_ble_eq_true rfl⟩) (UX_V hP hK (hD) hE hS (va_A_in hD hS hA) (va_recv hK.1 hP (ci := 2) (q0 := 0) rfl rfl)) rfl rfl hl.1 rfl (lv_room (Nat.le_of_ble_eq_true rfl)) dX4_lambda_touching_9_4 ⟨Nat.le_of_ble_eq_true rfl, Nat.le_of_ble_eq_true rfl⟩) hP hD hS hA [0, 1, 2, 3, 4, 5, 6, 7, 8, 9, 10, 11, 12, 13, 14, 15, 16] [] [0, 1, 2, 3, 4, 5, 6, 7, 8, 9, 10, 11, 12, 13, 14, 15, 16] [0, 1, 2, 3, 4, 5, 6, 7, 8, 9, 10, 11, 12, 13, 14, 15, 16] rfl rfl rfl rfl rfl (fun _ => rfl) rfl (fun _ => rfl) ?_ ?_
  · intro En ce q9 u_3 H locs hCx hP hD hS hxf hq9 hce hcv hcl
    have hCx : XC1 (nmX "java/lang/IndexOutOfBoundsException" "" "") (A_tch g fl k p9 th) En u_3.2.2 := hCx
    have hP : va_P E.1 CL (SW E o u_3.1 u_3.2.1) H := hP
    have hD : va_D A (SW E o u_3.1 u_3.2.1) := hD
    exact n_out (u_3.1, u_3.2.1, u_3.2.2) (by exact hCx) hP hD hS hxf (Nat.le_trans hz_1 hq9) hce hcv hcl (fun x hx9 => (htb x hx9).elim) hlocks (Nat.le_of_ble_eq_true rfl) (Nat.le_of_ble_eq_true rfl)
  · intro u_2 H locs hC hP hD hS
    have hu_2 : (∃ q, A_tch g fl k p9 th = .inr (.inr q)) ∧ SR (rs_g g (A_tch g fl k p9 th)) u_2.1 u_2.2 := hC
    have hP : va_P E.1 CL (SW E o u_2.1 u_2.2) H := hP
    have hD : va_D A (SW E o u_2.1 u_2.2) := hD
    refine vx_ret ?_
    refine W.widen (k := 5) (n := 31) (Nat.le_of_ble_eq_true rfl) (Nat.le_of_ble_eq_true rfl) ?_
    exact W.iret (v := iI (rs_val 0 (A_tch g fl k p9 th))) hx hb hr (fun tt_ ht_ hW_ => ⟨⟨iI (rs_val 0 (A_tch g fl k p9 th)), (u_2.1, u_2.2), rfl, ⟨hu_2, rfl⟩, by rw [ht_]; exact hP, hD⟩, hS.F ht_⟩) hS.2.2 dX4_lambda_touching_9_7
