set_option maxHeartbeats 1000000 in
set_option maxRecDepth 100000 in
theorem mt_X1_filledBy (l : Launch) (E : EE) (cw : Nat) (oaA : Nat) (osA : Nat) (hsn : Int) (hdA : Nat) (spA : Nat) (bfA : Nat) (lnA : Nat) (prA : Nat) (ep : Int) (lt : Option Nat) (o : Nat → Nat) (sc : Nat → Int) (ar : Nat → Int → Int) (k : Int) (q : Int) (g : Int → Int) (hst : l.stackTraces = false) (hsr : SR g sc ar) (hk : -2147483648 ≤ k ∧ k < 2147483648) (hq : -2147483648 ≤ q ∧ q < 2147483648) (how : OY g) (sz : Nat) : vx_Met l yX1_filledBy (ws_ yX1_filledBy cX1_filledBy 3 (some .int)) { frames := 9, cells := 3, slots := 18, locals := 155 } (va_Pc [.ref cw, iv k, iv q] (UX E (([(cw, .inr (1, [.ref (o 0), .ref oaA, .ref osA, iv hsn, .ref hdA, .ref spA, .ref bfA, .ref lnA, .ref prA, iv ep, va_rf lt]))] : va_W) ++ (SW E o sc ar)) sz)) (UQx E (fun u : Unit => c_fill g k q = 0) (fun u : Unit => m_thing g k (7 + q) - 1) (fun u : Unit => ([(cw, .inr (1, [.ref (o 0), .ref oaA, .ref osA, iv hsn, .ref hdA, .ref spA, .ref bfA, .ref lnA, .ref prA, iv ep, va_rf lt]))] : va_W) ++ (SW E o sc ar)) (va_A (([(cw, .inr (1, [.ref (o 0), .ref oaA, .ref osA, iv hsn, .ref hdA, .ref spA, .ref bfA, .ref lnA, .ref prA, iv ep, va_rf lt]))] : va_W) ++ (SW E o sc ar)) sz)) (UXx E (fun (En : String) (u : Unit) => 0 < c_fill g k q ∧ En = nmX "java/lang/IndexOutOfBoundsException" "java/util/NoSuchElementException" "" (c_fill g k q)) (fun u : Unit => ([(cw, .inr (1, [.ref (o 0), .ref oaA, .ref osA, iv hsn, .ref hdA, .ref spA, .ref bfA, .ref lnA, .ref prA, iv ep, va_rf lt]))] : va_W) ++ (SW E o sc ar)) (fun u : Unit => none) (va_A (([(cw, .inr (1, [.ref (o 0), .ref oaA, .ref osA, iv hsn, .ref hdA, .ref spA, .ref bfA, .ref lnA, .ref prA, iv ep, va_rf lt]))] : va_W) ++ (SW E o sc ar)) sz)) 3 18 (va_A (([(cw, .inr (1, [.ref (o 0), .ref oaA, .ref osA, iv hsn, .ref hdA, .ref spA, .ref bfA, .ref lnA, .ref prA, iv ep, va_rf lt]))] : va_W) ++ (SW E o sc ar)) sz) := by
  refine vx_ofW (cc := cX1_filledBy) (maxL := 3) (ret := (some .int)) (by decide) rfl ?_
  intro p e s m args below meth c s₁ B hml htb hv
  obtain ⟨rfl, hsz, hP, hK, hD0, hE⟩ := hv
  have hx := B.exec
  have hb := B.bytes
  have hr := B.returns
  have hts := atoms_spec (ws := (ws_ yX1_filledBy cX1_filledBy 3 (some .int))) B.pre
  have hts : ∀ w ∈ lw_all, w.before _ s = true := fun w h => hts w (List.mem_cons_of_mem _ h)
  have hown : s.vm.findClass RX1 = some m.cls := findClass_of_methodNamed B.named
  have hlocks := B.notSynchronized
  subst hsz
  have hD := hD0.self (sz := s.heap.size)
  generalize hAe : va_A (([(cw, .inr (1, [.ref (o 0), .ref oaA, .ref osA, iv hsn, .ref hdA, .ref spA, .ref bfA, .ref lnA, .ref prA, iv ep, va_rf lt]))] : va_W) ++ (SW E o sc ar)) s.heap.size = A at hD hE ⊢
  have hA : ∀ q : Nat, s.heap.size ≤ q → A q := fun q h => by rw [← hAe]; exact Or.inr h
  have hS : va_S A s.heap s.heap [] := va_S.rf
  have hl := lv_entry ([.ref cw, iv k, iv q]) (n := 3) (Nat.le_of_ble_eq_true rfl)
  rw [lg_entry_eq]
  generalize (lg_sl ([.ref cw, iv k, iv q]) ++ List.replicate (3 - (lg_sl ([.ref cw, iv k, iv q])).length) Slot.unset).toArray = ls at hl ⊢
  have hl : lv_has ls 3 [(0, .ref cw), (1, iv k), (2, iv q)] := hl
  have hn1 := hsr.n1
  have ho1 := how.1
  have ho2 := how.2.1
  refine lv_aload_n hx hb dX1_filledBy_0 rfl (lv_at hl 0 rfl) ?_
  refine va_get (D := E.1) (ci := 1) (v := .ref (o 0)) (C := RX1) (T := TX1) (N := 11) hx hb hts in_X1 hown hK.1 hP 0 rfl rfl 0 (by decide) (hts _ q472) (fun _ h9 => h9) rfl dX1_filledBy_1 ?_
  refine lv_iload_n hx hb dX1_filledBy_4 rfl (lv_at hl 1 rfl) ?_
  refine lv_iload_n hx hb dX1_filledBy_5 rfl (lv_at hl 2 rfl) ?_
  have hz_1 : s.heap.size ≤ s.heap.size := hS.1
  refine n_txvS (w2 := fun u_2 => ([(cw, .inr (1, [.ref (o 0), .ref oaA, .ref osA, iv hsn, .ref hdA, .ref spA, .ref bfA, .ref lnA, .ref prA, iv ep, va_rf lt]))] : va_W) ++ (SW E o sc ar)) (w3 := fun u_3 => ([(cw, .inr (1, [.ref (o 0), .ref oaA, .ref osA, iv hsn, .ref hdA, .ref spA, .ref bfA, .ref lnA, .ref prA, iv ep, va_rf lt]))] : va_W) ++ (SW E o sc ar)) (vx_runV (As := [iv k, iv q]) (rest := []) ⟨hx, hb, hml, hown, hts⟩ (mt_X2_checkNeed l E o sc ar k q g (by exact hst) (by omega) (by omega) (by assumption) (by assumption) _) (cwV 2 hts (lw_V q1337 q1286 q1287 q95 q1288) rfl rfl rfl (by decide +kernel) ⟨Nat.le_of_ble_eq_true rfl, Nat.le_of_ble_eq_true rfl⟩) (UX_V (hP.sub (ws' := SW E o sc ar) [1, 2, 3, 4, 5, 6, 7, 8, 9, 10, 11, 12, 13, 14, 15, 16, 17] rfl) hK (hD.sub (ws' := SW E o sc ar) [1, 2, 3, 4, 5, 6, 7, 8, 9, 10, 11, 12, 13, 14, 15, 16, 17] rfl rfl) hE hS (va_sub_free hD hS hA [1, 2, 3, 4, 5, 6, 7, 8, 9, 10, 11, 12, 13, 14, 15, 16, 17] rfl) (va_recv hK.1 hP (ci := 2) (q0 := 1) rfl rfl)) rfl rfl hl.1 rfl (lv_room (Nat.le_of_ble_eq_true rfl)) dX1_filledBy_6 ⟨Nat.le_of_ble_eq_true rfl, Nat.le_of_ble_eq_true rfl⟩) hP hD hS hA [1, 2, 3, 4, 5, 6, 7, 8, 9, 10, 11, 12, 13, 14, 15, 16, 17] [0] [0, 1, 2, 3, 4, 5, 6, 7, 8, 9, 10, 11, 12, 13, 14, 15, 16, 17] [0, 1, 2, 3, 4, 5, 6, 7, 8, 9, 10, 11, 12, 13, 14, 15, 16, 17] rfl rfl rfl rfl rfl (fun _ => rfl) rfl (fun _ => rfl) ?_ ?_
  · intro En ce q9 u_3 H locs hCx hP hD hS hxf hq9 hce hcv hcl
    have hCx : En = "java/lang/IndexOutOfBoundsException" ∧ m_noneed g k q = true := hCx
    have hP : va_P E.1 CL (([(cw, .inr (1, [.ref (o 0), .ref oaA, .ref osA, iv hsn, .ref hdA, .ref spA, .ref bfA, .ref lnA, .ref prA, iv ep, va_rf lt]))] : va_W) ++ (SW E o sc ar)) H := hP
    have hD : va_D A (([(cw, .inr (1, [.ref (o 0), .ref oaA, .ref osA, iv hsn, .ref hdA, .ref spA, .ref bfA, .ref lnA, .ref prA, iv ep, va_rf lt]))] : va_W) ++ (SW E o sc ar)) := hD
    exact n_out () (by exact cx_k (k := 1) (by exact c_fill_1 hCx.2) (by decide) hCx.1) hP hD hS hxf (Nat.le_trans hz_1 hq9) hce hcv hcl (fun x hx9 => (htb x hx9).elim) hlocks (Nat.le_of_ble_eq_true rfl) (Nat.le_of_ble_eq_true rfl)
  · intro u_2 H locs hC hP hD hS
    have hu_2 : m_noneed g k q = false := hC
    have hP : va_P E.1 CL (([(cw, .inr (1, [.ref (o 0), .ref oaA, .ref osA, iv hsn, .ref hdA, .ref spA, .ref bfA, .ref lnA, .ref prA, iv ep, va_rf lt]))] : va_W) ++ (SW E o sc ar)) H := hP
    have hD : va_D A (([(cw, .inr (1, [.ref (o 0), .ref oaA, .ref osA, iv hsn, .ref hdA, .ref spA, .ref bfA, .ref lnA, .ref prA, iv ep, va_rf lt]))] : va_W) ++ (SW E o sc ar)) := hD
    have hnn := hu_2
    have hno := m_noneed_ok hnn
    have hz := how.2.2 k (by omega) (by omega)
    have hk9 : 0 ≤ k ∧ k < g 1 := by omega
    have hz2 := hz.2.1
    have hq9 : 0 ≤ q ∧ q < 3 ∧ q < m_thing g k 3 := by omega
    have hz3 := hz.2.2.1 q (by omega) (by omega) (by omega)
    refine lv_aload_n hx hb dX1_filledBy_9 rfl (lv_at hl 0 rfl) ?_
    refine va_get (D := E.1) (ci := 1) (v := .ref (o 0)) (C := RX1) (T := TX1) (N := 11) hx hb hts in_X1 hown hK.1 hP 0 rfl rfl 0 (by decide) (hts _ q472) (fun _ h9 => h9) rfl dX1_filledBy_10 ?_
    refine va_getN (D := E.1) (ci := 2) (v := .ref (o 15)) (C := RX2) (T := TX2) (N := 14) hx hb hts in_X2 hown hK.1 hP 1 rfl rfl 8 (by decide) (hK.nw q204) (fun _ h9 => h9) rfl dX1_filledBy_13 ?_
    refine lv_iconst (v := iI 3) hx hb dX1_filledBy_16 rfl ?_
    refine lv_iload_n hx hb dX1_filledBy_17 rfl (lv_at hl 1 rfl) ?_
    refine n_imul hx hb dX1_filledBy_18 ?_
    refine lv_iload_n hx hb dX1_filledBy_19 rfl (lv_at hl 2 rfl) ?_
    refine n_iadd hx hb dX1_filledBy_20 ?_
    refine n_iald (f := ar 15) hx hb hK.1 hP 16 0 rfl rfl (by omega) (by decide) dX1_filledBy_21 ?_
    rw [hsr.fil (k := k) (j := q) hk9 hq9]
    have hz_4 : s.heap.size ≤ H.size := hS.1
    refine n_txS (x := fun u_5 => m_thing g k (7 + q) - 1) (w2 := fun u_5 => ([(cw, .inr (1, [.ref (o 0), .ref oaA, .ref osA, iv hsn, .ref hdA, .ref spA, .ref bfA, .ref lnA, .ref prA, iv ep, va_rf lt]))] : va_W) ++ (SW E o sc ar)) (w3 := fun u_6 => ([(cw, .inr (1, [.ref (o 0), .ref oaA, .ref osA, iv hsn, .ref hdA, .ref spA, .ref bfA, .ref lnA, .ref prA, iv ep, va_rf lt]))] : va_W) ++ (SW E o sc ar)) (vx_runS (As := [iv (m_thing g k (7 + q) - 1)]) (rest := []) ⟨hx, hb, hml, hown, hts⟩ (mt_X1_found l E (m_thing g k (7 + q) - 1) (by exact hst) (by omega) _) (va_cwS 1 hts (lw_S q1204 q1038 q94 q1039) rfl rfl rfl (by decide +kernel) ⟨Nat.le_of_ble_eq_true rfl, Nat.le_of_ble_eq_true rfl⟩) (UX_S (hP.sub (ws' := []) [] rfl) hK (hD.sub (ws' := []) [] rfl rfl) hE hS (va_sub_free hD hS hA [] rfl)) rfl rfl hl.1 rfl (lv_room (Nat.le_of_ble_eq_true rfl)) dX1_filledBy_22 ⟨Nat.le_of_ble_eq_true rfl, Nat.le_of_ble_eq_true rfl⟩) hP hD hS hA [] [0, 1, 2, 3, 4, 5, 6, 7, 8, 9, 10, 11, 12, 13, 14, 15, 16, 17] [0, 1, 2, 3, 4, 5, 6, 7, 8, 9, 10, 11, 12, 13, 14, 15, 16, 17] [0, 1, 2, 3, 4, 5, 6, 7, 8, 9, 10, 11, 12, 13, 14, 15, 16, 17] rfl rfl rfl rfl rfl (fun _ => rfl) rfl (fun _ => rfl) ?_ ?_
    · intro En ce q9 u_6 H locs hCx hP hD hS hxf hq9 hce hcv hcl
      have hCx : En = "java/util/NoSuchElementException" ∧ (m_thing g k (7 + q) - 1) = -1 := hCx
      have hP : va_P E.1 CL (([(cw, .inr (1, [.ref (o 0), .ref oaA, .ref osA, iv hsn, .ref hdA, .ref spA, .ref bfA, .ref lnA, .ref prA, iv ep, va_rf lt]))] : va_W) ++ (SW E o sc ar)) H := hP
      have hD : va_D A (([(cw, .inr (1, [.ref (o 0), .ref oaA, .ref osA, iv hsn, .ref hdA, .ref spA, .ref bfA, .ref lnA, .ref prA, iv ep, va_rf lt]))] : va_W) ++ (SW E o sc ar)) := hD
      exact n_out () (by exact cx_k (k := 2) (by exact c_fill_2 hnn (by have q8 := hCx.2; omega)) (by decide) hCx.1) hP hD hS hxf (Nat.le_trans hz_4 hq9) hce hcv hcl (fun x hx9 => (htb x hx9).elim) hlocks (Nat.le_of_ble_eq_true rfl) (Nat.le_of_ble_eq_true rfl)
    · intro u_5 H locs hC hP hD hS
      have hu_5 : ¬ (m_thing g k (7 + q) - 1) = -1 := hC
      have hP : va_P E.1 CL (([(cw, .inr (1, [.ref (o 0), .ref oaA, .ref osA, iv hsn, .ref hdA, .ref spA, .ref bfA, .ref lnA, .ref prA, iv ep, va_rf lt]))] : va_W) ++ (SW E o sc ar)) H := hP
      have hD : va_D A (([(cw, .inr (1, [.ref (o 0), .ref oaA, .ref osA, iv hsn, .ref hdA, .ref spA, .ref bfA, .ref lnA, .ref prA, iv ep, va_rf lt]))] : va_W) ++ (SW E o sc ar)) := hD
      have hne := hu_5
      refine vx_ret ?_
      refine W.widen (k := 3) (n := 18) (Nat.le_of_ble_eq_true rfl) (Nat.le_of_ble_eq_true rfl) ?_
      exact W.iret (v := iI (m_thing g k (7 + q) - 1)) hx hb hr (fun tt_ ht_ hW_ => ⟨⟨iI (m_thing g k (7 + q) - 1), (), rfl, ⟨by exact c_fill_0 hnn (by omega), rfl⟩, by rw [ht_]; exact hP, hD⟩, hS.F ht_⟩) hS.2.2 dX1_filledBy_25
set_option maxHeartbeats 2000000 in
set_option maxRecDepth 100000 in
theorem mt_X1_wouldMakeByCounting (l : Launch) (E : EE) (cw : Nat) (oaA : Nat) (osA : Nat) (hsn : Int) (hdA : Nat) (spA : Nat) (bfA : Nat) (lnA : Nat) (prA : Nat) (ep : Int) (lt : Option Nat) (o : Nat → Nat) (sc : Nat → Int) (ar : Nat → Int → Int) (t : Int) (th : Int) (g : Int → Int) (r : Int → Nat) (hst : l.stackTraces = false) (hsr : SR g sc ar) (ht : 0 ≤ t ∧ t < 65536) (hth : -2147483648 ≤ th ∧ th < 2147483648) (htw : TW g) (hsw : SwOK g) (htm : TM g) (hhn : HN g) (hsc : SC g) (hrk : RK g r) (hr8 : ∀ t, 0 ≤ t → t < 8 → r t < 8) (how : OY g) (sz : Nat) : vx_Met l yX1_wouldMakeByCounting (ws_ yX1_wouldMakeByCounting cX1_wouldMakeByCounting 4 (some .int)) { frames := 11, cells := 4, slots := 22, locals := 268 } (va_Pc [.ref cw, iv t, iv th] (UX E (([(cw, .inr (1, [.ref (o 0), .ref oaA, .ref osA, iv hsn, .ref hdA, .ref spA, .ref bfA, .ref lnA, .ref prA, iv ep, va_rf lt]))] : va_W) ++ (SW E o sc ar)) sz)) (UQx E (fun u : Unit => c_wd g t th = 0) (fun u : Unit => (m_dues g (t - 97) th).1) (fun u : Unit => ([(cw, .inr (1, [.ref (o 0), .ref oaA, .ref osA, iv hsn, .ref hdA, .ref spA, .ref bfA, .ref lnA, .ref prA, iv ep, va_rf lt]))] : va_W) ++ (SW E o sc ar)) (va_A (([(cw, .inr (1, [.ref (o 0), .ref oaA, .ref osA, iv hsn, .ref hdA, .ref spA, .ref bfA, .ref lnA, .ref prA, iv ep, va_rf lt]))] : va_W) ++ (SW E o sc ar)) sz)) (UXx E (fun (En : String) (u : Unit) => 0 < c_wd g t th ∧ En = nmX "java/lang/IllegalArgumentException" "java/lang/IndexOutOfBoundsException" "java/util/NoSuchElementException" (c_wd g t th)) (fun u : Unit => ([(cw, .inr (1, [.ref (o 0), .ref oaA, .ref osA, iv hsn, .ref hdA, .ref spA, .ref bfA, .ref lnA, .ref prA, iv ep, va_rf lt]))] : va_W) ++ (SW E o sc ar)) (fun u : Unit => none) (va_A (([(cw, .inr (1, [.ref (o 0), .ref oaA, .ref osA, iv hsn, .ref hdA, .ref spA, .ref bfA, .ref lnA, .ref prA, iv ep, va_rf lt]))] : va_W) ++ (SW E o sc ar)) sz)) 4 22 (va_A (([(cw, .inr (1, [.ref (o 0), .ref oaA, .ref osA, iv hsn, .ref hdA, .ref spA, .ref bfA, .ref lnA, .ref prA, iv ep, va_rf lt]))] : va_W) ++ (SW E o sc ar)) sz) := by
  refine vx_ofW (cc := cX1_wouldMakeByCounting) (maxL := 4) (ret := (some .int)) (by decide) rfl ?_
  intro p e s m args below meth c s₁ B hml htb hv
  obtain ⟨rfl, hsz, hP, hK, hD0, hE⟩ := hv
  have hx := B.exec
  have hb := B.bytes
  have hr := B.returns
  have hts := atoms_spec (ws := (ws_ yX1_wouldMakeByCounting cX1_wouldMakeByCounting 4 (some .int))) B.pre
  have hts : ∀ w ∈ lw_all, w.before _ s = true := fun w h => hts w (List.mem_cons_of_mem _ h)
  have hown : s.vm.findClass RX1 = some m.cls := findClass_of_methodNamed B.named
  have hlocks := B.notSynchronized
  subst hsz
  have hD := hD0.self (sz := s.heap.size)
  generalize hAe : va_A (([(cw, .inr (1, [.ref (o 0), .ref oaA, .ref osA, iv hsn, .ref hdA, .ref spA, .ref bfA, .ref lnA, .ref prA, iv ep, va_rf lt]))] : va_W) ++ (SW E o sc ar)) s.heap.size = A at hD hE ⊢
  have hA : ∀ q : Nat, s.heap.size ≤ q → A q := fun q h => by rw [← hAe]; exact Or.inr h
  have hS : va_S A s.heap s.heap [] := va_S.rf
  have hl := lv_entry ([.ref cw, iv t, iv th]) (n := 4) (Nat.le_of_ble_eq_true rfl)
  rw [lg_entry_eq]
  generalize (lg_sl ([.ref cw, iv t, iv th]) ++ List.replicate (4 - (lg_sl ([.ref cw, iv t, iv th])).length) Slot.unset).toArray = ls at hl ⊢
  have hl : lv_has ls 4 [(0, .ref cw), (1, iv t), (2, iv th)] := hl
  have hpl := how.pl
  have hbr := hsr.br
  refine lv_iload_n hx hb dX1_wouldMakeByCounting_0 rfl (lv_at hl 1 rfl) ?_
  have hz_1 : s.heap.size ≤ s.heap.size := hS.1
  refine n_txS (x := fun u_2 => t - 97) (w2 := fun u_2 => ([(cw, .inr (1, [.ref (o 0), .ref oaA, .ref osA, iv hsn, .ref hdA, .ref spA, .ref bfA, .ref lnA, .ref prA, iv ep, va_rf lt]))] : va_W) ++ (SW E o sc ar)) (w3 := fun u_3 => ([(cw, .inr (1, [.ref (o 0), .ref oaA, .ref osA, iv hsn, .ref hdA, .ref spA, .ref bfA, .ref lnA, .ref prA, iv ep, va_rf lt]))] : va_W) ++ (SW E o sc ar)) (vx_runS (As := [iv t]) (rest := []) ⟨hx, hb, hml, hown, hts⟩ (mt_X1_indexOf l E t (by exact hst) (by omega) _) (va_cwS 1 hts (lw_S q1052 q963 q94 q964) rfl rfl rfl (by decide +kernel) ⟨Nat.le_of_ble_eq_true rfl, Nat.le_of_ble_eq_true rfl⟩) (UX_S (hP.sub (ws' := []) [] rfl) hK (hD.sub (ws' := []) [] rfl rfl) hE hS (va_sub_free hD hS hA [] rfl)) rfl rfl hl.1 rfl (lv_room (Nat.le_of_ble_eq_true rfl)) dX1_wouldMakeByCounting_1 ⟨Nat.le_of_ble_eq_true rfl, Nat.le_of_ble_eq_true rfl⟩) hP hD hS hA [] [0, 1, 2, 3, 4, 5, 6, 7, 8, 9, 10, 11, 12, 13, 14, 15, 16, 17] [0, 1, 2, 3, 4, 5, 6, 7, 8, 9, 10, 11, 12, 13, 14, 15, 16, 17] [0, 1, 2, 3, 4, 5, 6, 7, 8, 9, 10, 11, 12, 13, 14, 15, 16, 17] rfl rfl rfl rfl rfl (fun _ => rfl) rfl (fun _ => rfl) ?_ ?_
  · intro En ce q9 u_3 H locs hCx hP hD hS hxf hq9 hce hcv hcl
    have hCx : En = "java/lang/IllegalArgumentException" ∧ ¬ (97 ≤ t ∧ t ≤ 104) := hCx
    have hP : va_P E.1 CL (([(cw, .inr (1, [.ref (o 0), .ref oaA, .ref osA, iv hsn, .ref hdA, .ref spA, .ref bfA, .ref lnA, .ref prA, iv ep, va_rf lt]))] : va_W) ++ (SW E o sc ar)) H := hP
    have hD : va_D A (([(cw, .inr (1, [.ref (o 0), .ref oaA, .ref osA, iv hsn, .ref hdA, .ref spA, .ref bfA, .ref lnA, .ref prA, iv ep, va_rf lt]))] : va_W) ++ (SW E o sc ar)) := hD
    exact n_out () (by exact cx_k (k := 1) (by exact (c_wd_1 (by rw [c_op_1 hCx.2]; decide)).trans (c_op_1 hCx.2)) (by decide) hCx.1) hP hD hS hxf (Nat.le_trans hz_1 hq9) hce hcv hcl (fun x hx9 => (htb x hx9).elim) hlocks (Nat.le_of_ble_eq_true rfl) (Nat.le_of_ble_eq_true rfl)
  · intro u_2 H locs hC hP hD hS
    have hu_2 : 97 ≤ t ∧ t ≤ 104 := hC
    have hP : va_P E.1 CL (([(cw, .inr (1, [.ref (o 0), .ref oaA, .ref osA, iv hsn, .ref hdA, .ref spA, .ref bfA, .ref lnA, .ref prA, iv ep, va_rf lt]))] : va_W) ++ (SW E o sc ar)) H := hP
    have hD : va_D A (([(cw, .inr (1, [.ref (o 0), .ref oaA, .ref osA, iv hsn, .ref hdA, .ref spA, .ref bfA, .ref lnA, .ref prA, iv ep, va_rf lt]))] : va_W) ++ (SW E o sc ar)) := hD
    have hti := hu_2
    refine lv_istore_n (lv' := [(3, iv (t - 97)), (0, .ref cw), (1, iv t), (2, iv th)]) hx hb dX1_wouldMakeByCounting_4 rfl hl (by decide) rfl (fun ls hl => ?_)
    refine lv_aload_n hx hb dX1_wouldMakeByCounting_5 rfl (lv_at hl 1 rfl) ?_
    refine va_get (D := E.1) (ci := 1) (v := .ref (o 0)) (C := RX1) (T := TX1) (N := 11) hx hb hts in_X1 hown hK.1 hP 0 rfl rfl 0 (by decide) (hts _ q472) (fun _ h9 => h9) rfl dX1_wouldMakeByCounting_6 ?_
    refine lv_iload_n hx hb dX1_wouldMakeByCounting_9 rfl (lv_at hl 3 rfl) ?_
    have hz_4 : s.heap.size ≤ H.size := hS.1
    refine n_txvS (w2 := fun u_5 => ([(cw, .inr (1, [.ref (o 0), .ref oaA, .ref osA, iv hsn, .ref hdA, .ref spA, .ref bfA, .ref lnA, .ref prA, iv ep, va_rf lt]))] : va_W) ++ (SW E o sc ar)) (w3 := fun u_6 => ([(cw, .inr (1, [.ref (o 0), .ref oaA, .ref osA, iv hsn, .ref hdA, .ref spA, .ref bfA, .ref lnA, .ref prA, iv ep, va_rf lt]))] : va_W) ++ (SW E o sc ar)) (vx_runV (As := [iv th]) (rest := []) ⟨hx, hb, hml, hown, hts⟩ (mt_X2_checkThread l E o sc ar th g (by exact hst) (by omega) (by assumption) _) (cwV 1 hts (lw_V q1300 q1240 q1241 q95 q1242) rfl rfl rfl (by decide +kernel) ⟨Nat.le_of_ble_eq_true rfl, Nat.le_of_ble_eq_true rfl⟩) (UX_V (hP.sub (ws' := SW E o sc ar) [1, 2, 3, 4, 5, 6, 7, 8, 9, 10, 11, 12, 13, 14, 15, 16, 17] rfl) hK (hD.sub (ws' := SW E o sc ar) [1, 2, 3, 4, 5, 6, 7, 8, 9, 10, 11, 12, 13, 14, 15, 16, 17] rfl rfl) hE hS (va_sub_free hD hS hA [1, 2, 3, 4, 5, 6, 7, 8, 9, 10, 11, 12, 13, 14, 15, 16, 17] rfl) (va_recv hK.1 hP (ci := 2) (q0 := 1) rfl rfl)) rfl rfl hl.1 rfl (lv_room (Nat.le_of_ble_eq_true rfl)) dX1_wouldMakeByCounting_10 ⟨Nat.le_of_ble_eq_true rfl, Nat.le_of_ble_eq_true rfl⟩) hP hD hS hA [1, 2, 3, 4, 5, 6, 7, 8, 9, 10, 11, 12, 13, 14, 15, 16, 17] [0] [0, 1, 2, 3, 4, 5, 6, 7, 8, 9, 10, 11, 12, 13, 14, 15, 16, 17] [0, 1, 2, 3, 4, 5, 6, 7, 8, 9, 10, 11, 12, 13, 14, 15, 16, 17] rfl rfl rfl rfl rfl (fun _ => rfl) rfl (fun _ => rfl) ?_ ?_
    · intro En ce q9 u_6 H locs hCx hP hD hS hxf hq9 hce hcv hcl
      have hCx : En = "java/lang/IndexOutOfBoundsException" ∧ m_opened g th = false := hCx
      have hP : va_P E.1 CL (([(cw, .inr (1, [.ref (o 0), .ref oaA, .ref osA, iv hsn, .ref hdA, .ref spA, .ref bfA, .ref lnA, .ref prA, iv ep, va_rf lt]))] : va_W) ++ (SW E o sc ar)) H := hP
      have hD : va_D A (([(cw, .inr (1, [.ref (o 0), .ref oaA, .ref osA, iv hsn, .ref hdA, .ref spA, .ref bfA, .ref lnA, .ref prA, iv ep, va_rf lt]))] : va_W) ++ (SW E o sc ar)) := hD
      exact n_out () (by exact cx_k (k := 2) (by exact (c_wd_1 (by rw [c_op_2 hti hCx.2]; decide)).trans (c_op_2 hti hCx.2)) (by decide) hCx.1) hP hD hS hxf (Nat.le_trans hz_4 hq9) hce hcv hcl (fun x hx9 => (htb x hx9).elim) hlocks (Nat.le_of_ble_eq_true rfl) (Nat.le_of_ble_eq_true rfl)
    · intro u_5 H locs hC hP hD hS
      have hu_5 : m_opened g th = true := hC
      have hP : va_P E.1 CL (([(cw, .inr (1, [.ref (o 0), .ref oaA, .ref osA, iv hsn, .ref hdA, .ref spA, .ref bfA, .ref lnA, .ref prA, iv ep, va_rf lt]))] : va_W) ++ (SW E o sc ar)) H := hP
      have hD : va_D A (([(cw, .inr (1, [.ref (o 0), .ref oaA, .ref osA, iv hsn, .ref hdA, .ref spA, .ref bfA, .ref lnA, .ref prA, iv ep, va_rf lt]))] : va_W) ++ (SW E o sc ar)) := hD
      have hth9 := m_op_r hu_5
      have hop := c_op_0 hti hu_5
      have hdr := m_dues_r (th := th) htw hsw (t := t - 97) (by omega)
      have hz9_q_7 : s.heap.size ≤ (H).size := hS.1
      refine n_newK (ci := 7) (fs := [.null, iv 0, iv 0, iv 0]) (C := RX8) (T := TX8) (N := 4) hx hb hts in_X8 tyX8 tyX8_ok hown (hts _ q854) (hts _ q776) (hts _ q124) hK hP hD hS hA rfl (fun j hj => by rcases (show j = 0 ∨ j = 1 ∨ j = 2 ∨ j = 3 by omega) with rfl | rfl | rfl | rfl <;> rfl) (Nat.le_of_ble_eq_true rfl) (Nat.le_of_ble_eq_true rfl) dX1_wouldMakeByCounting_13 (fun q_7 H hfr_q_7 o_8 hsz_q_7 hP hD hS => ?_)
      have hge_q_7 : s.heap.size ≤ q_7 := Nat.le_trans hz9_q_7 hsz_q_7
      have hP : va_P E.1 CL (([(cw, .inr (1, [.ref (o 0), .ref oaA, .ref osA, iv hsn, .ref hdA, .ref spA, .ref bfA, .ref lnA, .ref prA, iv ep, va_rf lt]))] : va_W) ++ (SW E o sc ar) ++ ([(q_7, .inr (7, [.null, iv 0, iv 0, iv 0]))] : va_W)) H := hP
      have hD : va_D A (([(cw, .inr (1, [.ref (o 0), .ref oaA, .ref osA, iv hsn, .ref hdA, .ref spA, .ref bfA, .ref lnA, .ref prA, iv ep, va_rf lt]))] : va_W) ++ (SW E o sc ar) ++ ([(q_7, .inr (7, [.null, iv 0, iv 0, iv 0]))] : va_W)) := hD
      refine lv_dup hx hb dX1_wouldMakeByCounting_16 rfl ?_
      refine lv_aload_n hx hb dX1_wouldMakeByCounting_17 rfl (lv_at hl 1 rfl) ?_
      refine va_get (D := E.1) (ci := 1) (v := .ref (o 0)) (C := RX1) (T := TX1) (N := 11) hx hb hts in_X1 hown hK.1 hP 0 rfl rfl 0 (by decide) (hts _ q472) (fun _ h9 => h9) rfl dX1_wouldMakeByCounting_18 ?_
      refine lv_iload_n hx hb dX1_wouldMakeByCounting_21 rfl (lv_at hl 3 rfl) ?_
      refine n_cuxvS (w2 := fun u_9 => ([(cw, .inr (1, [.ref (o 0), .ref oaA, .ref osA, iv hsn, .ref hdA, .ref spA, .ref bfA, .ref lnA, .ref prA, iv ep, va_rf lt]))] : va_W) ++ (SW E o sc ar) ++ ([(q_7, .inr (7, [.ref (o 0), iv th, iv (bsI u_9), iv 0]))] : va_W)) (va_runI (As := [.ref (o 0), iv th]) (rest := [.ref q_7]) ⟨hx, hb, hml, hown, hts⟩ (mt_X8_init l E q_7 o sc ar th g (by omega) (by assumption) (by assumption) (by assumption) (by assumption) _) (n_cwI 2 hts q855 q778 q124 q779 rfl rfl rfl (by decide +kernel) ⟨Nat.le_of_ble_eq_true rfl, Nat.le_of_ble_eq_true rfl⟩) (UW_S (hP.sub (ws' := ([(q_7, .inr (7, [.null, iv 0, iv 0, iv 0]))] : va_W) ++ (SW E o sc ar)) [18, 1, 2, 3, 4, 5, 6, 7, 8, 9, 10, 11, 12, 13, 14, 15, 16, 17] rfl) hK (hD.sub (ws' := ([(q_7, .inr (7, [.null, iv 0, iv 0, iv 0]))] : va_W) ++ (SW E o sc ar)) [18, 1, 2, 3, 4, 5, 6, 7, 8, 9, 10, 11, 12, 13, 14, 15, 16, 17] rfl rfl)) rfl rfl hl.1 rfl (lv_room (Nat.le_of_ble_eq_true rfl)) dX1_wouldMakeByCounting_22 ⟨Nat.le_of_ble_eq_true rfl, Nat.le_of_ble_eq_true rfl⟩) hP hD hS hA [18, 1, 2, 3, 4, 5, 6, 7, 8, 9, 10, 11, 12, 13, 14, 15, 16, 17] [0] [0, 2, 3, 4, 5, 6, 7, 8, 9, 10, 11, 12, 13, 14, 15, 16, 17, 18, 1] rfl rfl rfl rfl rfl (fun _ => rfl) (fun u_9 H locs hu_9 hP hD hS => ?_)
      have hu_9 : ∀ v, 0 ≤ v → v < 8 → m_has g v = true → u_9 v = (decide (0 ≤ m_exist g v th) || (fun _ => false : Int → Bool) v) := hu_9
      have hP : va_P E.1 CL (([(cw, .inr (1, [.ref (o 0), .ref oaA, .ref osA, iv hsn, .ref hdA, .ref spA, .ref bfA, .ref lnA, .ref prA, iv ep, va_rf lt]))] : va_W) ++ (SW E o sc ar) ++ ([(q_7, .inr (7, [.ref (o 0), iv th, iv (bsI u_9), iv 0]))] : va_W)) H := hP
      have hD : va_D A (([(cw, .inr (1, [.ref (o 0), .ref oaA, .ref osA, iv hsn, .ref hdA, .ref spA, .ref bfA, .ref lnA, .ref prA, iv ep, va_rf lt]))] : va_W) ++ (SW E o sc ar) ++ ([(q_7, .inr (7, [.ref (o 0), iv th, iv (bsI u_9), iv 0]))] : va_W)) := hD
      refine lv_iload_n hx hb dX1_wouldMakeByCounting_25 rfl (lv_at hl 0 rfl) ?_
      refine n_cuxS (x := fun u_10 => (if (m_dues g (t - 97) th).2.2 < 0 then (m_dues g (t - 97) th).1 else -1)) (w2 := fun u_10 => ([(cw, .inr (1, [.ref (o 0), .ref oaA, .ref osA, iv hsn, .ref hdA, .ref spA, .ref bfA, .ref lnA, .ref prA, iv ep, va_rf lt]))] : va_W) ++ (SW E o sc ar) ++ ([(q_7, .inr (7, [.ref (o 0), iv th, iv (bsI u_10.1), iv u_10.2]))] : va_W)) (va_runV (As := [iv (t - 97)]) (rest := []) ⟨hx, hb, hml, hown, hts⟩ (mt_X8_wouldMake l E q_7 th u_9 o sc ar (t - 97) g r (by omega) (by first | assumption | exact hsr.br) (by assumption) (by assumption) (by assumption) (by assumption) (by assumption) (by assumption) (by exact hu_9) _) (cwV 1 hts (lw_V q856 q857 q858 q124 q859) rfl rfl rfl (by decide +kernel) ⟨Nat.le_of_ble_eq_true rfl, Nat.le_of_ble_eq_true rfl⟩) (UW_V (hP.sub (ws' := ([(q_7, .inr (7, [.ref (o 0), iv th, iv (bsI u_9), iv 0]))] : va_W) ++ (SW E o sc ar)) [18, 1, 2, 3, 4, 5, 6, 7, 8, 9, 10, 11, 12, 13, 14, 15, 16, 17] rfl) hK (hD.sub (ws' := ([(q_7, .inr (7, [.ref (o 0), iv th, iv (bsI u_9), iv 0]))] : va_W) ++ (SW E o sc ar)) [18, 1, 2, 3, 4, 5, 6, 7, 8, 9, 10, 11, 12, 13, 14, 15, 16, 17] rfl rfl) (va_recv hK.1 hP (ci := 7) (q0 := 18) rfl rfl)) rfl rfl hl.1 rfl (lv_room (Nat.le_of_ble_eq_true rfl)) dX1_wouldMakeByCounting_26 ⟨Nat.le_of_ble_eq_true rfl, Nat.le_of_ble_eq_true rfl⟩) hP hD hS hA [18, 1, 2, 3, 4, 5, 6, 7, 8, 9, 10, 11, 12, 13, 14, 15, 16, 17] [0] [0, 2, 3, 4, 5, 6, 7, 8, 9, 10, 11, 12, 13, 14, 15, 16, 17, 18, 1] rfl rfl rfl rfl rfl (fun _ => rfl) (fun u_10 H locs hu_10 hP hD hS => ?_)
      have hu_10 : True := hu_10
      have hP : va_P E.1 CL (([(cw, .inr (1, [.ref (o 0), .ref oaA, .ref osA, iv hsn, .ref hdA, .ref spA, .ref bfA, .ref lnA, .ref prA, iv ep, va_rf lt]))] : va_W) ++ (SW E o sc ar) ++ ([(q_7, .inr (7, [.ref (o 0), iv th, iv (bsI u_10.1), iv u_10.2]))] : va_W)) H := hP
      have hD : va_D A (([(cw, .inr (1, [.ref (o 0), .ref oaA, .ref osA, iv hsn, .ref hdA, .ref spA, .ref bfA, .ref lnA, .ref prA, iv ep, va_rf lt]))] : va_W) ++ (SW E o sc ar) ++ ([(q_7, .inr (7, [.ref (o 0), iv th, iv (bsI u_10.1), iv u_10.2]))] : va_W)) := hD
      by_cases hnd : (m_dues g (t - 97) th).2.2 < 0
      · refine n_top (y := (m_dues g (t - 97) th).1) (by exact if_pos hnd) ?_
        have hz_11 : s.heap.size ≤ H.size := hS.1
        refine n_txS (x := fun u_12 => (m_dues g (t - 97) th).1) (w2 := fun u_12 => ([(cw, .inr (1, [.ref (o 0), .ref oaA, .ref osA, iv hsn, .ref hdA, .ref spA, .ref bfA, .ref lnA, .ref prA, iv ep, va_rf lt]))] : va_W) ++ (SW E o sc ar) ++ ([(q_7, .inr (7, [.ref (o 0), iv th, iv (bsI u_10.1), iv u_10.2]))] : va_W)) (w3 := fun u_13 => ([(cw, .inr (1, [.ref (o 0), .ref oaA, .ref osA, iv hsn, .ref hdA, .ref spA, .ref bfA, .ref lnA, .ref prA, iv ep, va_rf lt]))] : va_W) ++ (SW E o sc ar) ++ ([(q_7, .inr (7, [.ref (o 0), iv th, iv (bsI u_10.1), iv u_10.2]))] : va_W)) (vx_runS (As := [iv ((m_dues g (t - 97) th).1)]) (rest := []) ⟨hx, hb, hml, hown, hts⟩ (mt_X1_found l E ((m_dues g (t - 97) th).1) (by exact hst) (by omega) _) (va_cwS 1 hts (lw_S q1204 q1038 q94 q1039) rfl rfl rfl (by decide +kernel) ⟨Nat.le_of_ble_eq_true rfl, Nat.le_of_ble_eq_true rfl⟩) (UX_S (hP.sub (ws' := []) [] rfl) hK (hD.sub (ws' := []) [] rfl rfl) hE hS (va_sub_free hD hS hA [] rfl)) rfl rfl hl.1 rfl (lv_room (Nat.le_of_ble_eq_true rfl)) dX1_wouldMakeByCounting_29 ⟨Nat.le_of_ble_eq_true rfl, Nat.le_of_ble_eq_true rfl⟩) hP hD hS hA [] [0, 1, 2, 3, 4, 5, 6, 7, 8, 9, 10, 11, 12, 13, 14, 15, 16, 17, 18] [0, 1, 2, 3, 4, 5, 6, 7, 8, 9, 10, 11, 12, 13, 14, 15, 16, 17, 18] [0, 1, 2, 3, 4, 5, 6, 7, 8, 9, 10, 11, 12, 13, 14, 15, 16, 17, 18] rfl rfl rfl rfl rfl (fun _ => rfl) rfl (fun _ => rfl) ?_ ?_
        · intro En ce q9 u_13 H locs hCx hP hD hS hxf hq9 hce hcv hcl
          have hCx : En = "java/util/NoSuchElementException" ∧ ((m_dues g (t - 97) th).1) = -1 := hCx
          have hP : va_P E.1 CL (([(cw, .inr (1, [.ref (o 0), .ref oaA, .ref osA, iv hsn, .ref hdA, .ref spA, .ref bfA, .ref lnA, .ref prA, iv ep, va_rf lt]))] : va_W) ++ (SW E o sc ar) ++ ([(q_7, .inr (7, [.ref (o 0), iv th, iv (bsI u_10.1), iv u_10.2]))] : va_W)) H := hP
          have hD : va_D A (([(cw, .inr (1, [.ref (o 0), .ref oaA, .ref osA, iv hsn, .ref hdA, .ref spA, .ref bfA, .ref lnA, .ref prA, iv ep, va_rf lt]))] : va_W) ++ (SW E o sc ar) ++ ([(q_7, .inr (7, [.ref (o 0), iv th, iv (bsI u_10.1), iv u_10.2]))] : va_W)) := hD
          have hP := hP.sub (ws' := ([(cw, .inr (1, [.ref (o 0), .ref oaA, .ref osA, iv hsn, .ref hdA, .ref spA, .ref bfA, .ref lnA, .ref prA, iv ep, va_rf lt]))] : va_W) ++ (SW E o sc ar)) [0, 1, 2, 3, 4, 5, 6, 7, 8, 9, 10, 11, 12, 13, 14, 15, 16, 17] rfl
          have hD := hD.sub (ws' := ([(cw, .inr (1, [.ref (o 0), .ref oaA, .ref osA, iv hsn, .ref hdA, .ref spA, .ref bfA, .ref lnA, .ref prA, iv ep, va_rf lt]))] : va_W) ++ (SW E o sc ar)) [0, 1, 2, 3, 4, 5, 6, 7, 8, 9, 10, 11, 12, 13, 14, 15, 16, 17] (by decide) rfl
          exact n_out () (by exact absurd hCx.2 (by omega)) hP hD hS hxf (Nat.le_trans hz_11 hq9) hce hcv hcl (fun x hx9 => (htb x hx9).elim) hlocks (Nat.le_of_ble_eq_true rfl) (Nat.le_of_ble_eq_true rfl)
        · intro u_12 H locs hC hP hD hS
          have hu_12 : ¬ ((m_dues g (t - 97) th).1) = -1 := hC
          have hP : va_P E.1 CL (([(cw, .inr (1, [.ref (o 0), .ref oaA, .ref osA, iv hsn, .ref hdA, .ref spA, .ref bfA, .ref lnA, .ref prA, iv ep, va_rf lt]))] : va_W) ++ (SW E o sc ar) ++ ([(q_7, .inr (7, [.ref (o 0), iv th, iv (bsI u_10.1), iv u_10.2]))] : va_W)) H := hP
          have hD : va_D A (([(cw, .inr (1, [.ref (o 0), .ref oaA, .ref osA, iv hsn, .ref hdA, .ref spA, .ref bfA, .ref lnA, .ref prA, iv ep, va_rf lt]))] : va_W) ++ (SW E o sc ar) ++ ([(q_7, .inr (7, [.ref (o 0), iv th, iv (bsI u_10.1), iv u_10.2]))] : va_W)) := hD
          have hP := hP.sub (ws' := ([(cw, .inr (1, [.ref (o 0), .ref oaA, .ref osA, iv hsn, .ref hdA, .ref spA, .ref bfA, .ref lnA, .ref prA, iv ep, va_rf lt]))] : va_W) ++ (SW E o sc ar)) [0, 1, 2, 3, 4, 5, 6, 7, 8, 9, 10, 11, 12, 13, 14, 15, 16, 17] rfl
          have hD := hD.sub (ws' := ([(cw, .inr (1, [.ref (o 0), .ref oaA, .ref osA, iv hsn, .ref hdA, .ref spA, .ref bfA, .ref lnA, .ref prA, iv ep, va_rf lt]))] : va_W) ++ (SW E o sc ar)) [0, 1, 2, 3, 4, 5, 6, 7, 8, 9, 10, 11, 12, 13, 14, 15, 16, 17] (by decide) rfl
          refine vx_ret ?_
          refine W.widen (k := 4) (n := 22) (Nat.le_of_ble_eq_true rfl) (Nat.le_of_ble_eq_true rfl) ?_
          exact W.iret (v := iI ((m_dues g (t - 97) th).1)) hx hb hr (fun tt_ ht_ hW_ => ⟨⟨iI ((m_dues g (t - 97) th).1), (), rfl, ⟨by exact c_wd_0 hop hnd, rfl⟩, by rw [ht_]; exact hP, hD⟩, hS.F ht_⟩) hS.2.2 dX1_wouldMakeByCounting_32
      · refine n_top (y := -1) (by exact if_neg hnd) ?_
        have hz_14 : s.heap.size ≤ H.size := hS.1
        refine n_txS (x := fun u_15 => -1) (w2 := fun u_15 => ([(cw, .inr (1, [.ref (o 0), .ref oaA, .ref osA, iv hsn, .ref hdA, .ref spA, .ref bfA, .ref lnA, .ref prA, iv ep, va_rf lt]))] : va_W) ++ (SW E o sc ar) ++ ([(q_7, .inr (7, [.ref (o 0), iv th, iv (bsI u_10.1), iv u_10.2]))] : va_W)) (w3 := fun u_16 => ([(cw, .inr (1, [.ref (o 0), .ref oaA, .ref osA, iv hsn, .ref hdA, .ref spA, .ref bfA, .ref lnA, .ref prA, iv ep, va_rf lt]))] : va_W) ++ (SW E o sc ar) ++ ([(q_7, .inr (7, [.ref (o 0), iv th, iv (bsI u_10.1), iv u_10.2]))] : va_W)) (vx_runS (As := [iv (-1)]) (rest := []) ⟨hx, hb, hml, hown, hts⟩ (mt_X1_found l E (-1) (by exact hst) (by omega) _) (va_cwS 1 hts (lw_S q1204 q1038 q94 q1039) rfl rfl rfl (by decide +kernel) ⟨Nat.le_of_ble_eq_true rfl, Nat.le_of_ble_eq_true rfl⟩) (UX_S (hP.sub (ws' := []) [] rfl) hK (hD.sub (ws' := []) [] rfl rfl) hE hS (va_sub_free hD hS hA [] rfl)) rfl rfl hl.1 rfl (lv_room (Nat.le_of_ble_eq_true rfl)) dX1_wouldMakeByCounting_29 ⟨Nat.le_of_ble_eq_true rfl, Nat.le_of_ble_eq_true rfl⟩) hP hD hS hA [] [0, 1, 2, 3, 4, 5, 6, 7, 8, 9, 10, 11, 12, 13, 14, 15, 16, 17, 18] [0, 1, 2, 3, 4, 5, 6, 7, 8, 9, 10, 11, 12, 13, 14, 15, 16, 17, 18] [0, 1, 2, 3, 4, 5, 6, 7, 8, 9, 10, 11, 12, 13, 14, 15, 16, 17, 18] rfl rfl rfl rfl rfl (fun _ => rfl) rfl (fun _ => rfl) ?_ ?_
        · intro En ce q9 u_16 H locs hCx hP hD hS hxf hq9 hce hcv hcl
          have hCx : En = "java/util/NoSuchElementException" ∧ (-1) = -1 := hCx
          have hP : va_P E.1 CL (([(cw, .inr (1, [.ref (o 0), .ref oaA, .ref osA, iv hsn, .ref hdA, .ref spA, .ref bfA, .ref lnA, .ref prA, iv ep, va_rf lt]))] : va_W) ++ (SW E o sc ar) ++ ([(q_7, .inr (7, [.ref (o 0), iv th, iv (bsI u_10.1), iv u_10.2]))] : va_W)) H := hP
          have hD : va_D A (([(cw, .inr (1, [.ref (o 0), .ref oaA, .ref osA, iv hsn, .ref hdA, .ref spA, .ref bfA, .ref lnA, .ref prA, iv ep, va_rf lt]))] : va_W) ++ (SW E o sc ar) ++ ([(q_7, .inr (7, [.ref (o 0), iv th, iv (bsI u_10.1), iv u_10.2]))] : va_W)) := hD
          have hP := hP.sub (ws' := ([(cw, .inr (1, [.ref (o 0), .ref oaA, .ref osA, iv hsn, .ref hdA, .ref spA, .ref bfA, .ref lnA, .ref prA, iv ep, va_rf lt]))] : va_W) ++ (SW E o sc ar)) [0, 1, 2, 3, 4, 5, 6, 7, 8, 9, 10, 11, 12, 13, 14, 15, 16, 17] rfl
          have hD := hD.sub (ws' := ([(cw, .inr (1, [.ref (o 0), .ref oaA, .ref osA, iv hsn, .ref hdA, .ref spA, .ref bfA, .ref lnA, .ref prA, iv ep, va_rf lt]))] : va_W) ++ (SW E o sc ar)) [0, 1, 2, 3, 4, 5, 6, 7, 8, 9, 10, 11, 12, 13, 14, 15, 16, 17] (by decide) rfl
          exact n_out () (by exact cx_k (k := 3) (by exact c_wd_3 hop hnd) (by decide) hCx.1) hP hD hS hxf (Nat.le_trans hz_14 hq9) hce hcv hcl (fun x hx9 => (htb x hx9).elim) hlocks (Nat.le_of_ble_eq_true rfl) (Nat.le_of_ble_eq_true rfl)
        · intro u_15 H locs hC hP hD hS
          have hu_15 : ¬ (-1) = -1 := hC
          have hP : va_P E.1 CL (([(cw, .inr (1, [.ref (o 0), .ref oaA, .ref osA, iv hsn, .ref hdA, .ref spA, .ref bfA, .ref lnA, .ref prA, iv ep, va_rf lt]))] : va_W) ++ (SW E o sc ar) ++ ([(q_7, .inr (7, [.ref (o 0), iv th, iv (bsI u_10.1), iv u_10.2]))] : va_W)) H := hP
          have hD : va_D A (([(cw, .inr (1, [.ref (o 0), .ref oaA, .ref osA, iv hsn, .ref hdA, .ref spA, .ref bfA, .ref lnA, .ref prA, iv ep, va_rf lt]))] : va_W) ++ (SW E o sc ar) ++ ([(q_7, .inr (7, [.ref (o 0), iv th, iv (bsI u_10.1), iv u_10.2]))] : va_W)) := hD
          exact absurd rfl hu_15
set_option maxHeartbeats 1000000 in
set_option maxRecDepth 100000 in
theorem mt_X1_minutesSpent (l : Launch) (E : EE) (cw : Nat) (oaA : Nat) (osA : Nat) (hsn : Int) (hdA : Nat) (spA : Nat) (bfA : Nat) (lnA : Nat) (prA : Nat) (ep : Int) (lt : Option Nat) (o : Nat → Nat) (sc : Nat → Int) (ar : Nat → Int → Int)  (g : Int → Int) (hsr : SR g sc ar) (sz : Nat) : Met l yX1_minutesSpent (ws_ yX1_minutesSpent cX1_minutesSpent 1 (some .long)) { frames := 0, cells := 0, slots := 0, locals := 0 } (va_Pc [.ref cw] (UW E (([(cw, .inr (1, [.ref (o 0), .ref oaA, .ref osA, iv hsn, .ref hdA, .ref spA, .ref bfA, .ref lnA, .ref prA, iv ep, va_rf lt]))] : va_W) ++ (SW E o sc ar)) sz)) (UQl E (g 4) (([(cw, .inr (1, [.ref (o 0), .ref oaA, .ref osA, iv hsn, .ref hdA, .ref spA, .ref bfA, .ref lnA, .ref prA, iv ep, va_rf lt]))] : va_W) ++ (SW E o sc ar)) (va_A (([(cw, .inr (1, [.ref (o 0), .ref oaA, .ref osA, iv hsn, .ref hdA, .ref spA, .ref bfA, .ref lnA, .ref prA, iv ep, va_rf lt]))] : va_W) ++ (SW E o sc ar)) sz)) 0 0 (va_A (([(cw, .inr (1, [.ref (o 0), .ref oaA, .ref osA, iv hsn, .ref hdA, .ref spA, .ref bfA, .ref lnA, .ref prA, iv ep, va_rf lt]))] : va_W) ++ (SW E o sc ar)) sz) := by
  refine Met.ofW (cc := cX1_minutesSpent) (maxL := 1) (ret := (some .long)) (by decide) rfl ?_
  intro p e s m args below meth c s₁ B hml hv
  obtain ⟨rfl, hsz, hP, hK, hD0⟩ := hv
  have hx := B.exec
  have hb := B.bytes
  have hr := B.returns
  have hts := atoms_spec (ws := (ws_ yX1_minutesSpent cX1_minutesSpent 1 (some .long))) B.pre
  have hts : ∀ w ∈ lw_all, w.before _ s = true := fun w h => hts w (List.mem_cons_of_mem _ h)
  have hown : s.vm.findClass RX1 = some m.cls := findClass_of_methodNamed B.named
  have hlocks := B.notSynchronized
  subst hsz
  have hD := hD0.self (sz := s.heap.size)
  generalize hAe : va_A (([(cw, .inr (1, [.ref (o 0), .ref oaA, .ref osA, iv hsn, .ref hdA, .ref spA, .ref bfA, .ref lnA, .ref prA, iv ep, va_rf lt]))] : va_W) ++ (SW E o sc ar)) s.heap.size = A at hD ⊢
  have hA : ∀ q : Nat, s.heap.size ≤ q → A q := fun q h => by rw [← hAe]; exact Or.inr h
  have hS : va_S A s.heap s.heap [] := va_S.rf
  have hl := lv_entry ([.ref cw]) (n := 1) (Nat.le_of_ble_eq_true rfl)
  rw [lg_entry_eq]
  generalize (lg_sl ([.ref cw]) ++ List.replicate (1 - (lg_sl ([.ref cw])).length) Slot.unset).toArray = ls at hl ⊢
  have hl : lv_has ls 1 [(0, .ref cw)] := hl
  have hn1 := hsr.n1
  refine lv_aload_n hx hb dX1_minutesSpent_0 rfl (lv_at hl 0 rfl) ?_
  refine va_get (D := E.1) (ci := 1) (v := .ref (o 0)) (C := RX1) (T := TX1) (N := 11) hx hb hts in_X1 hown hK.1 hP 0 rfl rfl 0 (by decide) (hts _ q472) (fun _ h9 => h9) rfl dX1_minutesSpent_1 ?_
  refine va_getN (D := E.1) (ci := 2) (v := jv (sc 11)) (C := RX2) (T := TX2) (N := 14) hx hb hts in_X2 hown hK.1 hP 1 rfl rfl 11 (by decide) (hK.nw q210) (fun _ h9 => h9) rfl dX1_minutesSpent_4 ?_
  have hfin : sc 11 = g 4 := by
    exact hn1.2.2.2
  exact W.lret (v := lI (sc 11)) hx hb hr (fun tt_ ht_ hW_ => ⟨⟨lI (sc 11), (), rfl, (congrArg lI hfin), by rw [ht_]; exact hP, hD⟩, hS.F ht_⟩) hS.2.2 dX1_minutesSpent_7
set_option maxHeartbeats 1000000 in
set_option maxRecDepth 100000 in
theorem mt_X1_errorPosition (l : Launch) (E : EE) (cw : Nat) (oaA : Nat) (osA : Nat) (hsn : Int) (hdA : Nat) (spA : Nat) (bfA : Nat) (lnA : Nat) (prA : Nat) (ep : Int) (lt : Option Nat) (o : Nat → Nat) (sc : Nat → Int) (ar : Nat → Int → Int) (hst : l.stackTraces = false) (hep : -1 ≤ ep ∧ ep < 2147483648) (sz : Nat) : vx_Met l yX1_errorPosition (ws_ yX1_errorPosition cX1_errorPosition 1 (some .int)) { frames := 8, cells := 1, slots := 6, locals := 132 } (va_Pc [.ref cw] (UX E (([(cw, .inr (1, [.ref (o 0), .ref oaA, .ref osA, iv hsn, .ref hdA, .ref spA, .ref bfA, .ref lnA, .ref prA, iv ep, va_rf lt]))] : va_W) ++ (SW E o sc ar)) sz)) (UQx E (fun u : Unit => c_mns ep = 0) (fun u : Unit => ep) (fun u : Unit => ([(cw, .inr (1, [.ref (o 0), .ref oaA, .ref osA, iv hsn, .ref hdA, .ref spA, .ref bfA, .ref lnA, .ref prA, iv ep, va_rf lt]))] : va_W) ++ (SW E o sc ar)) (va_A (([(cw, .inr (1, [.ref (o 0), .ref oaA, .ref osA, iv hsn, .ref hdA, .ref spA, .ref bfA, .ref lnA, .ref prA, iv ep, va_rf lt]))] : va_W) ++ (SW E o sc ar)) sz)) (UXx E (fun (En : String) (u : Unit) => En = "java/util/NoSuchElementException" ∧ c_mns ep = 1) (fun u : Unit => ([(cw, .inr (1, [.ref (o 0), .ref oaA, .ref osA, iv hsn, .ref hdA, .ref spA, .ref bfA, .ref lnA, .ref prA, iv ep, va_rf lt]))] : va_W) ++ (SW E o sc ar)) (fun u : Unit => none) (va_A (([(cw, .inr (1, [.ref (o 0), .ref oaA, .ref osA, iv hsn, .ref hdA, .ref spA, .ref bfA, .ref lnA, .ref prA, iv ep, va_rf lt]))] : va_W) ++ (SW E o sc ar)) sz)) 1 6 (va_A (([(cw, .inr (1, [.ref (o 0), .ref oaA, .ref osA, iv hsn, .ref hdA, .ref spA, .ref bfA, .ref lnA, .ref prA, iv ep, va_rf lt]))] : va_W) ++ (SW E o sc ar)) sz) := by
  refine vx_ofW (cc := cX1_errorPosition) (maxL := 1) (ret := (some .int)) (by decide) rfl ?_
  intro p e s m args below meth c s₁ B hml htb hv
  obtain ⟨rfl, hsz, hP, hK, hD0, hE⟩ := hv
  have hx := B.exec
  have hb := B.bytes
  have hr := B.returns
  have hts := atoms_spec (ws := (ws_ yX1_errorPosition cX1_errorPosition 1 (some .int))) B.pre
  have hts : ∀ w ∈ lw_all, w.before _ s = true := fun w h => hts w (List.mem_cons_of_mem _ h)
  have hown : s.vm.findClass RX1 = some m.cls := findClass_of_methodNamed B.named
  have hlocks := B.notSynchronized
  subst hsz
  have hD := hD0.self (sz := s.heap.size)
  generalize hAe : va_A (([(cw, .inr (1, [.ref (o 0), .ref oaA, .ref osA, iv hsn, .ref hdA, .ref spA, .ref bfA, .ref lnA, .ref prA, iv ep, va_rf lt]))] : va_W) ++ (SW E o sc ar)) s.heap.size = A at hD hE ⊢
  have hA : ∀ q : Nat, s.heap.size ≤ q → A q := fun q h => by rw [← hAe]; exact Or.inr h
  have hS : va_S A s.heap s.heap [] := va_S.rf
  have hl := lv_entry ([.ref cw]) (n := 1) (Nat.le_of_ble_eq_true rfl)
  rw [lg_entry_eq]
  generalize (lg_sl ([.ref cw]) ++ List.replicate (1 - (lg_sl ([.ref cw])).length) Slot.unset).toArray = ls at hl ⊢
  have hl : lv_has ls 1 [(0, .ref cw)] := hl
  refine lv_aload_n hx hb dX1_errorPosition_0 rfl (lv_at hl 0 rfl) ?_
  refine va_get (D := E.1) (ci := 1) (v := iv ep) (C := RX1) (T := TX1) (N := 11) hx hb hts in_X1 hown hK.1 hP 0 rfl rfl 9 (by decide) (hts _ q481) (fun _ h9 => h9) rfl dX1_errorPosition_1 ?_
  have hz_1 : s.heap.size ≤ s.heap.size := hS.1
  refine n_txS (x := fun u_2 => ep) (w2 := fun u_2 => ([(cw, .inr (1, [.ref (o 0), .ref oaA, .ref osA, iv hsn, .ref hdA, .ref spA, .ref bfA, .ref lnA, .ref prA, iv ep, va_rf lt]))] : va_W) ++ (SW E o sc ar)) (w3 := fun u_3 => ([(cw, .inr (1, [.ref (o 0), .ref oaA, .ref osA, iv hsn, .ref hdA, .ref spA, .ref bfA, .ref lnA, .ref prA, iv ep, va_rf lt]))] : va_W) ++ (SW E o sc ar)) (vx_runS (As := [iv ep]) (rest := []) ⟨hx, hb, hml, hown, hts⟩ (mt_X1_found l E ep (by exact hst) (by omega) _) (va_cwS 1 hts (lw_S q1204 q1038 q94 q1039) rfl rfl rfl (by decide +kernel) ⟨Nat.le_of_ble_eq_true rfl, Nat.le_of_ble_eq_true rfl⟩) (UX_S (hP.sub (ws' := []) [] rfl) hK (hD.sub (ws' := []) [] rfl rfl) hE hS (va_sub_free hD hS hA [] rfl)) rfl rfl hl.1 rfl (lv_room (Nat.le_of_ble_eq_true rfl)) dX1_errorPosition_4 ⟨Nat.le_of_ble_eq_true rfl, Nat.le_of_ble_eq_true rfl⟩) hP hD hS hA [] [0, 1, 2, 3, 4, 5, 6, 7, 8, 9, 10, 11, 12, 13, 14, 15, 16, 17] [0, 1, 2, 3, 4, 5, 6, 7, 8, 9, 10, 11, 12, 13, 14, 15, 16, 17] [0, 1, 2, 3, 4, 5, 6, 7, 8, 9, 10, 11, 12, 13, 14, 15, 16, 17] rfl rfl rfl rfl rfl (fun _ => rfl) rfl (fun _ => rfl) ?_ ?_
  · intro En ce q9 u_3 H locs hCx hP hD hS hxf hq9 hce hcv hcl
    have hCx : En = "java/util/NoSuchElementException" ∧ ep = -1 := hCx
    have hP : va_P E.1 CL (([(cw, .inr (1, [.ref (o 0), .ref oaA, .ref osA, iv hsn, .ref hdA, .ref spA, .ref bfA, .ref lnA, .ref prA, iv ep, va_rf lt]))] : va_W) ++ (SW E o sc ar)) H := hP
    have hD : va_D A (([(cw, .inr (1, [.ref (o 0), .ref oaA, .ref osA, iv hsn, .ref hdA, .ref spA, .ref bfA, .ref lnA, .ref prA, iv ep, va_rf lt]))] : va_W) ++ (SW E o sc ar)) := hD
    exact n_out () (by exact ⟨hCx.1, by rw [hCx.2]; rfl⟩) hP hD hS hxf (Nat.le_trans hz_1 hq9) hce hcv hcl (fun x hx9 => (htb x hx9).elim) hlocks (Nat.le_of_ble_eq_true rfl) (Nat.le_of_ble_eq_true rfl)
  · intro u_2 H locs hC hP hD hS
    have hu_2 : ¬ ep = -1 := hC
    have hP : va_P E.1 CL (([(cw, .inr (1, [.ref (o 0), .ref oaA, .ref osA, iv hsn, .ref hdA, .ref spA, .ref bfA, .ref lnA, .ref prA, iv ep, va_rf lt]))] : va_W) ++ (SW E o sc ar)) H := hP
    have hD : va_D A (([(cw, .inr (1, [.ref (o 0), .ref oaA, .ref osA, iv hsn, .ref hdA, .ref spA, .ref bfA, .ref lnA, .ref prA, iv ep, va_rf lt]))] : va_W) ++ (SW E o sc ar)) := hD
    refine vx_ret ?_
    refine W.widen (k := 1) (n := 6) (Nat.le_of_ble_eq_true rfl) (Nat.le_of_ble_eq_true rfl) ?_
    exact W.iret (v := iI ep) hx hb hr (fun tt_ ht_ hW_ => ⟨⟨iI ep, (), rfl, ⟨by unfold c_mns; rw [if_neg]; have q9 := hu_2; omega, rfl⟩, by rw [ht_]; exact hP, hD⟩, hS.F ht_⟩) hS.2.2 dX1_errorPosition_7
set_option maxHeartbeats 2000000 in
set_option maxRecDepth 100000 in
theorem mt_X1_save (l : Launch) (E : EE) (cw : Nat) (oaA : Nat) (hsn : Int) (hdA : Nat) (spA : Nat) (bfA : Nat) (lnA : Nat) (prA : Nat) (ep : Int) (lt : Option Nat) (o : Nat → Nat) (sc : Nat → Int) (ar : Nat → Int → Int) (os : Nat → Nat) (sb : Nat → Int) (ab : Nat → Int → Int)  (g : Int → Int) (hsr : SR g sc ar) (how : OY g) (sz : Nat) : Met l yX1_save (ws_ yX1_save cX1_save 1 (some .int)) { frames := 3, cells := 0, slots := 0, locals := 62 } (va_Pc [.ref cw] (UW E (([(cw, .inr (1, [.ref (o 0), .ref oaA, .ref (os 0), iv hsn, .ref hdA, .ref spA, .ref bfA, .ref lnA, .ref prA, iv ep, va_rf lt]))] : va_W) ++ (SW E o sc ar) ++ (SW E os sb ab)) sz)) (UQx E (fun u : SU => SR g u.1 u.2) (fun u : SU => g 1) (fun u : SU => ([(cw, .inr (1, [.ref (o 0), .ref oaA, .ref (os 0), iv 1, .ref hdA, .ref spA, .ref bfA, .ref lnA, .ref prA, iv ep, va_rf lt]))] : va_W) ++ (SW E o sc ar) ++ (SW E os u.1 u.2)) (va_A (([(cw, .inr (1, [.ref (o 0), .ref oaA, .ref (os 0), iv hsn, .ref hdA, .ref spA, .ref bfA, .ref lnA, .ref prA, iv ep, va_rf lt]))] : va_W) ++ (SW E o sc ar) ++ (SW E os sb ab)) sz)) 0 0 (va_A (([(cw, .inr (1, [.ref (o 0), .ref oaA, .ref (os 0), iv hsn, .ref hdA, .ref spA, .ref bfA, .ref lnA, .ref prA, iv ep, va_rf lt]))] : va_W) ++ (SW E o sc ar) ++ (SW E os sb ab)) sz) := by
  refine Met.ofW (cc := cX1_save) (maxL := 1) (ret := (some .int)) (by decide) rfl ?_
  intro p e s m args below meth c s₁ B hml hv
  obtain ⟨rfl, hsz, hP, hK, hD0⟩ := hv
  have hx := B.exec
  have hb := B.bytes
  have hr := B.returns
  have hts := atoms_spec (ws := (ws_ yX1_save cX1_save 1 (some .int))) B.pre
  have hts : ∀ w ∈ lw_all, w.before _ s = true := fun w h => hts w (List.mem_cons_of_mem _ h)
  have hown : s.vm.findClass RX1 = some m.cls := findClass_of_methodNamed B.named
  have hlocks := B.notSynchronized
  subst hsz
  have hD := hD0.self (sz := s.heap.size)
  generalize hAe : va_A (([(cw, .inr (1, [.ref (o 0), .ref oaA, .ref (os 0), iv hsn, .ref hdA, .ref spA, .ref bfA, .ref lnA, .ref prA, iv ep, va_rf lt]))] : va_W) ++ (SW E o sc ar) ++ (SW E os sb ab)) s.heap.size = A at hD ⊢
  have hA : ∀ q : Nat, s.heap.size ≤ q → A q := fun q h => by rw [← hAe]; exact Or.inr h
  have hS : va_S A s.heap s.heap [] := va_S.rf
  have hl := lv_entry ([.ref cw]) (n := 1) (Nat.le_of_ble_eq_true rfl)
  rw [lg_entry_eq]
  generalize (lg_sl ([.ref cw]) ++ List.replicate (1 - (lg_sl ([.ref cw])).length) Slot.unset).toArray = ls at hl ⊢
  have hl : lv_has ls 1 [(0, .ref cw)] := hl
  have hn1 := hsr.n1
  refine lv_aload_n hx hb dX1_save_0 rfl (lv_at hl 0 rfl) ?_
  refine va_get (D := E.1) (ci := 1) (v := .ref (os 0)) (C := RX1) (T := TX1) (N := 11) hx hb hts in_X1 hown hK.1 hP 0 rfl rfl 2 (by decide) (hts _ q474) (fun _ h9 => h9) rfl dX1_save_1 ?_
  refine lv_aload_n hx hb dX1_save_4 rfl (lv_at hl 0 rfl) ?_
  refine va_get (D := E.1) (ci := 1) (v := .ref (o 0)) (C := RX1) (T := TX1) (N := 11) hx hb hts in_X1 hown hK.1 hP 0 rfl rfl 0 (by decide) (hts _ q472) (fun _ h9 => h9) rfl dX1_save_5 ?_
  have hg_1 : gpick [[(cw, .inr (1, [.ref (o 0), .ref oaA, .ref (os 0), iv hsn, .ref hdA, .ref spA, .ref bfA, .ref lnA, .ref prA, iv ep, va_rf lt]))], SW E o sc ar, SW E os sb ab] ([SW E os sb ab, SW E o sc ar] ++ [[(cw, .inr (1, [.ref (o 0), .ref oaA, .ref (os 0), iv hsn, .ref hdA, .ref spA, .ref bfA, .ref lnA, .ref prA, iv ep, va_rf lt]))]]) [2, 1, 0] := ⟨rfl, (show List.Perm [2, 1, 0] (List.range 3) from by decide)⟩
  have hg_1P : va_P E.1 CL ((SW E os sb ab) ++ (SW E o sc ar)) s.heap := (g_out hg_1 hP hD).1
  have hg_1D : va_D A ((SW E os sb ab) ++ (SW E o sc ar)) := (g_out hg_1 hP hD).2
  have hg_1F : ∀ q, va_A ((SW E os sb ab) ++ (SW E o sc ar)) s.heap.size q → A q := g_free hg_1 hP hD hS hA
  have hj_3 : ∀ u_2 : SU, gpick ([SW E os u_2.1 u_2.2, SW E o sc ar] ++ [[(cw, .inr (1, [.ref (o 0), .ref oaA, .ref (os 0), iv hsn, .ref hdA, .ref spA, .ref bfA, .ref lnA, .ref prA, iv ep, va_rf lt]))]]) [[(cw, .inr (1, [.ref (o 0), .ref oaA, .ref (os 0), iv hsn, .ref hdA, .ref spA, .ref bfA, .ref lnA, .ref prA, iv ep, va_rf lt]))], SW E o sc ar, SW E os u_2.1 u_2.2] [2, 1, 0] := fun u_2 => ⟨rfl, (show List.Perm [2, 1, 0] (List.range 3) from by decide)⟩
  refine n_cuxvB (w2 := fun u_2 => ([(cw, .inr (1, [.ref (o 0), .ref oaA, .ref (os 0), iv hsn, .ref hdA, .ref spA, .ref bfA, .ref lnA, .ref prA, iv ep, va_rf lt]))] : va_W) ++ (SW E o sc ar) ++ (SW E os u_2.1 u_2.2)) (va_runV (As := [.ref (o 0)]) (rest := []) ⟨hx, hb, hml, hown, hts⟩ (mt_X2_copyFrom l E os sb ab o sc ar  g (by exact hsr) (by exact how) _) (cwV 1 hts (lw_V q760 q761 q762 q95 q763) rfl rfl rfl (by decide +kernel) ⟨Nat.le_of_ble_eq_true rfl, Nat.le_of_ble_eq_true rfl⟩) (UW_V hg_1P hK hg_1D (va_recv hK.1 hP (ci := 2) (q0 := 18) rfl rfl)) rfl rfl hl.1 rfl (lv_room (Nat.le_of_ble_eq_true rfl)) dX1_save_8 ⟨Nat.le_of_ble_eq_true rfl, Nat.le_of_ble_eq_true rfl⟩) hS hg_1F ?_ ?_
  · exact (fun u_2 _ hk9 hp9 hd9 => g_back hg_1 (hj_3 u_2) hP hD hg_1F hk9 hp9 hd9)
  intro u_2 H locs hu_2 hP hD hS
  have hu_2 : SR g u_2.1 u_2.2 := hu_2
  have hP : va_P E.1 CL (([(cw, .inr (1, [.ref (o 0), .ref oaA, .ref (os 0), iv hsn, .ref hdA, .ref spA, .ref bfA, .ref lnA, .ref prA, iv ep, va_rf lt]))] : va_W) ++ (SW E o sc ar) ++ (SW E os u_2.1 u_2.2)) H := hP
  have hD : va_D A (([(cw, .inr (1, [.ref (o 0), .ref oaA, .ref (os 0), iv hsn, .ref hdA, .ref spA, .ref bfA, .ref lnA, .ref prA, iv ep, va_rf lt]))] : va_W) ++ (SW E o sc ar) ++ (SW E os u_2.1 u_2.2)) := hD
  refine lv_aload_n hx hb dX1_save_11 rfl (lv_at hl 0 rfl) ?_
  refine lv_iconst (v := iI 1) hx hb dX1_save_12 rfl ?_
  refine va_put (D := E.1) (ci := 1) (v := iv 1) (ty := .boolean) (C := RX1) (T := TX1) (N := 11) hx hb hts in_X1 tyX1 tyX1_ok nmX1 hown hK.1 hP hD hS 0 rfl rfl 3 (by decide) (hts _ q475) (fun _ h9 => h9) rfl (by decide +kernel) (nr_b (by decide)) (ft_b (by decide)) (Nat.le_of_ble_eq_true rfl) dX1_save_13 (fun H locs hP hD hS => ?_)
  have hP : va_P E.1 CL (([(cw, .inr (1, [.ref (o 0), .ref oaA, .ref (os 0), iv 1, .ref hdA, .ref spA, .ref bfA, .ref lnA, .ref prA, iv ep, va_rf lt]))] : va_W) ++ (SW E o sc ar) ++ (SW E os u_2.1 u_2.2)) H := hP
  have hD : va_D A (([(cw, .inr (1, [.ref (o 0), .ref oaA, .ref (os 0), iv 1, .ref hdA, .ref spA, .ref bfA, .ref lnA, .ref prA, iv ep, va_rf lt]))] : va_W) ++ (SW E o sc ar) ++ (SW E os u_2.1 u_2.2)) := hD
  refine lv_aload_n hx hb dX1_save_16 rfl (lv_at hl 0 rfl) ?_
  refine va_get (D := E.1) (ci := 1) (v := .ref (o 0)) (C := RX1) (T := TX1) (N := 11) hx hb hts in_X1 hown hK.1 hP 0 rfl rfl 0 (by decide) (hts _ q472) (fun _ h9 => h9) rfl dX1_save_17 ?_
  refine va_getN (D := E.1) (ci := 2) (v := iv (sc 2)) (C := RX2) (T := TX2) (N := 14) hx hb hts in_X2 hown hK.1 hP 1 rfl rfl 2 (by decide) (hK.nw q194) (fun _ h9 => h9) rfl dX1_save_20 ?_
  have hfin : sc 2 = g 1 := by
    exact hn1.1
  exact W.iret (v := iI (sc 2)) hx hb hr (fun tt_ ht_ hW_ => ⟨⟨iI (sc 2), (u_2.1, u_2.2), rfl, ⟨hu_2, (congrArg iI hfin)⟩, by rw [ht_]; exact hP, hD⟩, hS.F ht_⟩) hS.2.2 dX1_save_23
set_option maxHeartbeats 2000000 in
set_option maxRecDepth 100000 in
theorem mt_X1_undo (l : Launch) (E : EE) (cw : Nat) (oaA : Nat) (osA : Nat) (hsn : Int) (bfA : Nat) (lnA : Nat) (prA : Nat) (ep : Int) (lt : Option Nat) (o : Nat → Nat) (sc : Nat → Int) (ar : Nat → Int → Int) (oe : Nat → Nat) (se : Nat → Int) (ae : Nat → Int → Int) (hda : Nat) (xh1 : Int) (xt1 : Int) (hdb : Nat) (xf1 : Int → Option Nat) (spa : Nat) (xh2 : Int) (xt2 : Int) (sdb : Nat) (xf2 : Int → Option Nat)  (ge : Int → Int) (nh : Int) (ns : Int) (LH : Int → Nat) (LS : Int → Nat) (hst : l.stackTraces = false) (hsr2 : SR ge se ae) (how2 : OY ge) (hdh : DQ xf1 xh1 xt1 nh LH) (hds : DQ xf2 xh2 xt2 ns LS) (hnn : 0 ≤ nh ∧ 0 ≤ ns ∧ nh + ns = 8) (he1 : 0 < nh → LH (nh - 1) = oe 0) (sz : Nat) : vx_Met l yX1_undo (ws_ yX1_undo cX1_undo 2 (some .int)) { frames := 7, cells := 1, slots := 6, locals := 112 } (va_Pc [.ref cw] (UX E (([(cw, .inr (1, [.ref (o 0), .ref oaA, .ref osA, iv hsn, .ref hda, .ref spa, .ref bfA, .ref lnA, .ref prA, iv ep, va_rf lt]))] : va_W) ++ (SW E o sc ar) ++ (SW E oe se ae) ++ ([(hda, .inr (9, [.ref hdb, iv xh1, iv xt1]))] : va_W) ++ ([(hdb, qa (E.2 4) 17 xf1)] : va_W) ++ ([(spa, .inr (9, [.ref sdb, iv xh2, iv xt2]))] : va_W) ++ ([(sdb, qa (E.2 4) 17 xf2)] : va_W)) sz)) (UQx E (fun u : SU × (Int → Option Nat) × (Int → Option Nat) × Int × Int × Int => c_nul nh = 0 ∧ SR ge u.1.1 u.1.2 ∧ DQ u.2.1 u.2.2.2.1 u.2.2.2.2.1 (nh - 1) LH ∧ DQ u.2.2.1 xh2 u.2.2.2.2.2 (ns + 1) (fun i => if i = ns then oe 0 else LS i)) (fun u : SU × (Int → Option Nat) × (Int → Option Nat) × Int × Int × Int => nh - 1) (fun u : SU × (Int → Option Nat) × (Int → Option Nat) × Int × Int × Int => ([(cw, .inr (1, [.ref (o 0), .ref oaA, .ref osA, iv hsn, .ref hda, .ref spa, .ref bfA, .ref lnA, .ref prA, iv ep, va_rf lt]))] : va_W) ++ (SW E o u.1.1 u.1.2) ++ (SW E oe se ae) ++ ([(hda, .inr (9, [.ref hdb, iv u.2.2.2.1, iv u.2.2.2.2.1]))] : va_W) ++ ([(hdb, qa (E.2 4) 17 u.2.1)] : va_W) ++ ([(spa, .inr (9, [.ref sdb, iv xh2, iv u.2.2.2.2.2]))] : va_W) ++ ([(sdb, qa (E.2 4) 17 u.2.2.1)] : va_W)) (va_A (([(cw, .inr (1, [.ref (o 0), .ref oaA, .ref osA, iv hsn, .ref hda, .ref spa, .ref bfA, .ref lnA, .ref prA, iv ep, va_rf lt]))] : va_W) ++ (SW E o sc ar) ++ (SW E oe se ae) ++ ([(hda, .inr (9, [.ref hdb, iv xh1, iv xt1]))] : va_W) ++ ([(hdb, qa (E.2 4) 17 xf1)] : va_W) ++ ([(spa, .inr (9, [.ref sdb, iv xh2, iv xt2]))] : va_W) ++ ([(sdb, qa (E.2 4) 17 xf2)] : va_W)) sz)) (UXx E (fun (En : String) (u : Unit) => En = "java/lang/IllegalStateException" ∧ c_nul nh = 1) (fun u : Unit => ([(cw, .inr (1, [.ref (o 0), .ref oaA, .ref osA, iv hsn, .ref hda, .ref spa, .ref bfA, .ref lnA, .ref prA, iv ep, va_rf lt]))] : va_W) ++ (SW E o sc ar) ++ (SW E oe se ae) ++ ([(hda, .inr (9, [.ref hdb, iv xh1, iv xt1]))] : va_W) ++ ([(hdb, qa (E.2 4) 17 xf1)] : va_W) ++ ([(spa, .inr (9, [.ref sdb, iv xh2, iv xt2]))] : va_W) ++ ([(sdb, qa (E.2 4) 17 xf2)] : va_W)) (fun u : Unit => none) (va_A (([(cw, .inr (1, [.ref (o 0), .ref oaA, .ref osA, iv hsn, .ref hda, .ref spa, .ref bfA, .ref lnA, .ref prA, iv ep, va_rf lt]))] : va_W) ++ (SW E o sc ar) ++ (SW E oe se ae) ++ ([(hda, .inr (9, [.ref hdb, iv xh1, iv xt1]))] : va_W) ++ ([(hdb, qa (E.2 4) 17 xf1)] : va_W) ++ ([(spa, .inr (9, [.ref sdb, iv xh2, iv xt2]))] : va_W) ++ ([(sdb, qa (E.2 4) 17 xf2)] : va_W)) sz)) 1 6 (va_A (([(cw, .inr (1, [.ref (o 0), .ref oaA, .ref osA, iv hsn, .ref hda, .ref spa, .ref bfA, .ref lnA, .ref prA, iv ep, va_rf lt]))] : va_W) ++ (SW E o sc ar) ++ (SW E oe se ae) ++ ([(hda, .inr (9, [.ref hdb, iv xh1, iv xt1]))] : va_W) ++ ([(hdb, qa (E.2 4) 17 xf1)] : va_W) ++ ([(spa, .inr (9, [.ref sdb, iv xh2, iv xt2]))] : va_W) ++ ([(sdb, qa (E.2 4) 17 xf2)] : va_W)) sz) := by
  refine vx_ofW (cc := cX1_undo) (maxL := 2) (ret := (some .int)) (by decide) rfl ?_
  intro p e s m args below meth c s₁ B hml htb hv
  obtain ⟨rfl, hsz, hP, hK, hD0, hE⟩ := hv
  have hx := B.exec
  have hb := B.bytes
  have hr := B.returns
  have hts := atoms_spec (ws := (ws_ yX1_undo cX1_undo 2 (some .int))) B.pre
  have hts : ∀ w ∈ lw_all, w.before _ s = true := fun w h => hts w (List.mem_cons_of_mem _ h)
  have hown : s.vm.findClass RX1 = some m.cls := findClass_of_methodNamed B.named
  have hlocks := B.notSynchronized
  subst hsz
  have hD := hD0.self (sz := s.heap.size)
  generalize hAe : va_A (([(cw, .inr (1, [.ref (o 0), .ref oaA, .ref osA, iv hsn, .ref hda, .ref spa, .ref bfA, .ref lnA, .ref prA, iv ep, va_rf lt]))] : va_W) ++ (SW E o sc ar) ++ (SW E oe se ae) ++ ([(hda, .inr (9, [.ref hdb, iv xh1, iv xt1]))] : va_W) ++ ([(hdb, qa (E.2 4) 17 xf1)] : va_W) ++ ([(spa, .inr (9, [.ref sdb, iv xh2, iv xt2]))] : va_W) ++ ([(sdb, qa (E.2 4) 17 xf2)] : va_W)) s.heap.size = A at hD hE ⊢
  have hA : ∀ q : Nat, s.heap.size ≤ q → A q := fun q h => by rw [← hAe]; exact Or.inr h
  have hS : va_S A s.heap s.heap [] := va_S.rf
  have hl := lv_entry ([.ref cw]) (n := 2) (Nat.le_of_ble_eq_true rfl)
  rw [lg_entry_eq]
  generalize (lg_sl ([.ref cw]) ++ List.replicate (2 - (lg_sl ([.ref cw])).length) Slot.unset).toArray = ls at hl ⊢
  have hl : lv_has ls 2 [(0, .ref cw)] := hl
  have hdr := hdh.r
  have hsq := hds.r
  have j_1 : W p l e (headSpec (ws_ yX1_undo cX1_undo 2 (some .int)) { frames := 7, cells := 1, slots := 6, locals := 112 }).room s m ([.ref cw] : List Value).toArray below meth c s.heap [] 0 0 (vx_MQ below (UQx E (fun u : SU × (Int → Option Nat) × (Int → Option Nat) × Int × Int × Int => c_nul nh = 0 ∧ SR ge u.1.1 u.1.2 ∧ DQ u.2.1 u.2.2.2.1 u.2.2.2.2.1 (nh - 1) LH ∧ DQ u.2.2.1 xh2 u.2.2.2.2.2 (ns + 1) (fun i => if i = ns then oe 0 else LS i)) (fun u : SU × (Int → Option Nat) × (Int → Option Nat) × Int × Int × Int => nh - 1) (fun u : SU × (Int → Option Nat) × (Int → Option Nat) × Int × Int × Int => ([(cw, .inr (1, [.ref (o 0), .ref oaA, .ref osA, iv hsn, .ref hda, .ref spa, .ref bfA, .ref lnA, .ref prA, iv ep, va_rf lt]))] : va_W) ++ (SW E o u.1.1 u.1.2) ++ (SW E oe se ae) ++ ([(hda, .inr (9, [.ref hdb, iv u.2.2.2.1, iv u.2.2.2.2.1]))] : va_W) ++ ([(hdb, qa (E.2 4) 17 u.2.1)] : va_W) ++ ([(spa, .inr (9, [.ref sdb, iv xh2, iv u.2.2.2.2.2]))] : va_W) ++ ([(sdb, qa (E.2 4) 17 u.2.2.1)] : va_W)) A) (UXx E (fun (En : String) (u : Unit) => En = "java/lang/IllegalStateException" ∧ c_nul nh = 1) (fun u : Unit => ([(cw, .inr (1, [.ref (o 0), .ref oaA, .ref osA, iv hsn, .ref hda, .ref spa, .ref bfA, .ref lnA, .ref prA, iv ep, va_rf lt]))] : va_W) ++ (SW E o sc ar) ++ (SW E oe se ae) ++ ([(hda, .inr (9, [.ref hdb, iv xh1, iv xt1]))] : va_W) ++ ([(hdb, qa (E.2 4) 17 xf1)] : va_W) ++ ([(spa, .inr (9, [.ref sdb, iv xh2, iv xt2]))] : va_W) ++ ([(sdb, qa (E.2 4) 17 xf2)] : va_W)) (fun u : Unit => none) A) ([.ref cw] : List Value).toArray s 1 6 A) (F0 m 15 ls [iv (b2 (!(decide (xh1 = xt1))))]) := by
    have hn0 : (!(decide (xh1 = xt1))) = false → nh = 0 := fun h9 => hdh.emp.mp (by simpa using h9)
    have hg_2 : gpick [[(cw, .inr (1, [.ref (o 0), .ref oaA, .ref osA, iv hsn, .ref hda, .ref spa, .ref bfA, .ref lnA, .ref prA, iv ep, va_rf lt]))], SW E o sc ar, SW E oe se ae, [(hda, .inr (9, [.ref hdb, iv xh1, iv xt1]))], [(hdb, qa (E.2 4) 17 xf1)], [(spa, .inr (9, [.ref sdb, iv xh2, iv xt2]))], [(sdb, qa (E.2 4) 17 xf2)]] ([] ++ [[(cw, .inr (1, [.ref (o 0), .ref oaA, .ref osA, iv hsn, .ref hda, .ref spa, .ref bfA, .ref lnA, .ref prA, iv ep, va_rf lt]))], SW E o sc ar, SW E oe se ae, [(hda, .inr (9, [.ref hdb, iv xh1, iv xt1]))], [(hdb, qa (E.2 4) 17 xf1)], [(spa, .inr (9, [.ref sdb, iv xh2, iv xt2]))], [(sdb, qa (E.2 4) 17 xf2)]]) [0, 1, 2, 3, 4, 5, 6] := ⟨rfl, (show List.Perm [0, 1, 2, 3, 4, 5, 6] (List.range 7) from by decide)⟩
    have hg_2P : va_P E.1 CL ([]) s.heap := (g_out hg_2 hP hD).1
    have hg_2D : va_D A ([]) := (g_out hg_2 hP hD).2
    have hg_2F : ∀ q, va_A ([]) s.heap.size q → A q := g_free hg_2 hP hD hS hA
    have hz_3 : s.heap.size ≤ s.heap.size := hS.1
    have hj_6 : ∀ u_4 : Unit, gpick ([] ++ [[(cw, .inr (1, [.ref (o 0), .ref oaA, .ref osA, iv hsn, .ref hda, .ref spa, .ref bfA, .ref lnA, .ref prA, iv ep, va_rf lt]))], SW E o sc ar, SW E oe se ae, [(hda, .inr (9, [.ref hdb, iv xh1, iv xt1]))], [(hdb, qa (E.2 4) 17 xf1)], [(spa, .inr (9, [.ref sdb, iv xh2, iv xt2]))], [(sdb, qa (E.2 4) 17 xf2)]]) [[(cw, .inr (1, [.ref (o 0), .ref oaA, .ref osA, iv hsn, .ref hda, .ref spa, .ref bfA, .ref lnA, .ref prA, iv ep, va_rf lt]))], SW E o sc ar, SW E oe se ae, [(hda, .inr (9, [.ref hdb, iv xh1, iv xt1]))], [(hdb, qa (E.2 4) 17 xf1)], [(spa, .inr (9, [.ref sdb, iv xh2, iv xt2]))], [(sdb, qa (E.2 4) 17 xf2)]] [0, 1, 2, 3, 4, 5, 6] := fun u_4 => ⟨rfl, (show List.Perm [0, 1, 2, 3, 4, 5, 6] (List.range 7) from by decide)⟩
    have hj_7 : ∀ u_5 : Unit, gpick ([] ++ [[(cw, .inr (1, [.ref (o 0), .ref oaA, .ref osA, iv hsn, .ref hda, .ref spa, .ref bfA, .ref lnA, .ref prA, iv ep, va_rf lt]))], SW E o sc ar, SW E oe se ae, [(hda, .inr (9, [.ref hdb, iv xh1, iv xt1]))], [(hdb, qa (E.2 4) 17 xf1)], [(spa, .inr (9, [.ref sdb, iv xh2, iv xt2]))], [(sdb, qa (E.2 4) 17 xf2)]]) [[(cw, .inr (1, [.ref (o 0), .ref oaA, .ref osA, iv hsn, .ref hda, .ref spa, .ref bfA, .ref lnA, .ref prA, iv ep, va_rf lt]))], SW E o sc ar, SW E oe se ae, [(hda, .inr (9, [.ref hdb, iv xh1, iv xt1]))], [(hdb, qa (E.2 4) 17 xf1)], [(spa, .inr (9, [.ref sdb, iv xh2, iv xt2]))], [(sdb, qa (E.2 4) 17 xf2)]] [0, 1, 2, 3, 4, 5, 6] := fun u_5 => ⟨rfl, (show List.Perm [0, 1, 2, 3, 4, 5, 6] (List.range 7) from by decide)⟩
    refine n_txvB (w2 := fun u_4 => ([(cw, .inr (1, [.ref (o 0), .ref oaA, .ref osA, iv hsn, .ref hda, .ref spa, .ref bfA, .ref lnA, .ref prA, iv ep, va_rf lt]))] : va_W) ++ (SW E o sc ar) ++ (SW E oe se ae) ++ ([(hda, .inr (9, [.ref hdb, iv xh1, iv xt1]))] : va_W) ++ ([(hdb, qa (E.2 4) 17 xf1)] : va_W) ++ ([(spa, .inr (9, [.ref sdb, iv xh2, iv xt2]))] : va_W) ++ ([(sdb, qa (E.2 4) 17 xf2)] : va_W)) (w3 := fun u_5 => ([(cw, .inr (1, [.ref (o 0), .ref oaA, .ref osA, iv hsn, .ref hda, .ref spa, .ref bfA, .ref lnA, .ref prA, iv ep, va_rf lt]))] : va_W) ++ (SW E o sc ar) ++ (SW E oe se ae) ++ ([(hda, .inr (9, [.ref hdb, iv xh1, iv xt1]))] : va_W) ++ ([(hdb, qa (E.2 4) 17 xf1)] : va_W) ++ ([(spa, .inr (9, [.ref sdb, iv xh2, iv xt2]))] : va_W) ++ ([(sdb, qa (E.2 4) 17 xf2)] : va_W)) (vx_runS (As := [iv (b2 (!(decide (xh1 = xt1))))]) (rest := []) ⟨hx, hb, hml, hown, hts⟩ (mt_X1_checkState l E (!(decide (xh1 = xt1))) (by exact hst) _) (va_cwS 1 hts (lw_S q1735 q911 q94 q912) rfl rfl rfl (by decide +kernel) ⟨Nat.le_of_ble_eq_true rfl, Nat.le_of_ble_eq_true rfl⟩) (UX_S hg_2P hK (hg_2D) hE hS hg_2F) rfl rfl hl.1 rfl (lv_room (Nat.le_of_ble_eq_true rfl)) dX1_undo_15 ⟨Nat.le_of_ble_eq_true rfl, Nat.le_of_ble_eq_true rfl⟩) hS hg_2F ?_ ?_ ?_ ?_
    · exact (fun u_4 _ hk9 hp9 hd9 => g_back hg_2 (hj_6 u_4) hP hD hg_2F hk9 hp9 hd9)
    · exact (fun u_5 _ hk9 hp9 hd9 => g_back hg_2 (hj_7 u_5) hP hD hg_2F hk9 hp9 hd9)
    · intro En ce q9 u_5 H locs hCx hP hD hS hxf hq9 hce hcv hcl
      have hCx : En = "java/lang/IllegalStateException" ∧ (!(decide (xh1 = xt1))) = false := hCx
      have hP : va_P E.1 CL (([(cw, .inr (1, [.ref (o 0), .ref oaA, .ref osA, iv hsn, .ref hda, .ref spa, .ref bfA, .ref lnA, .ref prA, iv ep, va_rf lt]))] : va_W) ++ (SW E o sc ar) ++ (SW E oe se ae) ++ ([(hda, .inr (9, [.ref hdb, iv xh1, iv xt1]))] : va_W) ++ ([(hdb, qa (E.2 4) 17 xf1)] : va_W) ++ ([(spa, .inr (9, [.ref sdb, iv xh2, iv xt2]))] : va_W) ++ ([(sdb, qa (E.2 4) 17 xf2)] : va_W)) H := hP
      have hD : va_D A (([(cw, .inr (1, [.ref (o 0), .ref oaA, .ref osA, iv hsn, .ref hda, .ref spa, .ref bfA, .ref lnA, .ref prA, iv ep, va_rf lt]))] : va_W) ++ (SW E o sc ar) ++ (SW E oe se ae) ++ ([(hda, .inr (9, [.ref hdb, iv xh1, iv xt1]))] : va_W) ++ ([(hdb, qa (E.2 4) 17 xf1)] : va_W) ++ ([(spa, .inr (9, [.ref sdb, iv xh2, iv xt2]))] : va_W) ++ ([(sdb, qa (E.2 4) 17 xf2)] : va_W)) := hD
      exact n_out () (by exact ⟨hCx.1, by rw [hn0 hCx.2]; rfl⟩) hP hD hS hxf (Nat.le_trans hz_3 hq9) hce hcv hcl (fun x hx9 => (htb x hx9).elim) hlocks (Nat.le_of_ble_eq_true rfl) (Nat.le_of_ble_eq_true rfl)
    · intro u_4 H locs hC hP hD hS
      have hu_4 : (!(decide (xh1 = xt1))) = true := hC
      have hP : va_P E.1 CL (([(cw, .inr (1, [.ref (o 0), .ref oaA, .ref osA, iv hsn, .ref hda, .ref spa, .ref bfA, .ref lnA, .ref prA, iv ep, va_rf lt]))] : va_W) ++ (SW E o sc ar) ++ (SW E oe se ae) ++ ([(hda, .inr (9, [.ref hdb, iv xh1, iv xt1]))] : va_W) ++ ([(hdb, qa (E.2 4) 17 xf1)] : va_W) ++ ([(spa, .inr (9, [.ref sdb, iv xh2, iv xt2]))] : va_W) ++ ([(sdb, qa (E.2 4) 17 xf2)] : va_W)) H := hP
      have hD : va_D A (([(cw, .inr (1, [.ref (o 0), .ref oaA, .ref osA, iv hsn, .ref hda, .ref spa, .ref bfA, .ref lnA, .ref prA, iv ep, va_rf lt]))] : va_W) ++ (SW E o sc ar) ++ (SW E oe se ae) ++ ([(hda, .inr (9, [.ref hdb, iv xh1, iv xt1]))] : va_W) ++ ([(hdb, qa (E.2 4) 17 xf1)] : va_W) ++ ([(spa, .inr (9, [.ref sdb, iv xh2, iv xt2]))] : va_W) ++ ([(sdb, qa (E.2 4) 17 xf2)] : va_W)) := hD
      have hne := hu_4
      have hnz : ¬ nh = 0 := fun h9 => by simp [hdh.emp.mpr h9] at hne
      have hq1 := hdh.pollLast (by omega)
      have hq2 := hds.add (by omega) (oe 0)
      refine lv_aload_n hx hb dX1_undo_18 rfl (lv_at hl 0 rfl) ?_
      refine va_get (D := E.1) (ci := 1) (v := .ref hda) (C := RX1) (T := TX1) (N := 11) hx hb hts in_X1 hown hK.1 hP 0 rfl rfl 4 (by decide) (hts _ q476) (fun _ h9 => h9) rfl dX1_undo_19 ?_
      have hg_8 : gpick [[(cw, .inr (1, [.ref (o 0), .ref oaA, .ref osA, iv hsn, .ref hda, .ref spa, .ref bfA, .ref lnA, .ref prA, iv ep, va_rf lt]))], SW E o sc ar, SW E oe se ae, [(hda, .inr (9, [.ref hdb, iv xh1, iv xt1]))], [(hdb, qa (E.2 4) 17 xf1)], [(spa, .inr (9, [.ref sdb, iv xh2, iv xt2]))], [(sdb, qa (E.2 4) 17 xf2)]] ([[(hda, .inr (9, [.ref hdb, iv xh1, iv xt1]))], [(hdb, qa (E.2 4) 17 xf1)]] ++ [[(cw, .inr (1, [.ref (o 0), .ref oaA, .ref osA, iv hsn, .ref hda, .ref spa, .ref bfA, .ref lnA, .ref prA, iv ep, va_rf lt]))], SW E o sc ar, SW E oe se ae, [(spa, .inr (9, [.ref sdb, iv xh2, iv xt2]))], [(sdb, qa (E.2 4) 17 xf2)]]) [3, 4, 0, 1, 2, 5, 6] := ⟨rfl, (show List.Perm [3, 4, 0, 1, 2, 5, 6] (List.range 7) from by decide)⟩
      have hg_8P : va_P E.1 CL (([(hda, .inr (9, [.ref hdb, iv xh1, iv xt1]))] : va_W) ++ ([(hdb, qa (E.2 4) 17 xf1)] : va_W)) H := (g_out hg_8 hP hD).1
      have hg_8D : va_D A (([(hda, .inr (9, [.ref hdb, iv xh1, iv xt1]))] : va_W) ++ ([(hdb, qa (E.2 4) 17 xf1)] : va_W)) := (g_out hg_8 hP hD).2
      have hg_8F : ∀ q, va_A (([(hda, .inr (9, [.ref hdb, iv xh1, iv xt1]))] : va_W) ++ ([(hdb, qa (E.2 4) 17 xf1)] : va_W)) H.size q → A q := g_free hg_8 hP hD hS hA
      have hj_10 : ∀ u_9 : Unit, gpick ([[(hda, .inr (9, [.ref hdb, iv xh1, iv (if xt1 - 1 < 0 then 17 - 1 else xt1 - 1)]))], [(hdb, qa (E.2 4) 17 (uq xf1 (if xt1 - 1 < 0 then 17 - 1 else xt1 - 1) none))]] ++ [[(cw, .inr (1, [.ref (o 0), .ref oaA, .ref osA, iv hsn, .ref hda, .ref spa, .ref bfA, .ref lnA, .ref prA, iv ep, va_rf lt]))], SW E o sc ar, SW E oe se ae, [(spa, .inr (9, [.ref sdb, iv xh2, iv xt2]))], [(sdb, qa (E.2 4) 17 xf2)]]) [[(cw, .inr (1, [.ref (o 0), .ref oaA, .ref osA, iv hsn, .ref hda, .ref spa, .ref bfA, .ref lnA, .ref prA, iv ep, va_rf lt]))], SW E o sc ar, SW E oe se ae, [(hda, .inr (9, [.ref hdb, iv xh1, iv (if xt1 - 1 < 0 then 17 - 1 else xt1 - 1)]))], [(hdb, qa (E.2 4) 17 (uq xf1 (if xt1 - 1 < 0 then 17 - 1 else xt1 - 1) none))], [(spa, .inr (9, [.ref sdb, iv xh2, iv xt2]))], [(sdb, qa (E.2 4) 17 xf2)]] [2, 3, 4, 0, 1, 5, 6] := fun u_9 => ⟨rfl, (show List.Perm [2, 3, 4, 0, 1, 5, 6] (List.range 7) from by decide)⟩
      refine n_cuxrB (x := fun u_9 => (oe 0)) (w2 := fun u_9 => ([(cw, .inr (1, [.ref (o 0), .ref oaA, .ref osA, iv hsn, .ref hda, .ref spa, .ref bfA, .ref lnA, .ref prA, iv ep, va_rf lt]))] : va_W) ++ (SW E o sc ar) ++ (SW E oe se ae) ++ ([(hda, .inr (9, [.ref hdb, iv xh1, iv (if xt1 - 1 < 0 then 17 - 1 else xt1 - 1)]))] : va_W) ++ ([(hdb, qa (E.2 4) 17 (uq xf1 (if xt1 - 1 < 0 then 17 - 1 else xt1 - 1) none))] : va_W) ++ ([(spa, .inr (9, [.ref sdb, iv xh2, iv xt2]))] : va_W) ++ ([(sdb, qa (E.2 4) 17 xf2)] : va_W)) (va_runV (As := []) (rest := []) ⟨hx, hb, hml, hown, hts⟩ (mt_J1_pollLast l E hda xh1 xt1 hdb xf1  (oe 0) (by omega) (by omega) (by rw [hdh.last (by omega), he1 (by omega)]) _) (cwV 0 hts (lw_V q2008 q659 q660 q98 q661) rfl rfl rfl (by decide +kernel) ⟨Nat.le_of_ble_eq_true rfl, Nat.le_of_ble_eq_true rfl⟩) (UW_V hg_8P hK hg_8D (va_recv hK.1 hP (ci := 9) (q0 := 35) rfl rfl)) rfl rfl hl.1 rfl (lv_room (Nat.le_of_ble_eq_true rfl)) dX1_undo_22 ⟨Nat.le_of_ble_eq_true rfl, Nat.le_of_ble_eq_true rfl⟩) hS hg_8F ?_ ?_
      · exact (fun u_9 _ hk9 hp9 hd9 => g_back hg_8 (hj_10 u_9) hP hD hg_8F hk9 hp9 hd9)
      intro u_9 H locs hu_9 hP hD hS
      have hu_9 : True := hu_9
      have hP : va_P E.1 CL (([(cw, .inr (1, [.ref (o 0), .ref oaA, .ref osA, iv hsn, .ref hda, .ref spa, .ref bfA, .ref lnA, .ref prA, iv ep, va_rf lt]))] : va_W) ++ (SW E o sc ar) ++ (SW E oe se ae) ++ ([(hda, .inr (9, [.ref hdb, iv xh1, iv (if xt1 - 1 < 0 then 17 - 1 else xt1 - 1)]))] : va_W) ++ ([(hdb, qa (E.2 4) 17 (uq xf1 (if xt1 - 1 < 0 then 17 - 1 else xt1 - 1) none))] : va_W) ++ ([(spa, .inr (9, [.ref sdb, iv xh2, iv xt2]))] : va_W) ++ ([(sdb, qa (E.2 4) 17 xf2)] : va_W)) H := hP
      have hD : va_D A (([(cw, .inr (1, [.ref (o 0), .ref oaA, .ref osA, iv hsn, .ref hda, .ref spa, .ref bfA, .ref lnA, .ref prA, iv ep, va_rf lt]))] : va_W) ++ (SW E o sc ar) ++ (SW E oe se ae) ++ ([(hda, .inr (9, [.ref hdb, iv xh1, iv (if xt1 - 1 < 0 then 17 - 1 else xt1 - 1)]))] : va_W) ++ ([(hdb, qa (E.2 4) 17 (uq xf1 (if xt1 - 1 < 0 then 17 - 1 else xt1 - 1) none))] : va_W) ++ ([(spa, .inr (9, [.ref sdb, iv xh2, iv xt2]))] : va_W) ++ ([(sdb, qa (E.2 4) 17 xf2)] : va_W)) := hD
      refine va_castE hx hb hown (hts _ q140) (va_recv hK.1 hP (ci := 2) (q0 := 18) rfl rfl) dX1_undo_25 ?_
      refine lv_astore_n (lv' := [(1, .ref (oe 0)), (0, .ref cw)]) hx hb dX1_undo_28 rfl hl (by decide) rfl (fun ls hl => ?_)
      refine lv_aload_n hx hb dX1_undo_29 rfl (lv_at hl 1 rfl) ?_
      refine va_get (D := E.1) (ci := 1) (v := .ref (o 0)) (C := RX1) (T := TX1) (N := 11) hx hb hts in_X1 hown hK.1 hP 0 rfl rfl 0 (by decide) (hts _ q472) (fun _ h9 => h9) rfl dX1_undo_30 ?_
      refine lv_aload_n hx hb dX1_undo_33 rfl (lv_at hl 0 rfl) ?_
      have hg_11 : gpick [[(cw, .inr (1, [.ref (o 0), .ref oaA, .ref osA, iv hsn, .ref hda, .ref spa, .ref bfA, .ref lnA, .ref prA, iv ep, va_rf lt]))], SW E o sc ar, SW E oe se ae, [(hda, .inr (9, [.ref hdb, iv xh1, iv (if xt1 - 1 < 0 then 17 - 1 else xt1 - 1)]))], [(hdb, qa (E.2 4) 17 (uq xf1 (if xt1 - 1 < 0 then 17 - 1 else xt1 - 1) none))], [(spa, .inr (9, [.ref sdb, iv xh2, iv xt2]))], [(sdb, qa (E.2 4) 17 xf2)]] ([SW E o sc ar, SW E oe se ae] ++ [[(cw, .inr (1, [.ref (o 0), .ref oaA, .ref osA, iv hsn, .ref hda, .ref spa, .ref bfA, .ref lnA, .ref prA, iv ep, va_rf lt]))], [(hda, .inr (9, [.ref hdb, iv xh1, iv (if xt1 - 1 < 0 then 17 - 1 else xt1 - 1)]))], [(hdb, qa (E.2 4) 17 (uq xf1 (if xt1 - 1 < 0 then 17 - 1 else xt1 - 1) none))], [(spa, .inr (9, [.ref sdb, iv xh2, iv xt2]))], [(sdb, qa (E.2 4) 17 xf2)]]) [1, 2, 0, 3, 4, 5, 6] := ⟨rfl, (show List.Perm [1, 2, 0, 3, 4, 5, 6] (List.range 7) from by decide)⟩
      have hg_11P : va_P E.1 CL ((SW E o sc ar) ++ (SW E oe se ae)) H := (g_out hg_11 hP hD).1
      have hg_11D : va_D A ((SW E o sc ar) ++ (SW E oe se ae)) := (g_out hg_11 hP hD).2
      have hg_11F : ∀ q, va_A ((SW E o sc ar) ++ (SW E oe se ae)) H.size q → A q := g_free hg_11 hP hD hS hA
      have hj_13 : ∀ u_12 : SU, gpick ([SW E o u_12.1 u_12.2, SW E oe se ae] ++ [[(cw, .inr (1, [.ref (o 0), .ref oaA, .ref osA, iv hsn, .ref hda, .ref spa, .ref bfA, .ref lnA, .ref prA, iv ep, va_rf lt]))], [(hda, .inr (9, [.ref hdb, iv xh1, iv (if xt1 - 1 < 0 then 17 - 1 else xt1 - 1)]))], [(hdb, qa (E.2 4) 17 (uq xf1 (if xt1 - 1 < 0 then 17 - 1 else xt1 - 1) none))], [(spa, .inr (9, [.ref sdb, iv xh2, iv xt2]))], [(sdb, qa (E.2 4) 17 xf2)]]) [[(cw, .inr (1, [.ref (o 0), .ref oaA, .ref osA, iv hsn, .ref hda, .ref spa, .ref bfA, .ref lnA, .ref prA, iv ep, va_rf lt]))], SW E o u_12.1 u_12.2, SW E oe se ae, [(hda, .inr (9, [.ref hdb, iv xh1, iv (if xt1 - 1 < 0 then 17 - 1 else xt1 - 1)]))], [(hdb, qa (E.2 4) 17 (uq xf1 (if xt1 - 1 < 0 then 17 - 1 else xt1 - 1) none))], [(spa, .inr (9, [.ref sdb, iv xh2, iv xt2]))], [(sdb, qa (E.2 4) 17 xf2)]] [2, 0, 1, 3, 4, 5, 6] := fun u_12 => ⟨rfl, (show List.Perm [2, 0, 1, 3, 4, 5, 6] (List.range 7) from by decide)⟩
      refine n_cuxvB (w2 := fun u_12 => ([(cw, .inr (1, [.ref (o 0), .ref oaA, .ref osA, iv hsn, .ref hda, .ref spa, .ref bfA, .ref lnA, .ref prA, iv ep, va_rf lt]))] : va_W) ++ (SW E o u_12.1 u_12.2) ++ (SW E oe se ae) ++ ([(hda, .inr (9, [.ref hdb, iv xh1, iv (if xt1 - 1 < 0 then 17 - 1 else xt1 - 1)]))] : va_W) ++ ([(hdb, qa (E.2 4) 17 (uq xf1 (if xt1 - 1 < 0 then 17 - 1 else xt1 - 1) none))] : va_W) ++ ([(spa, .inr (9, [.ref sdb, iv xh2, iv xt2]))] : va_W) ++ ([(sdb, qa (E.2 4) 17 xf2)] : va_W)) (va_runV (As := [.ref (oe 0)]) (rest := []) ⟨hx, hb, hml, hown, hts⟩ (mt_X2_copyFrom l E o sc ar oe se ae  ge (by exact hsr2) (by exact how2) _) (cwV 1 hts (lw_V q760 q761 q762 q95 q763) rfl rfl rfl (by decide +kernel) ⟨Nat.le_of_ble_eq_true rfl, Nat.le_of_ble_eq_true rfl⟩) (UW_V hg_11P hK hg_11D (va_recv hK.1 hP (ci := 2) (q0 := 1) rfl rfl)) rfl rfl hl.1 rfl (lv_room (Nat.le_of_ble_eq_true rfl)) dX1_undo_34 ⟨Nat.le_of_ble_eq_true rfl, Nat.le_of_ble_eq_true rfl⟩) hS hg_11F ?_ ?_
      · exact (fun u_12 _ hk9 hp9 hd9 => g_back hg_11 (hj_13 u_12) hP hD hg_11F hk9 hp9 hd9)
      intro u_12 H locs hu_12 hP hD hS
      have hu_12 : SR ge u_12.1 u_12.2 := hu_12
      have hP : va_P E.1 CL (([(cw, .inr (1, [.ref (o 0), .ref oaA, .ref osA, iv hsn, .ref hda, .ref spa, .ref bfA, .ref lnA, .ref prA, iv ep, va_rf lt]))] : va_W) ++ (SW E o u_12.1 u_12.2) ++ (SW E oe se ae) ++ ([(hda, .inr (9, [.ref hdb, iv xh1, iv (if xt1 - 1 < 0 then 17 - 1 else xt1 - 1)]))] : va_W) ++ ([(hdb, qa (E.2 4) 17 (uq xf1 (if xt1 - 1 < 0 then 17 - 1 else xt1 - 1) none))] : va_W) ++ ([(spa, .inr (9, [.ref sdb, iv xh2, iv xt2]))] : va_W) ++ ([(sdb, qa (E.2 4) 17 xf2)] : va_W)) H := hP
      have hD : va_D A (([(cw, .inr (1, [.ref (o 0), .ref oaA, .ref osA, iv hsn, .ref hda, .ref spa, .ref bfA, .ref lnA, .ref prA, iv ep, va_rf lt]))] : va_W) ++ (SW E o u_12.1 u_12.2) ++ (SW E oe se ae) ++ ([(hda, .inr (9, [.ref hdb, iv xh1, iv (if xt1 - 1 < 0 then 17 - 1 else xt1 - 1)]))] : va_W) ++ ([(hdb, qa (E.2 4) 17 (uq xf1 (if xt1 - 1 < 0 then 17 - 1 else xt1 - 1) none))] : va_W) ++ ([(spa, .inr (9, [.ref sdb, iv xh2, iv xt2]))] : va_W) ++ ([(sdb, qa (E.2 4) 17 xf2)] : va_W)) := hD
      refine lv_aload_n hx hb dX1_undo_37 rfl (lv_at hl 1 rfl) ?_
      refine va_get (D := E.1) (ci := 1) (v := .ref spa) (C := RX1) (T := TX1) (N := 11) hx hb hts in_X1 hown hK.1 hP 0 rfl rfl 5 (by decide) (hts _ q477) (fun _ h9 => h9) rfl dX1_undo_38 ?_
      refine lv_aload_n hx hb dX1_undo_41 rfl (lv_at hl 0 rfl) ?_
      have hcp := hu_12
      have hg_14 : gpick [[(cw, .inr (1, [.ref (o 0), .ref oaA, .ref osA, iv hsn, .ref hda, .ref spa, .ref bfA, .ref lnA, .ref prA, iv ep, va_rf lt]))], SW E o u_12.1 u_12.2, SW E oe se ae, [(hda, .inr (9, [.ref hdb, iv xh1, iv (if xt1 - 1 < 0 then 17 - 1 else xt1 - 1)]))], [(hdb, qa (E.2 4) 17 (uq xf1 (if xt1 - 1 < 0 then 17 - 1 else xt1 - 1) none))], [(spa, .inr (9, [.ref sdb, iv xh2, iv xt2]))], [(sdb, qa (E.2 4) 17 xf2)]] ([[(spa, .inr (9, [.ref sdb, iv xh2, iv xt2]))], [(sdb, qa (E.2 4) 17 xf2)], SW E oe se ae] ++ [[(cw, .inr (1, [.ref (o 0), .ref oaA, .ref osA, iv hsn, .ref hda, .ref spa, .ref bfA, .ref lnA, .ref prA, iv ep, va_rf lt]))], SW E o u_12.1 u_12.2, [(hda, .inr (9, [.ref hdb, iv xh1, iv (if xt1 - 1 < 0 then 17 - 1 else xt1 - 1)]))], [(hdb, qa (E.2 4) 17 (uq xf1 (if xt1 - 1 < 0 then 17 - 1 else xt1 - 1) none))]]) [5, 6, 2, 0, 1, 3, 4] := ⟨rfl, (show List.Perm [5, 6, 2, 0, 1, 3, 4] (List.range 7) from by decide)⟩
      have hg_14P : va_P E.1 CL (([(spa, .inr (9, [.ref sdb, iv xh2, iv xt2]))] : va_W) ++ ([(sdb, qa (E.2 4) 17 xf2)] : va_W) ++ (SW E oe se ae)) H := (g_out hg_14 hP hD).1
      have hg_14D : va_D A (([(spa, .inr (9, [.ref sdb, iv xh2, iv xt2]))] : va_W) ++ ([(sdb, qa (E.2 4) 17 xf2)] : va_W) ++ (SW E oe se ae)) := (g_out hg_14 hP hD).2
      have hg_14F : ∀ q, va_A (([(spa, .inr (9, [.ref sdb, iv xh2, iv xt2]))] : va_W) ++ ([(sdb, qa (E.2 4) 17 xf2)] : va_W) ++ (SW E oe se ae)) H.size q → A q := g_free hg_14 hP hD hS hA
      have hj_15 : gpick ([[(spa, .inr (9, [.ref sdb, iv xh2, iv (if xt2 + 1 < 17 then xt2 + 1 else 0)]))], [(sdb, qa (E.2 4) 17 (uq xf2 xt2 (some (oe 0))))], SW E oe se ae] ++ [[(cw, .inr (1, [.ref (o 0), .ref oaA, .ref osA, iv hsn, .ref hda, .ref spa, .ref bfA, .ref lnA, .ref prA, iv ep, va_rf lt]))], SW E o u_12.1 u_12.2, [(hda, .inr (9, [.ref hdb, iv xh1, iv (if xt1 - 1 < 0 then 17 - 1 else xt1 - 1)]))], [(hdb, qa (E.2 4) 17 (uq xf1 (if xt1 - 1 < 0 then 17 - 1 else xt1 - 1) none))]]) [[(cw, .inr (1, [.ref (o 0), .ref oaA, .ref osA, iv hsn, .ref hda, .ref spa, .ref bfA, .ref lnA, .ref prA, iv ep, va_rf lt]))], SW E o u_12.1 u_12.2, SW E oe se ae, [(hda, .inr (9, [.ref hdb, iv xh1, iv (if xt1 - 1 < 0 then 17 - 1 else xt1 - 1)]))], [(hdb, qa (E.2 4) 17 (uq xf1 (if xt1 - 1 < 0 then 17 - 1 else xt1 - 1) none))], [(spa, .inr (9, [.ref sdb, iv xh2, iv (if xt2 + 1 < 17 then xt2 + 1 else 0)]))], [(sdb, qa (E.2 4) 17 (uq xf2 xt2 (some (oe 0))))]] [3, 4, 2, 5, 6, 0, 1] := ⟨rfl, (show List.Perm [3, 4, 2, 5, 6, 0, 1] (List.range 7) from by decide)⟩
      refine n_cuvB (w2 := ([(cw, .inr (1, [.ref (o 0), .ref oaA, .ref osA, iv hsn, .ref hda, .ref spa, .ref bfA, .ref lnA, .ref prA, iv ep, va_rf lt]))] : va_W) ++ (SW E o u_12.1 u_12.2) ++ (SW E oe se ae) ++ ([(hda, .inr (9, [.ref hdb, iv xh1, iv (if xt1 - 1 < 0 then 17 - 1 else xt1 - 1)]))] : va_W) ++ ([(hdb, qa (E.2 4) 17 (uq xf1 (if xt1 - 1 < 0 then 17 - 1 else xt1 - 1) none))] : va_W) ++ ([(spa, .inr (9, [.ref sdb, iv xh2, iv (if xt2 + 1 < 17 then xt2 + 1 else 0)]))] : va_W) ++ ([(sdb, qa (E.2 4) 17 (uq xf2 xt2 (some (oe 0))))] : va_W)) (va_runV (As := [.ref (oe 0)]) (rest := []) ⟨hx, hb, hml, hown, hts⟩ (mt_J1_addLastW l E spa xh2 xt2 sdb xf2 oe se ae  (by omega) (by omega) (by exact hds.full (by omega)) _) (cwV 1 hts (lw_V q339 q340 q341 q98 q342) rfl rfl rfl (by decide +kernel) ⟨Nat.le_of_ble_eq_true rfl, Nat.le_of_ble_eq_true rfl⟩) (UW_V hg_14P hK hg_14D (va_recv hK.1 hP (ci := 9) (q0 := 37) rfl rfl)) rfl rfl hl.1 rfl (lv_room (Nat.le_of_ble_eq_true rfl)) dX1_undo_42 ⟨Nat.le_of_ble_eq_true rfl, Nat.le_of_ble_eq_true rfl⟩) hS hg_14F ?_ ?_
      · exact (fun _ hk9 hp9 hd9 => g_back hg_14 hj_15 hP hD hg_14F hk9 hp9 hd9)
      intro H locs hP hD hS
      have hP : va_P E.1 CL (([(cw, .inr (1, [.ref (o 0), .ref oaA, .ref osA, iv hsn, .ref hda, .ref spa, .ref bfA, .ref lnA, .ref prA, iv ep, va_rf lt]))] : va_W) ++ (SW E o u_12.1 u_12.2) ++ (SW E oe se ae) ++ ([(hda, .inr (9, [.ref hdb, iv xh1, iv (if xt1 - 1 < 0 then 17 - 1 else xt1 - 1)]))] : va_W) ++ ([(hdb, qa (E.2 4) 17 (uq xf1 (if xt1 - 1 < 0 then 17 - 1 else xt1 - 1) none))] : va_W) ++ ([(spa, .inr (9, [.ref sdb, iv xh2, iv (if xt2 + 1 < 17 then xt2 + 1 else 0)]))] : va_W) ++ ([(sdb, qa (E.2 4) 17 (uq xf2 xt2 (some (oe 0))))] : va_W)) H := hP
      have hD : va_D A (([(cw, .inr (1, [.ref (o 0), .ref oaA, .ref osA, iv hsn, .ref hda, .ref spa, .ref bfA, .ref lnA, .ref prA, iv ep, va_rf lt]))] : va_W) ++ (SW E o u_12.1 u_12.2) ++ (SW E oe se ae) ++ ([(hda, .inr (9, [.ref hdb, iv xh1, iv (if xt1 - 1 < 0 then 17 - 1 else xt1 - 1)]))] : va_W) ++ ([(hdb, qa (E.2 4) 17 (uq xf1 (if xt1 - 1 < 0 then 17 - 1 else xt1 - 1) none))] : va_W) ++ ([(spa, .inr (9, [.ref sdb, iv xh2, iv (if xt2 + 1 < 17 then xt2 + 1 else 0)]))] : va_W) ++ ([(sdb, qa (E.2 4) 17 (uq xf2 xt2 (some (oe 0))))] : va_W)) := hD
      refine lv_aload_n hx hb dX1_undo_45 rfl (lv_at hl 1 rfl) ?_
      refine va_get (D := E.1) (ci := 1) (v := .ref hda) (C := RX1) (T := TX1) (N := 11) hx hb hts in_X1 hown hK.1 hP 0 rfl rfl 4 (by decide) (hts _ q476) (fun _ h9 => h9) rfl dX1_undo_46 ?_
      have hqr := hq1.r
      refine n_csi (x := (if (if xt1 - 1 < 0 then 17 - 1 else xt1 - 1) - xh1 < 0 then (if xt1 - 1 < 0 then 17 - 1 else xt1 - 1) - xh1 + 17 else (if xt1 - 1 < 0 then 17 - 1 else xt1 - 1) - xh1)) (va_runV (As := []) (rest := []) ⟨hx, hb, hml, hown, hts⟩ (mt_J1_size l E hda xh1 (if xt1 - 1 < 0 then 17 - 1 else xt1 - 1) hdb (uq xf1 (if xt1 - 1 < 0 then 17 - 1 else xt1 - 1) none)  (by omega) (by omega)) (cwV 0 hts (lw_V q2009 q2010 q2011 q98 q2012) rfl rfl rfl (by decide +kernel) ⟨Nat.le_of_ble_eq_true rfl, Nat.le_of_ble_eq_true rfl⟩) (PW_V (hP.sub (ws' := ([(hda, .inr (9, [.ref hdb, iv xh1, iv (if xt1 - 1 < 0 then 17 - 1 else xt1 - 1)]))] : va_W) ++ ([(hdb, qa (E.2 4) 17 (uq xf1 (if xt1 - 1 < 0 then 17 - 1 else xt1 - 1) none))] : va_W)) [35, 36] rfl) hK (va_recv hK.1 hP (ci := 9) (q0 := 35) rfl rfl)) rfl rfl hl.1 rfl (lv_room (Nat.le_of_ble_eq_true rfl)) dX1_undo_49 ⟨Nat.le_of_ble_eq_true rfl, Nat.le_of_ble_eq_true rfl⟩) ?_
      have hfin : (if (if xt1 - 1 < 0 then 17 - 1 else xt1 - 1) - xh1 < 0 then (if xt1 - 1 < 0 then 17 - 1 else xt1 - 1) - xh1 + 17 else (if xt1 - 1 < 0 then 17 - 1 else xt1 - 1) - xh1) = nh - 1 := by
        exact hq1.size
      refine vx_ret ?_
      refine W.widen (k := 1) (n := 6) (Nat.le_of_ble_eq_true rfl) (Nat.le_of_ble_eq_true rfl) ?_
      exact W.iret (v := iI (if (if xt1 - 1 < 0 then 17 - 1 else xt1 - 1) - xh1 < 0 then (if xt1 - 1 < 0 then 17 - 1 else xt1 - 1) - xh1 + 17 else (if xt1 - 1 < 0 then 17 - 1 else xt1 - 1) - xh1)) hx hb hr (fun tt_ ht_ hW_ => ⟨⟨iI (if (if xt1 - 1 < 0 then 17 - 1 else xt1 - 1) - xh1 < 0 then (if xt1 - 1 < 0 then 17 - 1 else xt1 - 1) - xh1 + 17 else (if xt1 - 1 < 0 then 17 - 1 else xt1 - 1) - xh1), ((u_12.1, u_12.2), uq xf1 (if xt1 - 1 < 0 then 17 - 1 else xt1 - 1) none, uq xf2 xt2 (some (oe 0)), xh1, (if xt1 - 1 < 0 then 17 - 1 else xt1 - 1), (if xt2 + 1 < 17 then xt2 + 1 else 0)), rfl, ⟨⟨c_nul_0 hnz, hcp, hq1, hq2⟩, (congrArg iI hfin)⟩, by rw [ht_]; exact hP, hD⟩, hS.F ht_⟩) hS.2.2 dX1_undo_52
  refine lv_aload_n hx hb dX1_undo_0 rfl (lv_at hl 0 rfl) ?_
  refine va_get (D := E.1) (ci := 1) (v := .ref hda) (C := RX1) (T := TX1) (N := 11) hx hb hts in_X1 hown hK.1 hP 0 rfl rfl 4 (by decide) (hts _ q476) (fun _ h9 => h9) rfl dX1_undo_1 ?_
  refine n_csi (x := b2 (decide (xh1 = xt1))) (va_runV (As := []) (rest := []) ⟨hx, hb, hml, hown, hts⟩ (mt_J1_isEmpty l E hda xh1 xt1 hdb xf1  (by omega) (by omega)) (cwV 0 hts (lw_V q931 q580 q581 q98 q582) rfl rfl rfl (by decide +kernel) ⟨Nat.le_of_ble_eq_true rfl, Nat.le_of_ble_eq_true rfl⟩) (PW_V (hP.sub (ws' := ([(hda, .inr (9, [.ref hdb, iv xh1, iv xt1]))] : va_W) ++ ([(hdb, qa (E.2 4) 17 xf1)] : va_W)) [35, 36] rfl) hK (va_recv hK.1 hP (ci := 9) (q0 := 35) rfl rfl)) rfl rfl hl.1 rfl (lv_room (Nat.le_of_ble_eq_true rfl)) dX1_undo_4 ⟨Nat.le_of_ble_eq_true rfl, Nat.le_of_ble_eq_true rfl⟩) ?_
  refine n_ifd_ne (tgt := 14) hx hb dX1_undo_7 (by decide) (fun c_16 => ?_) (fun c_16 => ?_)
  · refine lv_iconst (v := iI 0) hx hb dX1_undo_14 rfl ?_
    have hn0 : (!(decide (xh1 = xt1))) = false → nh = 0 := fun h9 => hdh.emp.mp (by simpa using h9)
    refine n_top (y := b2 (!(decide (xh1 = xt1)))) (by simp [*, b2]) ?_
    exact j_1
  · refine lv_iconst (v := iI 1) hx hb dX1_undo_10 rfl ?_
    refine lv_goto (tgt := 15) hx hb dX1_undo_11 (by decide) ?_
    have hn0 : (!(decide (xh1 = xt1))) = false → nh = 0 := fun h9 => hdh.emp.mp (by simpa using h9)
    refine n_top (y := b2 (!(decide (xh1 = xt1)))) (by simp [*, b2]) ?_
    exact j_1
