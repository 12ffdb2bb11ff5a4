set_option maxHeartbeats 1000000 in
set_option maxRecDepth 100000 in
theorem mt_X1_book (l : Launch) (E : EE) (cw : Nat) (oaA : Nat) (osA : Nat) (hsn : Int) (hdA : Nat) (spA : Nat) (bfA : Nat) (lnA : Nat) (prA : Nat) (ep : Int) (lt : Option Nat) (o : Nat → Nat) (sc : Nat → Int) (ar : Nat → Int → Int) : Met l yX1_book (ws_ yX1_book cX1_book 1 (some (.object "ClockworkTailor$Book"))) { frames := 0, cells := 0, slots := 0, locals := 0 } (va_Pc [.ref cw] (PW E (([(cw, .inr (1, [.ref (o 0), .ref oaA, .ref osA, iv hsn, .ref hdA, .ref spA, .ref bfA, .ref lnA, .ref prA, iv ep, va_rf lt]))] : va_W) ++ (SW E o sc ar)))) (NPr (o 1)) 0 0 (fun _ => False) := by
  refine Met.ofW (cc := cX1_book) (maxL := 1) (ret := (some (.object "ClockworkTailor$Book"))) (by decide) rfl ?_
  intro p e s m args below meth c s₁ B hml hv
  obtain ⟨rfl, hP, hK⟩ := hv
  have hx := B.exec
  have hb := B.bytes
  have hr := B.returns
  have hts := atoms_spec (ws := (ws_ yX1_book cX1_book 1 (some (.object "ClockworkTailor$Book")))) B.pre
  have hts : ∀ w ∈ lw_all, w.before _ s = true := fun w h => hts w (List.mem_cons_of_mem _ h)
  have hown : s.vm.findClass RX1 = some m.cls := findClass_of_methodNamed B.named
  have hlocks := B.notSynchronized
  have hl := lv_entry ([.ref cw]) (n := 1) (Nat.le_of_ble_eq_true rfl)
  rw [lg_entry_eq]
  generalize (lg_sl ([.ref cw]) ++ List.replicate (1 - (lg_sl ([.ref cw])).length) Slot.unset).toArray = ls at hl ⊢
  have hl : lv_has ls 1 [(0, .ref cw)] := hl
  refine lv_aload_n hx hb dX1_book_0 rfl (lv_at hl 0 rfl) ?_
  refine va_get (D := E.1) (ci := 1) (v := .ref (o 0)) (C := RX1) (T := TX1) (N := 11) hx hb hts in_X1 hown hK.1 hP 0 rfl rfl 0 (by decide) (hts _ q472) (fun _ h9 => h9) rfl dX1_book_1 ?_
  refine va_getN (D := E.1) (ci := 2) (v := .ref (o 1)) (C := RX2) (T := TX2) (N := 14) hx hb hts in_X2 hown hK.1 hP 1 rfl rfl 0 (by decide) (hK.nw q190) (fun _ h9 => h9) rfl dX1_book_4 ?_
  exact W.aret hx hb hr (Or.inl ⟨_, rfl⟩) (Or.inr ⟨_, rfl⟩) (fun tt_ ht_ hW_ => ⟨rfl, ht_⟩) (fun q h => by cases h) dX1_book_7
set_option maxHeartbeats 1000000 in
set_option maxRecDepth 100000 in
theorem mt_X1_withRecipe (l : Launch) (E : EE) (cw : Nat) (oaA : Nat) (osA : Nat) (hsn : Int) (hdA : Nat) (spA : Nat) (bfA : Nat) (lnA : Nat) (prA : Nat) (ep : Int) (lt : Option Nat) (o : Nat → Nat) (sc : Nat → Int) (ar : Nat → Int → Int) (t : Int) (g : Int → Int) (hst : l.stackTraces = false) (hsr : SR g sc ar) (ht : 0 ≤ t ∧ t < 65536) (sz : Nat) : vx_Met l yX1_withRecipe (ws_ yX1_withRecipe cX1_withRecipe 3 (some .int)) { frames := 8, cells := 2, slots := 12, locals := 133 } (va_Pc [.ref cw, iv t] (UX E (([(cw, .inr (1, [.ref (o 0), .ref oaA, .ref osA, iv hsn, .ref hdA, .ref spA, .ref bfA, .ref lnA, .ref prA, iv ep, va_rf lt]))] : va_W) ++ (SW E o sc ar)) sz)) (UQx E (fun u : Unit => c_none g t = 0) (fun u : Unit => t - 97) (fun u : Unit => ([(cw, .inr (1, [.ref (o 0), .ref oaA, .ref osA, iv hsn, .ref hdA, .ref spA, .ref bfA, .ref lnA, .ref prA, iv ep, va_rf lt]))] : va_W) ++ (SW E o sc ar)) (va_A (([(cw, .inr (1, [.ref (o 0), .ref oaA, .ref osA, iv hsn, .ref hdA, .ref spA, .ref bfA, .ref lnA, .ref prA, iv ep, va_rf lt]))] : va_W) ++ (SW E o sc ar)) sz)) (UXx E (fun (En : String) (u : Unit) => 0 < c_none g t ∧ En = nmX "java/lang/IllegalArgumentException" "java/util/NoSuchElementException" "java/lang/IndexOutOfBoundsException" (c_none g t)) (fun u : Unit => ([(cw, .inr (1, [.ref (o 0), .ref oaA, .ref osA, iv hsn, .ref hdA, .ref spA, .ref bfA, .ref lnA, .ref prA, iv ep, va_rf lt]))] : va_W) ++ (SW E o sc ar)) (fun u : Unit => none) (va_A (([(cw, .inr (1, [.ref (o 0), .ref oaA, .ref osA, iv hsn, .ref hdA, .ref spA, .ref bfA, .ref lnA, .ref prA, iv ep, va_rf lt]))] : va_W) ++ (SW E o sc ar)) sz)) 2 12 (va_A (([(cw, .inr (1, [.ref (o 0), .ref oaA, .ref osA, iv hsn, .ref hdA, .ref spA, .ref bfA, .ref lnA, .ref prA, iv ep, va_rf lt]))] : va_W) ++ (SW E o sc ar)) sz) := by
  refine vx_ofW (cc := cX1_withRecipe) (maxL := 3) (ret := (some .int)) (by decide) rfl ?_
  intro p e s m args below meth c s₁ B hml htb hv
  obtain ⟨rfl, hsz, hP, hK, hD0, hE⟩ := hv
  have hx := B.exec
  have hb := B.bytes
  have hr := B.returns
  have hts := atoms_spec (ws := (ws_ yX1_withRecipe cX1_withRecipe 3 (some .int))) B.pre
  have hts : ∀ w ∈ lw_all, w.before _ s = true := fun w h => hts w (List.mem_cons_of_mem _ h)
  have hown : s.vm.findClass RX1 = some m.cls := findClass_of_methodNamed B.named
  have hlocks := B.notSynchronized
  subst hsz
  have hD := hD0.self (sz := s.heap.size)
  generalize hAe : va_A (([(cw, .inr (1, [.ref (o 0), .ref oaA, .ref osA, iv hsn, .ref hdA, .ref spA, .ref bfA, .ref lnA, .ref prA, iv ep, va_rf lt]))] : va_W) ++ (SW E o sc ar)) s.heap.size = A at hD hE ⊢
  have hA : ∀ q : Nat, s.heap.size ≤ q → A q := fun q h => by rw [← hAe]; exact Or.inr h
  have hS : va_S A s.heap s.heap [] := va_S.rf
  have hl := lv_entry ([.ref cw, iv t]) (n := 3) (Nat.le_of_ble_eq_true rfl)
  rw [lg_entry_eq]
  generalize (lg_sl ([.ref cw, iv t]) ++ List.replicate (3 - (lg_sl ([.ref cw, iv t])).length) Slot.unset).toArray = ls at hl ⊢
  have hl : lv_has ls 3 [(0, .ref cw), (1, iv t)] := hl
  refine lv_iload_n hx hb dX1_withRecipe_0 rfl (lv_at hl 1 rfl) ?_
  have hz_1 : s.heap.size ≤ s.heap.size := hS.1
  refine n_txS (x := fun u_2 => t - 97) (w2 := fun u_2 => ([(cw, .inr (1, [.ref (o 0), .ref oaA, .ref osA, iv hsn, .ref hdA, .ref spA, .ref bfA, .ref lnA, .ref prA, iv ep, va_rf lt]))] : va_W) ++ (SW E o sc ar)) (w3 := fun u_3 => ([(cw, .inr (1, [.ref (o 0), .ref oaA, .ref osA, iv hsn, .ref hdA, .ref spA, .ref bfA, .ref lnA, .ref prA, iv ep, va_rf lt]))] : va_W) ++ (SW E o sc ar)) (vx_runS (As := [iv t]) (rest := []) ⟨hx, hb, hml, hown, hts⟩ (mt_X1_indexOf l E t (by exact hst) (by omega) _) (va_cwS 1 hts (lw_S q1052 q963 q94 q964) rfl rfl rfl (by decide +kernel) ⟨Nat.le_of_ble_eq_true rfl, Nat.le_of_ble_eq_true rfl⟩) (UX_S (hP.sub (ws' := []) [] rfl) hK (hD.sub (ws' := []) [] rfl rfl) hE hS (va_sub_free hD hS hA [] rfl)) rfl rfl hl.1 rfl (lv_room (Nat.le_of_ble_eq_true rfl)) dX1_withRecipe_1 ⟨Nat.le_of_ble_eq_true rfl, Nat.le_of_ble_eq_true rfl⟩) hP hD hS hA [] [0, 1, 2, 3, 4, 5, 6, 7, 8, 9, 10, 11, 12, 13, 14, 15, 16, 17] [0, 1, 2, 3, 4, 5, 6, 7, 8, 9, 10, 11, 12, 13, 14, 15, 16, 17] [0, 1, 2, 3, 4, 5, 6, 7, 8, 9, 10, 11, 12, 13, 14, 15, 16, 17] rfl rfl rfl rfl rfl (fun _ => rfl) rfl (fun _ => rfl) ?_ ?_
  · intro En ce q9 u_3 H locs hCx hP hD hS hxf hq9 hce hcv hcl
    have hCx : En = "java/lang/IllegalArgumentException" ∧ ¬ (97 ≤ t ∧ t ≤ 104) := hCx
    have hP : va_P E.1 CL (([(cw, .inr (1, [.ref (o 0), .ref oaA, .ref osA, iv hsn, .ref hdA, .ref spA, .ref bfA, .ref lnA, .ref prA, iv ep, va_rf lt]))] : va_W) ++ (SW E o sc ar)) H := hP
    have hD : va_D A (([(cw, .inr (1, [.ref (o 0), .ref oaA, .ref osA, iv hsn, .ref hdA, .ref spA, .ref bfA, .ref lnA, .ref prA, iv ep, va_rf lt]))] : va_W) ++ (SW E o sc ar)) := hD
    exact n_out () (by exact cx_k (k := 1) (by exact c_none_1 hCx.2) (by decide) hCx.1) hP hD hS hxf (Nat.le_trans hz_1 hq9) hce hcv hcl (fun x hx9 => (htb x hx9).elim) hlocks (Nat.le_of_ble_eq_true rfl) (Nat.le_of_ble_eq_true rfl)
  · intro u_2 H locs hC hP hD hS
    have hu_2 : 97 ≤ t ∧ t ≤ 104 := hC
    have hP : va_P E.1 CL (([(cw, .inr (1, [.ref (o 0), .ref oaA, .ref osA, iv hsn, .ref hdA, .ref spA, .ref bfA, .ref lnA, .ref prA, iv ep, va_rf lt]))] : va_W) ++ (SW E o sc ar)) H := hP
    have hD : va_D A (([(cw, .inr (1, [.ref (o 0), .ref oaA, .ref osA, iv hsn, .ref hdA, .ref spA, .ref bfA, .ref lnA, .ref prA, iv ep, va_rf lt]))] : va_W) ++ (SW E o sc ar)) := hD
    have hti := hu_2
    refine lv_istore_n (lv' := [(2, iv (t - 97)), (0, .ref cw), (1, iv t)]) hx hb dX1_withRecipe_4 rfl hl (by decide) rfl (fun ls hl => ?_)
    refine lv_aload_n hx hb dX1_withRecipe_5 rfl (lv_at hl 1 rfl) ?_
    refine va_get (D := E.1) (ci := 1) (v := .ref (o 0)) (C := RX1) (T := TX1) (N := 11) hx hb hts in_X1 hown hK.1 hP 0 rfl rfl 0 (by decide) (hts _ q472) (fun _ h9 => h9) rfl dX1_withRecipe_6 ?_
    refine lv_iload_n hx hb dX1_withRecipe_9 rfl (lv_at hl 0 rfl) ?_
    have hz_4 : s.heap.size ≤ H.size := hS.1
    refine n_txvS (w2 := fun u_5 => ([(cw, .inr (1, [.ref (o 0), .ref oaA, .ref osA, iv hsn, .ref hdA, .ref spA, .ref bfA, .ref lnA, .ref prA, iv ep, va_rf lt]))] : va_W) ++ (SW E o sc ar)) (w3 := fun u_6 => ([(cw, .inr (1, [.ref (o 0), .ref oaA, .ref osA, iv hsn, .ref hdA, .ref spA, .ref bfA, .ref lnA, .ref prA, iv ep, va_rf lt]))] : va_W) ++ (SW E o sc ar)) (vx_runV (As := [iv (t - 97)]) (rest := []) ⟨hx, hb, hml, hown, hts⟩ (mt_X2_checkRecipe l E o sc ar (t - 97) g (by exact hst) (by omega) (by assumption) _) (cwV 1 hts (lw_V q1064 q968 q969 q95 q970) rfl rfl rfl (by decide +kernel) ⟨Nat.le_of_ble_eq_true rfl, Nat.le_of_ble_eq_true rfl⟩) (UX_V (hP.sub (ws' := SW E o sc ar) [1, 2, 3, 4, 5, 6, 7, 8, 9, 10, 11, 12, 13, 14, 15, 16, 17] rfl) hK (hD.sub (ws' := SW E o sc ar) [1, 2, 3, 4, 5, 6, 7, 8, 9, 10, 11, 12, 13, 14, 15, 16, 17] rfl rfl) hE hS (va_sub_free hD hS hA [1, 2, 3, 4, 5, 6, 7, 8, 9, 10, 11, 12, 13, 14, 15, 16, 17] rfl) (va_recv hK.1 hP (ci := 2) (q0 := 1) rfl rfl)) rfl rfl hl.1 rfl (lv_room (Nat.le_of_ble_eq_true rfl)) dX1_withRecipe_10 ⟨Nat.le_of_ble_eq_true rfl, Nat.le_of_ble_eq_true rfl⟩) hP hD hS hA [1, 2, 3, 4, 5, 6, 7, 8, 9, 10, 11, 12, 13, 14, 15, 16, 17] [0] [0, 1, 2, 3, 4, 5, 6, 7, 8, 9, 10, 11, 12, 13, 14, 15, 16, 17] [0, 1, 2, 3, 4, 5, 6, 7, 8, 9, 10, 11, 12, 13, 14, 15, 16, 17] rfl rfl rfl rfl rfl (fun _ => rfl) rfl (fun _ => rfl) ?_ ?_
    · intro En ce q9 u_6 H locs hCx hP hD hS hxf hq9 hce hcv hcl
      have hCx : En = "java/util/NoSuchElementException" ∧ m_has g (t - 97) = false := hCx
      have hP : va_P E.1 CL (([(cw, .inr (1, [.ref (o 0), .ref oaA, .ref osA, iv hsn, .ref hdA, .ref spA, .ref bfA, .ref lnA, .ref prA, iv ep, va_rf lt]))] : va_W) ++ (SW E o sc ar)) H := hP
      have hD : va_D A (([(cw, .inr (1, [.ref (o 0), .ref oaA, .ref osA, iv hsn, .ref hdA, .ref spA, .ref bfA, .ref lnA, .ref prA, iv ep, va_rf lt]))] : va_W) ++ (SW E o sc ar)) := hD
      exact n_out () (by exact cx_k (k := 2) (by exact c_none_2 hti hCx.2) (by decide) hCx.1) hP hD hS hxf (Nat.le_trans hz_4 hq9) hce hcv hcl (fun x hx9 => (htb x hx9).elim) hlocks (Nat.le_of_ble_eq_true rfl) (Nat.le_of_ble_eq_true rfl)
    · intro u_5 H locs hC hP hD hS
      have hu_5 : m_has g (t - 97) = true := hC
      have hP : va_P E.1 CL (([(cw, .inr (1, [.ref (o 0), .ref oaA, .ref osA, iv hsn, .ref hdA, .ref spA, .ref bfA, .ref lnA, .ref prA, iv ep, va_rf lt]))] : va_W) ++ (SW E o sc ar)) H := hP
      have hD : va_D A (([(cw, .inr (1, [.ref (o 0), .ref oaA, .ref osA, iv hsn, .ref hdA, .ref spA, .ref bfA, .ref lnA, .ref prA, iv ep, va_rf lt]))] : va_W) ++ (SW E o sc ar)) := hD
      have hha := hu_5
      refine lv_iload_n hx hb dX1_withRecipe_13 rfl (lv_at hl 0 rfl) ?_
      refine vx_ret ?_
      refine W.widen (k := 2) (n := 12) (Nat.le_of_ble_eq_true rfl) (Nat.le_of_ble_eq_true rfl) ?_
      exact W.iret (v := iI (t - 97)) hx hb hr (fun tt_ ht_ hW_ => ⟨⟨iI (t - 97), (), rfl, ⟨by exact c_none_0 hti hha, rfl⟩, by rw [ht_]; exact hP, hD⟩, hS.F ht_⟩) hS.2.2 dX1_withRecipe_14
set_option maxHeartbeats 1000000 in
set_option maxRecDepth 100000 in
theorem mt_X1_withNeed (l : Launch) (E : EE) (cw : Nat) (oaA : Nat) (osA : Nat) (hsn : Int) (hdA : Nat) (spA : Nat) (bfA : Nat) (lnA : Nat) (prA : Nat) (ep : Int) (lt : Option Nat) (o : Nat → Nat) (sc : Nat → Int) (ar : Nat → Int → Int) (t : Int) (q : Int) (g : Int → Int) (hst : l.stackTraces = false) (hsr : SR g sc ar) (ht : 0 ≤ t ∧ t < 65536) (hq : -2147483648 ≤ q ∧ q < 2147483648) (htw : TW g) (sz : Nat) : vx_Met l yX1_withNeed (ws_ yX1_withNeed cX1_withNeed 4 (some .int)) { frames := 9, cells := 3, slots := 18, locals := 155 } (va_Pc [.ref cw, iv t, iv q] (UX E (([(cw, .inr (1, [.ref (o 0), .ref oaA, .ref osA, iv hsn, .ref hdA, .ref spA, .ref bfA, .ref lnA, .ref prA, iv ep, va_rf lt]))] : va_W) ++ (SW E o sc ar)) sz)) (UQx E (fun u : Unit => c_need g t q = 0) (fun u : Unit => t - 97) (fun u : Unit => ([(cw, .inr (1, [.ref (o 0), .ref oaA, .ref osA, iv hsn, .ref hdA, .ref spA, .ref bfA, .ref lnA, .ref prA, iv ep, va_rf lt]))] : va_W) ++ (SW E o sc ar)) (va_A (([(cw, .inr (1, [.ref (o 0), .ref oaA, .ref osA, iv hsn, .ref hdA, .ref spA, .ref bfA, .ref lnA, .ref prA, iv ep, va_rf lt]))] : va_W) ++ (SW E o sc ar)) sz)) (UXx E (fun (En : String) (u : Unit) => 0 < c_need g t q ∧ En = nmX "java/lang/IllegalArgumentException" "java/util/NoSuchElementException" "java/lang/IndexOutOfBoundsException" (c_need g t q)) (fun u : Unit => ([(cw, .inr (1, [.ref (o 0), .ref oaA, .ref osA, iv hsn, .ref hdA, .ref spA, .ref bfA, .ref lnA, .ref prA, iv ep, va_rf lt]))] : va_W) ++ (SW E o sc ar)) (fun u : Unit => none) (va_A (([(cw, .inr (1, [.ref (o 0), .ref oaA, .ref osA, iv hsn, .ref hdA, .ref spA, .ref bfA, .ref lnA, .ref prA, iv ep, va_rf lt]))] : va_W) ++ (SW E o sc ar)) sz)) 3 18 (va_A (([(cw, .inr (1, [.ref (o 0), .ref oaA, .ref osA, iv hsn, .ref hdA, .ref spA, .ref bfA, .ref lnA, .ref prA, iv ep, va_rf lt]))] : va_W) ++ (SW E o sc ar)) sz) := by
  refine vx_ofW (cc := cX1_withNeed) (maxL := 4) (ret := (some .int)) (by decide) rfl ?_
  intro p e s m args below meth c s₁ B hml htb hv
  obtain ⟨rfl, hsz, hP, hK, hD0, hE⟩ := hv
  have hx := B.exec
  have hb := B.bytes
  have hr := B.returns
  have hts := atoms_spec (ws := (ws_ yX1_withNeed cX1_withNeed 4 (some .int))) B.pre
  have hts : ∀ w ∈ lw_all, w.before _ s = true := fun w h => hts w (List.mem_cons_of_mem _ h)
  have hown : s.vm.findClass RX1 = some m.cls := findClass_of_methodNamed B.named
  have hlocks := B.notSynchronized
  subst hsz
  have hD := hD0.self (sz := s.heap.size)
  generalize hAe : va_A (([(cw, .inr (1, [.ref (o 0), .ref oaA, .ref osA, iv hsn, .ref hdA, .ref spA, .ref bfA, .ref lnA, .ref prA, iv ep, va_rf lt]))] : va_W) ++ (SW E o sc ar)) s.heap.size = A at hD hE ⊢
  have hA : ∀ q : Nat, s.heap.size ≤ q → A q := fun q h => by rw [← hAe]; exact Or.inr h
  have hS : va_S A s.heap s.heap [] := va_S.rf
  have hl := lv_entry ([.ref cw, iv t, iv q]) (n := 4) (Nat.le_of_ble_eq_true rfl)
  rw [lg_entry_eq]
  generalize (lg_sl ([.ref cw, iv t, iv q]) ++ List.replicate (4 - (lg_sl ([.ref cw, iv t, iv q])).length) Slot.unset).toArray = ls at hl ⊢
  have hl : lv_has ls 4 [(0, .ref cw), (1, iv t), (2, iv q)] := hl
  refine lv_aload_n hx hb dX1_withNeed_0 rfl (lv_at hl 0 rfl) ?_
  refine lv_iload_n hx hb dX1_withNeed_1 rfl (lv_at hl 1 rfl) ?_
  have hz_1 : s.heap.size ≤ s.heap.size := hS.1
  refine n_txS (x := fun u_2 => t - 97) (w2 := fun u_2 => ([(cw, .inr (1, [.ref (o 0), .ref oaA, .ref osA, iv hsn, .ref hdA, .ref spA, .ref bfA, .ref lnA, .ref prA, iv ep, va_rf lt]))] : va_W) ++ (SW E o sc ar)) (w3 := fun u_3 => ([(cw, .inr (1, [.ref (o 0), .ref oaA, .ref osA, iv hsn, .ref hdA, .ref spA, .ref bfA, .ref lnA, .ref prA, iv ep, va_rf lt]))] : va_W) ++ (SW E o sc ar)) (vx_runV (As := [iv t]) (rest := []) ⟨hx, hb, hml, hown, hts⟩ (mt_X1_withRecipe l E cw oaA osA hsn hdA spA bfA lnA prA ep lt o sc ar t g (by exact hst) (by assumption) (by omega) _) (cwV 1 hts (lw_V q1060 q1062 qs19 q94 q1063) rfl rfl rfl (by decide +kernel) ⟨Nat.le_of_ble_eq_true rfl, Nat.le_of_ble_eq_true rfl⟩) (UX_V hP hK (hD) hE hS (va_A_in hD hS hA) (va_recv hK.1 hP (ci := 1) (q0 := 0) rfl rfl)) rfl rfl hl.1 rfl (lv_room (Nat.le_of_ble_eq_true rfl)) dX1_withNeed_2 ⟨Nat.le_of_ble_eq_true rfl, Nat.le_of_ble_eq_true rfl⟩) hP hD hS hA [0, 1, 2, 3, 4, 5, 6, 7, 8, 9, 10, 11, 12, 13, 14, 15, 16, 17] [] [0, 1, 2, 3, 4, 5, 6, 7, 8, 9, 10, 11, 12, 13, 14, 15, 16, 17] [0, 1, 2, 3, 4, 5, 6, 7, 8, 9, 10, 11, 12, 13, 14, 15, 16, 17] rfl rfl rfl rfl rfl (fun _ => rfl) rfl (fun _ => rfl) ?_ ?_
  · intro En ce q9 u_3 H locs hCx hP hD hS hxf hq9 hce hcv hcl
    have hCx : 0 < c_none g t ∧ En = nmX "java/lang/IllegalArgumentException" "java/util/NoSuchElementException" "java/lang/IndexOutOfBoundsException" (c_none g t) := hCx
    have hP : va_P E.1 CL (([(cw, .inr (1, [.ref (o 0), .ref oaA, .ref osA, iv hsn, .ref hdA, .ref spA, .ref bfA, .ref lnA, .ref prA, iv ep, va_rf lt]))] : va_W) ++ (SW E o sc ar)) H := hP
    have hD : va_D A (([(cw, .inr (1, [.ref (o 0), .ref oaA, .ref osA, iv hsn, .ref hdA, .ref spA, .ref bfA, .ref lnA, .ref prA, iv ep, va_rf lt]))] : va_W) ++ (SW E o sc ar)) := hD
    exact n_out () (by rw [c_need_a hCx.1]; exact hCx) hP hD hS hxf (Nat.le_trans hz_1 hq9) hce hcv hcl (fun x hx9 => (htb x hx9).elim) hlocks (Nat.le_of_ble_eq_true rfl) (Nat.le_of_ble_eq_true rfl)
  · intro u_2 H locs hC hP hD hS
    have hu_2 : c_none g t = 0 := hC
    have hP : va_P E.1 CL (([(cw, .inr (1, [.ref (o 0), .ref oaA, .ref osA, iv hsn, .ref hdA, .ref spA, .ref bfA, .ref lnA, .ref prA, iv ep, va_rf lt]))] : va_W) ++ (SW E o sc ar)) H := hP
    have hD : va_D A (([(cw, .inr (1, [.ref (o 0), .ref oaA, .ref osA, iv hsn, .ref hdA, .ref spA, .ref bfA, .ref lnA, .ref prA, iv ep, va_rf lt]))] : va_W) ++ (SW E o sc ar)) := hD
    have hz0 := hu_2
    obtain ⟨hti, hha⟩ := c_none_ok (g := g) (t := t) (by omega)
    have hbr := hsr.br
    refine lv_istore_n (lv' := [(3, iv (t - 97)), (0, .ref cw), (1, iv t), (2, iv q)]) hx hb dX1_withNeed_5 rfl hl (by decide) rfl (fun ls hl => ?_)
    refine lv_iload_n hx hb dX1_withNeed_6 rfl (lv_at hl 3 rfl) ?_
    refine lv_iconst (v := iI 0) hx hb dX1_withNeed_7 rfl ?_
    refine lv_aload_n hx hb dX1_withNeed_8 rfl (lv_at hl 1 rfl) ?_
    refine n_csr (x := o 1) (va_runV (As := []) (rest := [iv 0, iv q]) ⟨hx, hb, hml, hown, hts⟩ (mt_X1_book l E cw oaA osA hsn hdA spA bfA lnA prA ep lt o sc ar ) (cwV 0 hts (lw_V q510 q512 qs3 q94 q513) rfl rfl rfl (by decide +kernel) ⟨Nat.le_of_ble_eq_true rfl, Nat.le_of_ble_eq_true rfl⟩) (PW_V hP hK (va_recv hK.1 hP (ci := 1) (q0 := 0) rfl rfl)) rfl rfl hl.1 rfl (lv_room (Nat.le_of_ble_eq_true rfl)) dX1_withNeed_9 ⟨Nat.le_of_ble_eq_true rfl, Nat.le_of_ble_eq_true rfl⟩) ?_
    refine va_getN (D := E.1) (ci := 3) (v := .ref (o 5)) (C := RX3) (T := TX3) (N := 7) hx hb hts in_X3 hown hK.1 hP 2 rfl rfl 3 (by decide) (hK.nw q165) (fun _ h9 => h9) rfl dX1_withNeed_12 ?_
    refine lv_iload_n hx hb dX1_withNeed_15 rfl (lv_at hl 0 rfl) ?_
    refine n_iald (f := ar 5) hx hb hK.1 hP 6 0 rfl rfl (by omega) (by decide) dX1_withNeed_16 ?_
    rw [hsr.br.cnt (t := t - 97) (by omega) (by first | assumption | exact HN_pos hhn (t := t - 97) (by omega) (by omega))]
    refine lv_iconst (v := iI 1) hx hb dX1_withNeed_17 rfl ?_
    refine n_isub hx hb dX1_withNeed_18 ?_
    have b_4 := htw (t - 97) (by omega) (by omega)
    refine n_csi (x := b2 (decide (0 ≤ q ∧ q ≤ (m_of g (t - 97) 2) - 1))) (va_runS (As := [iv q, iv 0, iv ((m_of g (t - 97) 2) - 1)]) (rest := []) ⟨hx, hb, hml, hown, hts⟩ (mt_X1_inRange l E q 0 ((m_of g (t - 97) 2) - 1) (by omega) (by omega) (by omega)) (va_cwS 3 hts (lw_S q882 q883 q94 q884) rfl rfl rfl (by decide +kernel) ⟨Nat.le_of_ble_eq_true rfl, Nat.le_of_ble_eq_true rfl⟩) (PW_S (hP.sub (ws' := []) [] rfl) hK) rfl rfl hl.1 rfl (lv_room (Nat.le_of_ble_eq_true rfl)) dX1_withNeed_19 ⟨Nat.le_of_ble_eq_true rfl, Nat.le_of_ble_eq_true rfl⟩) ?_
    have hz_5 : s.heap.size ≤ H.size := hS.1
    refine n_txvS (w2 := fun u_6 => ([(cw, .inr (1, [.ref (o 0), .ref oaA, .ref osA, iv hsn, .ref hdA, .ref spA, .ref bfA, .ref lnA, .ref prA, iv ep, va_rf lt]))] : va_W) ++ (SW E o sc ar)) (w3 := fun u_7 => ([(cw, .inr (1, [.ref (o 0), .ref oaA, .ref osA, iv hsn, .ref hdA, .ref spA, .ref bfA, .ref lnA, .ref prA, iv ep, va_rf lt]))] : va_W) ++ (SW E o sc ar)) (vx_runS (As := [iv (b2 (decide (0 ≤ q ∧ q ≤ (m_of g (t - 97) 2) - 1)))]) (rest := []) ⟨hx, hb, hml, hown, hts⟩ (mt_X1_checkIndex l E (decide (0 ≤ q ∧ q ≤ (m_of g (t - 97) 2) - 1)) (by exact hst) _) (va_cwS 1 hts (lw_S q1107 q1108 q94 q1109) rfl rfl rfl (by decide +kernel) ⟨Nat.le_of_ble_eq_true rfl, Nat.le_of_ble_eq_true rfl⟩) (UX_S (hP.sub (ws' := []) [] rfl) hK (hD.sub (ws' := []) [] rfl rfl) hE hS (va_sub_free hD hS hA [] rfl)) rfl rfl hl.1 rfl (lv_room (Nat.le_of_ble_eq_true rfl)) dX1_withNeed_22 ⟨Nat.le_of_ble_eq_true rfl, Nat.le_of_ble_eq_true rfl⟩) hP hD hS hA [] [0, 1, 2, 3, 4, 5, 6, 7, 8, 9, 10, 11, 12, 13, 14, 15, 16, 17] [0, 1, 2, 3, 4, 5, 6, 7, 8, 9, 10, 11, 12, 13, 14, 15, 16, 17] [0, 1, 2, 3, 4, 5, 6, 7, 8, 9, 10, 11, 12, 13, 14, 15, 16, 17] rfl rfl rfl rfl rfl (fun _ => rfl) rfl (fun _ => rfl) ?_ ?_
    · intro En ce q9 u_7 H locs hCx hP hD hS hxf hq9 hce hcv hcl
      have hCx : En = "java/lang/IndexOutOfBoundsException" ∧ (decide (0 ≤ q ∧ q ≤ (m_of g (t - 97) 2) - 1)) = false := hCx
      have hP : va_P E.1 CL (([(cw, .inr (1, [.ref (o 0), .ref oaA, .ref osA, iv hsn, .ref hdA, .ref spA, .ref bfA, .ref lnA, .ref prA, iv ep, va_rf lt]))] : va_W) ++ (SW E o sc ar)) H := hP
      have hD : va_D A (([(cw, .inr (1, [.ref (o 0), .ref oaA, .ref osA, iv hsn, .ref hdA, .ref spA, .ref bfA, .ref lnA, .ref prA, iv ep, va_rf lt]))] : va_W) ++ (SW E o sc ar)) := hD
      exact n_out () (by exact cx_k (k := 3) (by exact c_need_3 hz0 (of_decide_eq_false hCx.2)) (by decide) hCx.1) hP hD hS hxf (Nat.le_trans hz_5 hq9) hce hcv hcl (fun x hx9 => (htb x hx9).elim) hlocks (Nat.le_of_ble_eq_true rfl) (Nat.le_of_ble_eq_true rfl)
    · intro u_6 H locs hC hP hD hS
      have hu_6 : (decide (0 ≤ q ∧ q ≤ (m_of g (t - 97) 2) - 1)) = true := hC
      have hP : va_P E.1 CL (([(cw, .inr (1, [.ref (o 0), .ref oaA, .ref osA, iv hsn, .ref hdA, .ref spA, .ref bfA, .ref lnA, .ref prA, iv ep, va_rf lt]))] : va_W) ++ (SW E o sc ar)) H := hP
      have hD : va_D A (([(cw, .inr (1, [.ref (o 0), .ref oaA, .ref osA, iv hsn, .ref hdA, .ref spA, .ref bfA, .ref lnA, .ref prA, iv ep, va_rf lt]))] : va_W) ++ (SW E o sc ar)) := hD
      have hin := hu_6
      refine lv_iload_n hx hb dX1_withNeed_25 rfl (lv_at hl 0 rfl) ?_
      refine vx_ret ?_
      refine W.widen (k := 3) (n := 18) (Nat.le_of_ble_eq_true rfl) (Nat.le_of_ble_eq_true rfl) ?_
      exact W.iret (v := iI (t - 97)) hx hb hr (fun tt_ ht_ hW_ => ⟨⟨iI (t - 97), (), rfl, ⟨by exact c_need_0 hz0 (of_decide_eq_true hin), rfl⟩, by rw [ht_]; exact hP, hD⟩, hS.F ht_⟩) hS.2.2 dX1_withNeed_26
set_option maxHeartbeats 1000000 in
set_option maxRecDepth 100000 in
theorem mt_X1_recipeCount (l : Launch) (E : EE) (cw : Nat) (oaA : Nat) (osA : Nat) (hsn : Int) (hdA : Nat) (spA : Nat) (bfA : Nat) (lnA : Nat) (prA : Nat) (ep : Int) (lt : Option Nat) (o : Nat → Nat) (sc : Nat → Int) (ar : Nat → Int → Int)  (g : Int → Int) (hsr : SR g sc ar) : Met l yX1_recipeCount (ws_ yX1_recipeCount cX1_recipeCount 1 (some .int)) { frames := 1, cells := 0, slots := 0, locals := 25 } (va_Pc [.ref cw] (PW E (([(cw, .inr (1, [.ref (o 0), .ref oaA, .ref osA, iv hsn, .ref hdA, .ref spA, .ref bfA, .ref lnA, .ref prA, iv ep, va_rf lt]))] : va_W) ++ (SW E o sc ar)))) (NP (m_recipes g)) 0 0 (fun _ => False) := by
  refine Met.ofW (cc := cX1_recipeCount) (maxL := 1) (ret := (some .int)) (by decide) rfl ?_
  intro p e s m args below meth c s₁ B hml hv
  obtain ⟨rfl, hP, hK⟩ := hv
  have hx := B.exec
  have hb := B.bytes
  have hr := B.returns
  have hts := atoms_spec (ws := (ws_ yX1_recipeCount cX1_recipeCount 1 (some .int))) B.pre
  have hts : ∀ w ∈ lw_all, w.before _ s = true := fun w h => hts w (List.mem_cons_of_mem _ h)
  have hown : s.vm.findClass RX1 = some m.cls := findClass_of_methodNamed B.named
  have hlocks := B.notSynchronized
  have hl := lv_entry ([.ref cw]) (n := 1) (Nat.le_of_ble_eq_true rfl)
  rw [lg_entry_eq]
  generalize (lg_sl ([.ref cw]) ++ List.replicate (1 - (lg_sl ([.ref cw])).length) Slot.unset).toArray = ls at hl ⊢
  have hl : lv_has ls 1 [(0, .ref cw)] := hl
  have hbr := hsr.br
  refine lv_aload_n hx hb dX1_recipeCount_0 rfl (lv_at hl 0 rfl) ?_
  refine n_csr (x := o 1) (va_runV (As := []) (rest := []) ⟨hx, hb, hml, hown, hts⟩ (mt_X1_book l E cw oaA osA hsn hdA spA bfA lnA prA ep lt o sc ar ) (cwV 0 hts (lw_V q510 q512 qs3 q94 q513) rfl rfl rfl (by decide +kernel) ⟨Nat.le_of_ble_eq_true rfl, Nat.le_of_ble_eq_true rfl⟩) (PW_V hP hK (va_recv hK.1 hP (ci := 1) (q0 := 0) rfl rfl)) rfl rfl hl.1 rfl (lv_room (Nat.le_of_ble_eq_true rfl)) dX1_recipeCount_1 ⟨Nat.le_of_ble_eq_true rfl, Nat.le_of_ble_eq_true rfl⟩) ?_
  refine n_csi (x := m_recipes g) (va_runV (As := []) (rest := []) ⟨hx, hb, hml, hown, hts⟩ (mt_X3_count l E o sc ar  g (by assumption)) (cwV 0 hts (lw_V q514 q515 q516 q96 q517) rfl rfl rfl (by decide +kernel) ⟨Nat.le_of_ble_eq_true rfl, Nat.le_of_ble_eq_true rfl⟩) (PW_V (hP.sub (ws' := BW E o sc ar) [2, 3, 4, 5, 6, 7, 8, 9] rfl) hK (va_recv hK.1 hP (ci := 3) (q0 := 2) rfl rfl)) rfl rfl hl.1 rfl (lv_room (Nat.le_of_ble_eq_true rfl)) dX1_recipeCount_4 ⟨Nat.le_of_ble_eq_true rfl, Nat.le_of_ble_eq_true rfl⟩) ?_
  exact W.iret (v := iI (m_recipes g)) hx hb hr (fun tt_ ht_ hW_ => ⟨iI (m_recipes g), rfl, rfl, ht_⟩) (fun q h => by cases h) dX1_recipeCount_7
set_option maxHeartbeats 1000000 in
set_option maxRecDepth 100000 in
theorem mt_X1_hasRecipe (l : Launch) (E : EE) (cw : Nat) (oaA : Nat) (osA : Nat) (hsn : Int) (hdA : Nat) (spA : Nat) (bfA : Nat) (lnA : Nat) (prA : Nat) (ep : Int) (lt : Option Nat) (o : Nat → Nat) (sc : Nat → Int) (ar : Nat → Int → Int) (t : Int) (g : Int → Int) (hst : l.stackTraces = false) (hsr : SR g sc ar) (ht : 0 ≤ t ∧ t < 65536) (sz : Nat) : vx_Met l yX1_hasRecipe (ws_ yX1_hasRecipe cX1_hasRecipe 2 (some .boolean)) { frames := 8, cells := 1, slots := 6, locals := 132 } (va_Pc [.ref cw, iv t] (UX E (([(cw, .inr (1, [.ref (o 0), .ref oaA, .ref osA, iv hsn, .ref hdA, .ref spA, .ref bfA, .ref lnA, .ref prA, iv ep, va_rf lt]))] : va_W) ++ (SW E o sc ar)) sz)) (UQx E (fun u : Unit => c_tool t = 0) (fun u : Unit => b2 (m_has g (t - 97))) (fun u : Unit => ([(cw, .inr (1, [.ref (o 0), .ref oaA, .ref osA, iv hsn, .ref hdA, .ref spA, .ref bfA, .ref lnA, .ref prA, iv ep, va_rf lt]))] : va_W) ++ (SW E o sc ar)) (va_A (([(cw, .inr (1, [.ref (o 0), .ref oaA, .ref osA, iv hsn, .ref hdA, .ref spA, .ref bfA, .ref lnA, .ref prA, iv ep, va_rf lt]))] : va_W) ++ (SW E o sc ar)) sz)) (UXx E (fun (En : String) (u : Unit) => 0 < c_tool t ∧ En = nmX "java/lang/IllegalArgumentException" "" "" (c_tool t)) (fun u : Unit => ([(cw, .inr (1, [.ref (o 0), .ref oaA, .ref osA, iv hsn, .ref hdA, .ref spA, .ref bfA, .ref lnA, .ref prA, iv ep, va_rf lt]))] : va_W) ++ (SW E o sc ar)) (fun u : Unit => none) (va_A (([(cw, .inr (1, [.ref (o 0), .ref oaA, .ref osA, iv hsn, .ref hdA, .ref spA, .ref bfA, .ref lnA, .ref prA, iv ep, va_rf lt]))] : va_W) ++ (SW E o sc ar)) sz)) 1 6 (va_A (([(cw, .inr (1, [.ref (o 0), .ref oaA, .ref osA, iv hsn, .ref hdA, .ref spA, .ref bfA, .ref lnA, .ref prA, iv ep, va_rf lt]))] : va_W) ++ (SW E o sc ar)) sz) := by
  refine vx_ofW (cc := cX1_hasRecipe) (maxL := 2) (ret := (some .boolean)) (by decide) rfl ?_
  intro p e s m args below meth c s₁ B hml htb hv
  obtain ⟨rfl, hsz, hP, hK, hD0, hE⟩ := hv
  have hx := B.exec
  have hb := B.bytes
  have hr := B.returns
  have hts := atoms_spec (ws := (ws_ yX1_hasRecipe cX1_hasRecipe 2 (some .boolean))) B.pre
  have hts : ∀ w ∈ lw_all, w.before _ s = true := fun w h => hts w (List.mem_cons_of_mem _ h)
  have hown : s.vm.findClass RX1 = some m.cls := findClass_of_methodNamed B.named
  have hlocks := B.notSynchronized
  subst hsz
  have hD := hD0.self (sz := s.heap.size)
  generalize hAe : va_A (([(cw, .inr (1, [.ref (o 0), .ref oaA, .ref osA, iv hsn, .ref hdA, .ref spA, .ref bfA, .ref lnA, .ref prA, iv ep, va_rf lt]))] : va_W) ++ (SW E o sc ar)) s.heap.size = A at hD hE ⊢
  have hA : ∀ q : Nat, s.heap.size ≤ q → A q := fun q h => by rw [← hAe]; exact Or.inr h
  have hS : va_S A s.heap s.heap [] := va_S.rf
  have hl := lv_entry ([.ref cw, iv t]) (n := 2) (Nat.le_of_ble_eq_true rfl)
  rw [lg_entry_eq]
  generalize (lg_sl ([.ref cw, iv t]) ++ List.replicate (2 - (lg_sl ([.ref cw, iv t])).length) Slot.unset).toArray = ls at hl ⊢
  have hl : lv_has ls 2 [(0, .ref cw), (1, iv t)] := hl
  have hbr := hsr.br
  refine lv_aload_n hx hb dX1_hasRecipe_0 rfl (lv_at hl 0 rfl) ?_
  refine n_csr (x := o 1) (va_runV (As := []) (rest := []) ⟨hx, hb, hml, hown, hts⟩ (mt_X1_book l E cw oaA osA hsn hdA spA bfA lnA prA ep lt o sc ar ) (cwV 0 hts (lw_V q510 q512 qs3 q94 q513) rfl rfl rfl (by decide +kernel) ⟨Nat.le_of_ble_eq_true rfl, Nat.le_of_ble_eq_true rfl⟩) (PW_V hP hK (va_recv hK.1 hP (ci := 1) (q0 := 0) rfl rfl)) rfl rfl hl.1 rfl (lv_room (Nat.le_of_ble_eq_true rfl)) dX1_hasRecipe_1 ⟨Nat.le_of_ble_eq_true rfl, Nat.le_of_ble_eq_true rfl⟩) ?_
  refine va_getN (D := E.1) (ci := 3) (v := .ref (o 2)) (C := RX3) (T := TX3) (N := 7) hx hb hts in_X3 hown hK.1 hP 2 rfl rfl 0 (by decide) (hK.nw q155) (fun _ h9 => h9) rfl dX1_hasRecipe_4 ?_
  refine lv_iload_n hx hb dX1_hasRecipe_7 rfl (lv_at hl 1 rfl) ?_
  have hz_1 : s.heap.size ≤ s.heap.size := hS.1
  refine n_txS (x := fun u_2 => t - 97) (w2 := fun u_2 => ([(cw, .inr (1, [.ref (o 0), .ref oaA, .ref osA, iv hsn, .ref hdA, .ref spA, .ref bfA, .ref lnA, .ref prA, iv ep, va_rf lt]))] : va_W) ++ (SW E o sc ar)) (w3 := fun u_3 => ([(cw, .inr (1, [.ref (o 0), .ref oaA, .ref osA, iv hsn, .ref hdA, .ref spA, .ref bfA, .ref lnA, .ref prA, iv ep, va_rf lt]))] : va_W) ++ (SW E o sc ar)) (vx_runS (As := [iv t]) (rest := [.ref (o 2)]) ⟨hx, hb, hml, hown, hts⟩ (mt_X1_indexOf l E t (by exact hst) (by omega) _) (va_cwS 1 hts (lw_S q1052 q963 q94 q964) rfl rfl rfl (by decide +kernel) ⟨Nat.le_of_ble_eq_true rfl, Nat.le_of_ble_eq_true rfl⟩) (UX_S (hP.sub (ws' := []) [] rfl) hK (hD.sub (ws' := []) [] rfl rfl) hE hS (va_sub_free hD hS hA [] rfl)) rfl rfl hl.1 rfl (lv_room (Nat.le_of_ble_eq_true rfl)) dX1_hasRecipe_8 ⟨Nat.le_of_ble_eq_true rfl, Nat.le_of_ble_eq_true rfl⟩) hP hD hS hA [] [0, 1, 2, 3, 4, 5, 6, 7, 8, 9, 10, 11, 12, 13, 14, 15, 16, 17] [0, 1, 2, 3, 4, 5, 6, 7, 8, 9, 10, 11, 12, 13, 14, 15, 16, 17] [0, 1, 2, 3, 4, 5, 6, 7, 8, 9, 10, 11, 12, 13, 14, 15, 16, 17] rfl rfl rfl rfl rfl (fun _ => rfl) rfl (fun _ => rfl) ?_ ?_
  · intro En ce q9 u_3 H locs hCx hP hD hS hxf hq9 hce hcv hcl
    have hCx : En = "java/lang/IllegalArgumentException" ∧ ¬ (97 ≤ t ∧ t ≤ 104) := hCx
    have hP : va_P E.1 CL (([(cw, .inr (1, [.ref (o 0), .ref oaA, .ref osA, iv hsn, .ref hdA, .ref spA, .ref bfA, .ref lnA, .ref prA, iv ep, va_rf lt]))] : va_W) ++ (SW E o sc ar)) H := hP
    have hD : va_D A (([(cw, .inr (1, [.ref (o 0), .ref oaA, .ref osA, iv hsn, .ref hdA, .ref spA, .ref bfA, .ref lnA, .ref prA, iv ep, va_rf lt]))] : va_W) ++ (SW E o sc ar)) := hD
    exact n_out () (by exact cx_k (k := 1) (by exact c_tool_1 hCx.2) (by decide) hCx.1) hP hD hS hxf (Nat.le_trans hz_1 hq9) hce hcv hcl (fun x hx9 => (htb x hx9).elim) hlocks (Nat.le_of_ble_eq_true rfl) (Nat.le_of_ble_eq_true rfl)
  · intro u_2 H locs hC hP hD hS
    have hu_2 : 97 ≤ t ∧ t ≤ 104 := hC
    have hP : va_P E.1 CL (([(cw, .inr (1, [.ref (o 0), .ref oaA, .ref osA, iv hsn, .ref hdA, .ref spA, .ref bfA, .ref lnA, .ref prA, iv ep, va_rf lt]))] : va_W) ++ (SW E o sc ar)) H := hP
    have hD : va_D A (([(cw, .inr (1, [.ref (o 0), .ref oaA, .ref osA, iv hsn, .ref hdA, .ref spA, .ref bfA, .ref lnA, .ref prA, iv ep, va_rf lt]))] : va_W) ++ (SW E o sc ar)) := hD
    have hti := hu_2
    refine n_zald (f := ar 2) hx hb hK.1 hP 3 1 rfl rfl (by omega) (by decide) dX1_hasRecipe_11 ?_
    rw [hsr.br.has (t := t - 97) (by omega)]
    refine vx_ret ?_
    refine W.widen (k := 1) (n := 6) (Nat.le_of_ble_eq_true rfl) (Nat.le_of_ble_eq_true rfl) ?_
    exact W.zret (v := iI (b2 (m_has g (t - 97)))) hx hb hr (nr_b (b2_r _)) (fun tt_ ht_ hW_ => ⟨⟨iI (b2 (m_has g (t - 97))), (), rfl, ⟨by exact c_tool_0 hti, rfl⟩, by rw [ht_]; exact hP, hD⟩, hS.F ht_⟩) hS.2.2 dX1_hasRecipe_12
set_option maxHeartbeats 1000000 in
set_option maxRecDepth 100000 in
theorem mt_X1_scopeOf (l : Launch) (E : EE) (cw : Nat) (oaA : Nat) (osA : Nat) (hsn : Int) (hdA : Nat) (spA : Nat) (bfA : Nat) (lnA : Nat) (prA : Nat) (ep : Int) (lt : Option Nat) (o : Nat → Nat) (sc : Nat → Int) (ar : Nat → Int → Int) (t : Int) (g : Int → Int) (hst : l.stackTraces = false) (hsr : SR g sc ar) (ht : 0 ≤ t ∧ t < 65536) (hsc : SC g) (sz : Nat) : vx_Met l yX1_scopeOf (ws_ yX1_scopeOf cX1_scopeOf 2 (some .char)) { frames := 9, cells := 2, slots := 12, locals := 155 } (va_Pc [.ref cw, iv t] (UX E (([(cw, .inr (1, [.ref (o 0), .ref oaA, .ref osA, iv hsn, .ref hdA, .ref spA, .ref bfA, .ref lnA, .ref prA, iv ep, va_rf lt]))] : va_W) ++ (SW E o sc ar)) sz)) (UQx E (fun u : Unit => c_none g t = 0) (fun u : Unit => m_of g (t - 97) 0) (fun u : Unit => ([(cw, .inr (1, [.ref (o 0), .ref oaA, .ref osA, iv hsn, .ref hdA, .ref spA, .ref bfA, .ref lnA, .ref prA, iv ep, va_rf lt]))] : va_W) ++ (SW E o sc ar)) (va_A (([(cw, .inr (1, [.ref (o 0), .ref oaA, .ref osA, iv hsn, .ref hdA, .ref spA, .ref bfA, .ref lnA, .ref prA, iv ep, va_rf lt]))] : va_W) ++ (SW E o sc ar)) sz)) (UXx E (fun (En : String) (u : Unit) => 0 < c_none g t ∧ En = nmX "java/lang/IllegalArgumentException" "java/util/NoSuchElementException" "java/lang/IndexOutOfBoundsException" (c_none g t)) (fun u : Unit => ([(cw, .inr (1, [.ref (o 0), .ref oaA, .ref osA, iv hsn, .ref hdA, .ref spA, .ref bfA, .ref lnA, .ref prA, iv ep, va_rf lt]))] : va_W) ++ (SW E o sc ar)) (fun u : Unit => none) (va_A (([(cw, .inr (1, [.ref (o 0), .ref oaA, .ref osA, iv hsn, .ref hdA, .ref spA, .ref bfA, .ref lnA, .ref prA, iv ep, va_rf lt]))] : va_W) ++ (SW E o sc ar)) sz)) 2 12 (va_A (([(cw, .inr (1, [.ref (o 0), .ref oaA, .ref osA, iv hsn, .ref hdA, .ref spA, .ref bfA, .ref lnA, .ref prA, iv ep, va_rf lt]))] : va_W) ++ (SW E o sc ar)) sz) := by
  refine vx_ofW (cc := cX1_scopeOf) (maxL := 2) (ret := (some .char)) (by decide) rfl ?_
  intro p e s m args below meth c s₁ B hml htb hv
  obtain ⟨rfl, hsz, hP, hK, hD0, hE⟩ := hv
  have hx := B.exec
  have hb := B.bytes
  have hr := B.returns
  have hts := atoms_spec (ws := (ws_ yX1_scopeOf cX1_scopeOf 2 (some .char))) B.pre
  have hts : ∀ w ∈ lw_all, w.before _ s = true := fun w h => hts w (List.mem_cons_of_mem _ h)
  have hown : s.vm.findClass RX1 = some m.cls := findClass_of_methodNamed B.named
  have hlocks := B.notSynchronized
  subst hsz
  have hD := hD0.self (sz := s.heap.size)
  generalize hAe : va_A (([(cw, .inr (1, [.ref (o 0), .ref oaA, .ref osA, iv hsn, .ref hdA, .ref spA, .ref bfA, .ref lnA, .ref prA, iv ep, va_rf lt]))] : va_W) ++ (SW E o sc ar)) s.heap.size = A at hD hE ⊢
  have hA : ∀ q : Nat, s.heap.size ≤ q → A q := fun q h => by rw [← hAe]; exact Or.inr h
  have hS : va_S A s.heap s.heap [] := va_S.rf
  have hl := lv_entry ([.ref cw, iv t]) (n := 2) (Nat.le_of_ble_eq_true rfl)
  rw [lg_entry_eq]
  generalize (lg_sl ([.ref cw, iv t]) ++ List.replicate (2 - (lg_sl ([.ref cw, iv t])).length) Slot.unset).toArray = ls at hl ⊢
  have hl : lv_has ls 2 [(0, .ref cw), (1, iv t)] := hl
  have hbr := hsr.br
  refine lv_aload_n hx hb dX1_scopeOf_0 rfl (lv_at hl 0 rfl) ?_
  refine n_csr (x := o 1) (va_runV (As := []) (rest := []) ⟨hx, hb, hml, hown, hts⟩ (mt_X1_book l E cw oaA osA hsn hdA spA bfA lnA prA ep lt o sc ar ) (cwV 0 hts (lw_V q510 q512 qs3 q94 q513) rfl rfl rfl (by decide +kernel) ⟨Nat.le_of_ble_eq_true rfl, Nat.le_of_ble_eq_true rfl⟩) (PW_V hP hK (va_recv hK.1 hP (ci := 1) (q0 := 0) rfl rfl)) rfl rfl hl.1 rfl (lv_room (Nat.le_of_ble_eq_true rfl)) dX1_scopeOf_1 ⟨Nat.le_of_ble_eq_true rfl, Nat.le_of_ble_eq_true rfl⟩) ?_
  refine va_getN (D := E.1) (ci := 3) (v := .ref (o 3)) (C := RX3) (T := TX3) (N := 7) hx hb hts in_X3 hown hK.1 hP 2 rfl rfl 1 (by decide) (hK.nw q159) (fun _ h9 => h9) rfl dX1_scopeOf_4 ?_
  refine lv_aload_n hx hb dX1_scopeOf_7 rfl (lv_at hl 0 rfl) ?_
  refine lv_iload_n hx hb dX1_scopeOf_8 rfl (lv_at hl 1 rfl) ?_
  have hz_1 : s.heap.size ≤ s.heap.size := hS.1
  refine n_txS (x := fun u_2 => t - 97) (w2 := fun u_2 => ([(cw, .inr (1, [.ref (o 0), .ref oaA, .ref osA, iv hsn, .ref hdA, .ref spA, .ref bfA, .ref lnA, .ref prA, iv ep, va_rf lt]))] : va_W) ++ (SW E o sc ar)) (w3 := fun u_3 => ([(cw, .inr (1, [.ref (o 0), .ref oaA, .ref osA, iv hsn, .ref hdA, .ref spA, .ref bfA, .ref lnA, .ref prA, iv ep, va_rf lt]))] : va_W) ++ (SW E o sc ar)) (vx_runV (As := [iv t]) (rest := [.ref (o 3)]) ⟨hx, hb, hml, hown, hts⟩ (mt_X1_withRecipe l E cw oaA osA hsn hdA spA bfA lnA prA ep lt o sc ar t g (by exact hst) (by assumption) (by omega) _) (cwV 1 hts (lw_V q1060 q1062 qs19 q94 q1063) rfl rfl rfl (by decide +kernel) ⟨Nat.le_of_ble_eq_true rfl, Nat.le_of_ble_eq_true rfl⟩) (UX_V hP hK (hD) hE hS (va_A_in hD hS hA) (va_recv hK.1 hP (ci := 1) (q0 := 0) rfl rfl)) rfl rfl hl.1 rfl (lv_room (Nat.le_of_ble_eq_true rfl)) dX1_scopeOf_9 ⟨Nat.le_of_ble_eq_true rfl, Nat.le_of_ble_eq_true rfl⟩) hP hD hS hA [0, 1, 2, 3, 4, 5, 6, 7, 8, 9, 10, 11, 12, 13, 14, 15, 16, 17] [] [0, 1, 2, 3, 4, 5, 6, 7, 8, 9, 10, 11, 12, 13, 14, 15, 16, 17] [0, 1, 2, 3, 4, 5, 6, 7, 8, 9, 10, 11, 12, 13, 14, 15, 16, 17] rfl rfl rfl rfl rfl (fun _ => rfl) rfl (fun _ => rfl) ?_ ?_
  · intro En ce q9 u_3 H locs hCx hP hD hS hxf hq9 hce hcv hcl
    have hCx : 0 < c_none g t ∧ En = nmX "java/lang/IllegalArgumentException" "java/util/NoSuchElementException" "java/lang/IndexOutOfBoundsException" (c_none g t) := hCx
    have hP : va_P E.1 CL (([(cw, .inr (1, [.ref (o 0), .ref oaA, .ref osA, iv hsn, .ref hdA, .ref spA, .ref bfA, .ref lnA, .ref prA, iv ep, va_rf lt]))] : va_W) ++ (SW E o sc ar)) H := hP
    have hD : va_D A (([(cw, .inr (1, [.ref (o 0), .ref oaA, .ref osA, iv hsn, .ref hdA, .ref spA, .ref bfA, .ref lnA, .ref prA, iv ep, va_rf lt]))] : va_W) ++ (SW E o sc ar)) := hD
    exact n_out () (by exact hCx) hP hD hS hxf (Nat.le_trans hz_1 hq9) hce hcv hcl (fun x hx9 => (htb x hx9).elim) hlocks (Nat.le_of_ble_eq_true rfl) (Nat.le_of_ble_eq_true rfl)
  · intro u_2 H locs hC hP hD hS
    have hu_2 : c_none g t = 0 := hC
    have hP : va_P E.1 CL (([(cw, .inr (1, [.ref (o 0), .ref oaA, .ref osA, iv hsn, .ref hdA, .ref spA, .ref bfA, .ref lnA, .ref prA, iv ep, va_rf lt]))] : va_W) ++ (SW E o sc ar)) H := hP
    have hD : va_D A (([(cw, .inr (1, [.ref (o 0), .ref oaA, .ref osA, iv hsn, .ref hdA, .ref spA, .ref bfA, .ref lnA, .ref prA, iv ep, va_rf lt]))] : va_W) ++ (SW E o sc ar)) := hD
    have hz0 := hu_2
    obtain ⟨hti, hha⟩ := c_none_ok (g := g) (t := t) (by omega)
    refine n_cald (f := ar 3) hx hb hK.1 hP 4 2 rfl rfl (by omega) (by decide) dX1_scopeOf_12 ?_
    rw [hsr.br.sco (t := t - 97) (by omega) (by first | assumption | exact HN_pos hhn (t := t - 97) (by omega) (by omega))]
    have b_4 := hsc (t - 97) (by omega) (by omega)
    refine vx_ret ?_
    refine W.widen (k := 2) (n := 12) (Nat.le_of_ble_eq_true rfl) (Nat.le_of_ble_eq_true rfl) ?_
    exact W.zret (v := iI (m_of g (t - 97) 0)) hx hb hr (nr_c (by omega)) (fun tt_ ht_ hW_ => ⟨⟨iI (m_of g (t - 97) 0), (), rfl, ⟨by exact hz0, rfl⟩, by rw [ht_]; exact hP, hD⟩, hS.F ht_⟩) hS.2.2 dX1_scopeOf_13
set_option maxHeartbeats 1000000 in
set_option maxRecDepth 100000 in
theorem mt_X1_needCount (l : Launch) (E : EE) (cw : Nat) (oaA : Nat) (osA : Nat) (hsn : Int) (hdA : Nat) (spA : Nat) (bfA : Nat) (lnA : Nat) (prA : Nat) (ep : Int) (lt : Option Nat) (o : Nat → Nat) (sc : Nat → Int) (ar : Nat → Int → Int) (t : Int) (g : Int → Int) (hst : l.stackTraces = false) (hsr : SR g sc ar) (ht : 0 ≤ t ∧ t < 65536) (htw : TW g) (sz : Nat) : vx_Met l yX1_needCount (ws_ yX1_needCount cX1_needCount 2 (some .int)) { frames := 9, cells := 2, slots := 12, locals := 155 } (va_Pc [.ref cw, iv t] (UX E (([(cw, .inr (1, [.ref (o 0), .ref oaA, .ref osA, iv hsn, .ref hdA, .ref spA, .ref bfA, .ref lnA, .ref prA, iv ep, va_rf lt]))] : va_W) ++ (SW E o sc ar)) sz)) (UQx E (fun u : Unit => c_none g t = 0) (fun u : Unit => m_of g (t - 97) 2) (fun u : Unit => ([(cw, .inr (1, [.ref (o 0), .ref oaA, .ref osA, iv hsn, .ref hdA, .ref spA, .ref bfA, .ref lnA, .ref prA, iv ep, va_rf lt]))] : va_W) ++ (SW E o sc ar)) (va_A (([(cw, .inr (1, [.ref (o 0), .ref oaA, .ref osA, iv hsn, .ref hdA, .ref spA, .ref bfA, .ref lnA, .ref prA, iv ep, va_rf lt]))] : va_W) ++ (SW E o sc ar)) sz)) (UXx E (fun (En : String) (u : Unit) => 0 < c_none g t ∧ En = nmX "java/lang/IllegalArgumentException" "java/util/NoSuchElementException" "java/lang/IndexOutOfBoundsException" (c_none g t)) (fun u : Unit => ([(cw, .inr (1, [.ref (o 0), .ref oaA, .ref osA, iv hsn, .ref hdA, .ref spA, .ref bfA, .ref lnA, .ref prA, iv ep, va_rf lt]))] : va_W) ++ (SW E o sc ar)) (fun u : Unit => none) (va_A (([(cw, .inr (1, [.ref (o 0), .ref oaA, .ref osA, iv hsn, .ref hdA, .ref spA, .ref bfA, .ref lnA, .ref prA, iv ep, va_rf lt]))] : va_W) ++ (SW E o sc ar)) sz)) 2 12 (va_A (([(cw, .inr (1, [.ref (o 0), .ref oaA, .ref osA, iv hsn, .ref hdA, .ref spA, .ref bfA, .ref lnA, .ref prA, iv ep, va_rf lt]))] : va_W) ++ (SW E o sc ar)) sz) := by
  refine vx_ofW (cc := cX1_needCount) (maxL := 2) (ret := (some .int)) (by decide) rfl ?_
  intro p e s m args below meth c s₁ B hml htb hv
  obtain ⟨rfl, hsz, hP, hK, hD0, hE⟩ := hv
  have hx := B.exec
  have hb := B.bytes
  have hr := B.returns
  have hts := atoms_spec (ws := (ws_ yX1_needCount cX1_needCount 2 (some .int))) B.pre
  have hts : ∀ w ∈ lw_all, w.before _ s = true := fun w h => hts w (List.mem_cons_of_mem _ h)
  have hown : s.vm.findClass RX1 = some m.cls := findClass_of_methodNamed B.named
  have hlocks := B.notSynchronized
  subst hsz
  have hD := hD0.self (sz := s.heap.size)
  generalize hAe : va_A (([(cw, .inr (1, [.ref (o 0), .ref oaA, .ref osA, iv hsn, .ref hdA, .ref spA, .ref bfA, .ref lnA, .ref prA, iv ep, va_rf lt]))] : va_W) ++ (SW E o sc ar)) s.heap.size = A at hD hE ⊢
  have hA : ∀ q : Nat, s.heap.size ≤ q → A q := fun q h => by rw [← hAe]; exact Or.inr h
  have hS : va_S A s.heap s.heap [] := va_S.rf
  have hl := lv_entry ([.ref cw, iv t]) (n := 2) (Nat.le_of_ble_eq_true rfl)
  rw [lg_entry_eq]
  generalize (lg_sl ([.ref cw, iv t]) ++ List.replicate (2 - (lg_sl ([.ref cw, iv t])).length) Slot.unset).toArray = ls at hl ⊢
  have hl : lv_has ls 2 [(0, .ref cw), (1, iv t)] := hl
  have hbr := hsr.br
  refine lv_aload_n hx hb dX1_needCount_0 rfl (lv_at hl 0 rfl) ?_
  refine n_csr (x := o 1) (va_runV (As := []) (rest := []) ⟨hx, hb, hml, hown, hts⟩ (mt_X1_book l E cw oaA osA hsn hdA spA bfA lnA prA ep lt o sc ar ) (cwV 0 hts (lw_V q510 q512 qs3 q94 q513) rfl rfl rfl (by decide +kernel) ⟨Nat.le_of_ble_eq_true rfl, Nat.le_of_ble_eq_true rfl⟩) (PW_V hP hK (va_recv hK.1 hP (ci := 1) (q0 := 0) rfl rfl)) rfl rfl hl.1 rfl (lv_room (Nat.le_of_ble_eq_true rfl)) dX1_needCount_1 ⟨Nat.le_of_ble_eq_true rfl, Nat.le_of_ble_eq_true rfl⟩) ?_
  refine va_getN (D := E.1) (ci := 3) (v := .ref (o 5)) (C := RX3) (T := TX3) (N := 7) hx hb hts in_X3 hown hK.1 hP 2 rfl rfl 3 (by decide) (hK.nw q165) (fun _ h9 => h9) rfl dX1_needCount_4 ?_
  refine lv_aload_n hx hb dX1_needCount_7 rfl (lv_at hl 0 rfl) ?_
  refine lv_iload_n hx hb dX1_needCount_8 rfl (lv_at hl 1 rfl) ?_
  have hz_1 : s.heap.size ≤ s.heap.size := hS.1
  refine n_txS (x := fun u_2 => t - 97) (w2 := fun u_2 => ([(cw, .inr (1, [.ref (o 0), .ref oaA, .ref osA, iv hsn, .ref hdA, .ref spA, .ref bfA, .ref lnA, .ref prA, iv ep, va_rf lt]))] : va_W) ++ (SW E o sc ar)) (w3 := fun u_3 => ([(cw, .inr (1, [.ref (o 0), .ref oaA, .ref osA, iv hsn, .ref hdA, .ref spA, .ref bfA, .ref lnA, .ref prA, iv ep, va_rf lt]))] : va_W) ++ (SW E o sc ar)) (vx_runV (As := [iv t]) (rest := [.ref (o 5)]) ⟨hx, hb, hml, hown, hts⟩ (mt_X1_withRecipe l E cw oaA osA hsn hdA spA bfA lnA prA ep lt o sc ar t g (by exact hst) (by assumption) (by omega) _) (cwV 1 hts (lw_V q1060 q1062 qs19 q94 q1063) rfl rfl rfl (by decide +kernel) ⟨Nat.le_of_ble_eq_true rfl, Nat.le_of_ble_eq_true rfl⟩) (UX_V hP hK (hD) hE hS (va_A_in hD hS hA) (va_recv hK.1 hP (ci := 1) (q0 := 0) rfl rfl)) rfl rfl hl.1 rfl (lv_room (Nat.le_of_ble_eq_true rfl)) dX1_needCount_9 ⟨Nat.le_of_ble_eq_true rfl, Nat.le_of_ble_eq_true rfl⟩) hP hD hS hA [0, 1, 2, 3, 4, 5, 6, 7, 8, 9, 10, 11, 12, 13, 14, 15, 16, 17] [] [0, 1, 2, 3, 4, 5, 6, 7, 8, 9, 10, 11, 12, 13, 14, 15, 16, 17] [0, 1, 2, 3, 4, 5, 6, 7, 8, 9, 10, 11, 12, 13, 14, 15, 16, 17] rfl rfl rfl rfl rfl (fun _ => rfl) rfl (fun _ => rfl) ?_ ?_
  · intro En ce q9 u_3 H locs hCx hP hD hS hxf hq9 hce hcv hcl
    have hCx : 0 < c_none g t ∧ En = nmX "java/lang/IllegalArgumentException" "java/util/NoSuchElementException" "java/lang/IndexOutOfBoundsException" (c_none g t) := hCx
    have hP : va_P E.1 CL (([(cw, .inr (1, [.ref (o 0), .ref oaA, .ref osA, iv hsn, .ref hdA, .ref spA, .ref bfA, .ref lnA, .ref prA, iv ep, va_rf lt]))] : va_W) ++ (SW E o sc ar)) H := hP
    have hD : va_D A (([(cw, .inr (1, [.ref (o 0), .ref oaA, .ref osA, iv hsn, .ref hdA, .ref spA, .ref bfA, .ref lnA, .ref prA, iv ep, va_rf lt]))] : va_W) ++ (SW E o sc ar)) := hD
    exact n_out () (by exact hCx) hP hD hS hxf (Nat.le_trans hz_1 hq9) hce hcv hcl (fun x hx9 => (htb x hx9).elim) hlocks (Nat.le_of_ble_eq_true rfl) (Nat.le_of_ble_eq_true rfl)
  · intro u_2 H locs hC hP hD hS
    have hu_2 : c_none g t = 0 := hC
    have hP : va_P E.1 CL (([(cw, .inr (1, [.ref (o 0), .ref oaA, .ref osA, iv hsn, .ref hdA, .ref spA, .ref bfA, .ref lnA, .ref prA, iv ep, va_rf lt]))] : va_W) ++ (SW E o sc ar)) H := hP
    have hD : va_D A (([(cw, .inr (1, [.ref (o 0), .ref oaA, .ref osA, iv hsn, .ref hdA, .ref spA, .ref bfA, .ref lnA, .ref prA, iv ep, va_rf lt]))] : va_W) ++ (SW E o sc ar)) := hD
    have hz0 := hu_2
    obtain ⟨hti, hha⟩ := c_none_ok (g := g) (t := t) (by omega)
    refine n_iald (f := ar 5) hx hb hK.1 hP 6 0 rfl rfl (by omega) (by decide) dX1_needCount_12 ?_
    rw [hsr.br.cnt (t := t - 97) (by omega) (by first | assumption | exact HN_pos hhn (t := t - 97) (by omega) (by omega))]
    refine vx_ret ?_
    refine W.widen (k := 2) (n := 12) (Nat.le_of_ble_eq_true rfl) (Nat.le_of_ble_eq_true rfl) ?_
    exact W.iret (v := iI (m_of g (t - 97) 2)) hx hb hr (fun tt_ ht_ hW_ => ⟨⟨iI (m_of g (t - 97) 2), (), rfl, ⟨by exact hz0, rfl⟩, by rw [ht_]; exact hP, hD⟩, hS.F ht_⟩) hS.2.2 dX1_needCount_13
set_option maxHeartbeats 1000000 in
set_option maxRecDepth 100000 in
theorem mt_X1_needAt (l : Launch) (E : EE) (cw : Nat) (oaA : Nat) (osA : Nat) (hsn : Int) (hdA : Nat) (spA : Nat) (bfA : Nat) (lnA : Nat) (prA : Nat) (ep : Int) (lt : Option Nat) (o : Nat → Nat) (sc : Nat → Int) (ar : Nat → Int → Int) (t : Int) (q : Int) (g : Int → Int) (hst : l.stackTraces = false) (hsr : SR g sc ar) (ht : 0 ≤ t ∧ t < 65536) (hq : -2147483648 ≤ q ∧ q < 2147483648) (htw : TW g) (sz : Nat) : vx_Met l yX1_needAt (ws_ yX1_needAt cX1_needAt 3 (some .char)) { frames := 10, cells := 3, slots := 18, locals := 178 } (va_Pc [.ref cw, iv t, iv q] (UX E (([(cw, .inr (1, [.ref (o 0), .ref oaA, .ref osA, iv hsn, .ref hdA, .ref spA, .ref bfA, .ref lnA, .ref prA, iv ep, va_rf lt]))] : va_W) ++ (SW E o sc ar)) sz)) (UQx E (fun u : Unit => c_need g t q = 0) (fun u : Unit => 97 + m_need g (t - 97) q) (fun u : Unit => ([(cw, .inr (1, [.ref (o 0), .ref oaA, .ref osA, iv hsn, .ref hdA, .ref spA, .ref bfA, .ref lnA, .ref prA, iv ep, va_rf lt]))] : va_W) ++ (SW E o sc ar)) (va_A (([(cw, .inr (1, [.ref (o 0), .ref oaA, .ref osA, iv hsn, .ref hdA, .ref spA, .ref bfA, .ref lnA, .ref prA, iv ep, va_rf lt]))] : va_W) ++ (SW E o sc ar)) sz)) (UXx E (fun (En : String) (u : Unit) => 0 < c_need g t q ∧ En = nmX "java/lang/IllegalArgumentException" "java/util/NoSuchElementException" "java/lang/IndexOutOfBoundsException" (c_need g t q)) (fun u : Unit => ([(cw, .inr (1, [.ref (o 0), .ref oaA, .ref osA, iv hsn, .ref hdA, .ref spA, .ref bfA, .ref lnA, .ref prA, iv ep, va_rf lt]))] : va_W) ++ (SW E o sc ar)) (fun u : Unit => none) (va_A (([(cw, .inr (1, [.ref (o 0), .ref oaA, .ref osA, iv hsn, .ref hdA, .ref spA, .ref bfA, .ref lnA, .ref prA, iv ep, va_rf lt]))] : va_W) ++ (SW E o sc ar)) sz)) 3 18 (va_A (([(cw, .inr (1, [.ref (o 0), .ref oaA, .ref osA, iv hsn, .ref hdA, .ref spA, .ref bfA, .ref lnA, .ref prA, iv ep, va_rf lt]))] : va_W) ++ (SW E o sc ar)) sz) := by
  refine vx_ofW (cc := cX1_needAt) (maxL := 3) (ret := (some .char)) (by decide) rfl ?_
  intro p e s m args below meth c s₁ B hml htb hv
  obtain ⟨rfl, hsz, hP, hK, hD0, hE⟩ := hv
  have hx := B.exec
  have hb := B.bytes
  have hr := B.returns
  have hts := atoms_spec (ws := (ws_ yX1_needAt cX1_needAt 3 (some .char))) B.pre
  have hts : ∀ w ∈ lw_all, w.before _ s = true := fun w h => hts w (List.mem_cons_of_mem _ h)
  have hown : s.vm.findClass RX1 = some m.cls := findClass_of_methodNamed B.named
  have hlocks := B.notSynchronized
  subst hsz
  have hD := hD0.self (sz := s.heap.size)
  generalize hAe : va_A (([(cw, .inr (1, [.ref (o 0), .ref oaA, .ref osA, iv hsn, .ref hdA, .ref spA, .ref bfA, .ref lnA, .ref prA, iv ep, va_rf lt]))] : va_W) ++ (SW E o sc ar)) s.heap.size = A at hD hE ⊢
  have hA : ∀ q : Nat, s.heap.size ≤ q → A q := fun q h => by rw [← hAe]; exact Or.inr h
  have hS : va_S A s.heap s.heap [] := va_S.rf
  have hl := lv_entry ([.ref cw, iv t, iv q]) (n := 3) (Nat.le_of_ble_eq_true rfl)
  rw [lg_entry_eq]
  generalize (lg_sl ([.ref cw, iv t, iv q]) ++ List.replicate (3 - (lg_sl ([.ref cw, iv t, iv q])).length) Slot.unset).toArray = ls at hl ⊢
  have hl : lv_has ls 3 [(0, .ref cw), (1, iv t), (2, iv q)] := hl
  have hbr := hsr.br
  refine lv_aload_n hx hb dX1_needAt_0 rfl (lv_at hl 0 rfl) ?_
  refine n_csr (x := o 1) (va_runV (As := []) (rest := []) ⟨hx, hb, hml, hown, hts⟩ (mt_X1_book l E cw oaA osA hsn hdA spA bfA lnA prA ep lt o sc ar ) (cwV 0 hts (lw_V q510 q512 qs3 q94 q513) rfl rfl rfl (by decide +kernel) ⟨Nat.le_of_ble_eq_true rfl, Nat.le_of_ble_eq_true rfl⟩) (PW_V hP hK (va_recv hK.1 hP (ci := 1) (q0 := 0) rfl rfl)) rfl rfl hl.1 rfl (lv_room (Nat.le_of_ble_eq_true rfl)) dX1_needAt_1 ⟨Nat.le_of_ble_eq_true rfl, Nat.le_of_ble_eq_true rfl⟩) ?_
  refine lv_aload_n hx hb dX1_needAt_4 rfl (lv_at hl 0 rfl) ?_
  refine lv_iload_n hx hb dX1_needAt_5 rfl (lv_at hl 1 rfl) ?_
  refine lv_iload_n hx hb dX1_needAt_6 rfl (lv_at hl 2 rfl) ?_
  have hz_1 : s.heap.size ≤ s.heap.size := hS.1
  refine n_txS (x := fun u_2 => t - 97) (w2 := fun u_2 => ([(cw, .inr (1, [.ref (o 0), .ref oaA, .ref osA, iv hsn, .ref hdA, .ref spA, .ref bfA, .ref lnA, .ref prA, iv ep, va_rf lt]))] : va_W) ++ (SW E o sc ar)) (w3 := fun u_3 => ([(cw, .inr (1, [.ref (o 0), .ref oaA, .ref osA, iv hsn, .ref hdA, .ref spA, .ref bfA, .ref lnA, .ref prA, iv ep, va_rf lt]))] : va_W) ++ (SW E o sc ar)) (vx_runV (As := [iv t, iv q]) (rest := [.ref (o 1)]) ⟨hx, hb, hml, hown, hts⟩ (mt_X1_withNeed l E cw oaA osA hsn hdA spA bfA lnA prA ep lt o sc ar t q g (by exact hst) (by assumption) (by omega) (by omega) (by assumption) _) (cwV 2 hts (lw_V q1103 q1105 qs20 q94 q1106) rfl rfl rfl (by decide +kernel) ⟨Nat.le_of_ble_eq_true rfl, Nat.le_of_ble_eq_true rfl⟩) (UX_V hP hK (hD) hE hS (va_A_in hD hS hA) (va_recv hK.1 hP (ci := 1) (q0 := 0) rfl rfl)) rfl rfl hl.1 rfl (lv_room (Nat.le_of_ble_eq_true rfl)) dX1_needAt_7 ⟨Nat.le_of_ble_eq_true rfl, Nat.le_of_ble_eq_true rfl⟩) hP hD hS hA [0, 1, 2, 3, 4, 5, 6, 7, 8, 9, 10, 11, 12, 13, 14, 15, 16, 17] [] [0, 1, 2, 3, 4, 5, 6, 7, 8, 9, 10, 11, 12, 13, 14, 15, 16, 17] [0, 1, 2, 3, 4, 5, 6, 7, 8, 9, 10, 11, 12, 13, 14, 15, 16, 17] rfl rfl rfl rfl rfl (fun _ => rfl) rfl (fun _ => rfl) ?_ ?_
  · intro En ce q9 u_3 H locs hCx hP hD hS hxf hq9 hce hcv hcl
    have hCx : 0 < c_need g t q ∧ En = nmX "java/lang/IllegalArgumentException" "java/util/NoSuchElementException" "java/lang/IndexOutOfBoundsException" (c_need g t q) := hCx
    have hP : va_P E.1 CL (([(cw, .inr (1, [.ref (o 0), .ref oaA, .ref osA, iv hsn, .ref hdA, .ref spA, .ref bfA, .ref lnA, .ref prA, iv ep, va_rf lt]))] : va_W) ++ (SW E o sc ar)) H := hP
    have hD : va_D A (([(cw, .inr (1, [.ref (o 0), .ref oaA, .ref osA, iv hsn, .ref hdA, .ref spA, .ref bfA, .ref lnA, .ref prA, iv ep, va_rf lt]))] : va_W) ++ (SW E o sc ar)) := hD
    exact n_out () (by exact hCx) hP hD hS hxf (Nat.le_trans hz_1 hq9) hce hcv hcl (fun x hx9 => (htb x hx9).elim) hlocks (Nat.le_of_ble_eq_true rfl) (Nat.le_of_ble_eq_true rfl)
  · intro u_2 H locs hC hP hD hS
    have hu_2 : c_need g t q = 0 := hC
    have hP : va_P E.1 CL (([(cw, .inr (1, [.ref (o 0), .ref oaA, .ref osA, iv hsn, .ref hdA, .ref spA, .ref bfA, .ref lnA, .ref prA, iv ep, va_rf lt]))] : va_W) ++ (SW E o sc ar)) H := hP
    have hD : va_D A (([(cw, .inr (1, [.ref (o 0), .ref oaA, .ref osA, iv hsn, .ref hdA, .ref spA, .ref bfA, .ref lnA, .ref prA, iv ep, va_rf lt]))] : va_W) ++ (SW E o sc ar)) := hD
    have hz0 := hu_2
    obtain ⟨hti, hha, hp0, hp1⟩ := c_need_ok (g := g) (t := t) (p := q) (by omega)
    have hw9 := htw (t - 97) (by omega) (by omega)
    refine lv_iload_n hx hb dX1_needAt_10 rfl (lv_at hl 2 rfl) ?_
    refine n_csi (x := m_need g (t - 97) q) (va_runV (As := [iv (t - 97), iv q]) (rest := []) ⟨hx, hb, hml, hown, hts⟩ (mt_X3_need l E o sc ar (t - 97) q g (by omega) (by assumption) (by first | assumption | exact HN_pos hhn (t := t - 97) (by omega) (by omega)) (by omega) (by assumption)) (cwV 2 hts (lw_V q1125 q542 q543 q96 q544) rfl rfl rfl (by decide +kernel) ⟨Nat.le_of_ble_eq_true rfl, Nat.le_of_ble_eq_true rfl⟩) (PW_V (hP.sub (ws' := BW E o sc ar) [2, 3, 4, 5, 6, 7, 8, 9] rfl) hK (va_recv hK.1 hP (ci := 3) (q0 := 2) rfl rfl)) rfl rfl hl.1 rfl (lv_room (Nat.le_of_ble_eq_true rfl)) dX1_needAt_11 ⟨Nat.le_of_ble_eq_true rfl, Nat.le_of_ble_eq_true rfl⟩) ?_
    have b_4 := m_need_r g (t - 97) q
    refine n_csi (x := 97 + (m_need g (t - 97) q)) (va_runS (As := [iv (m_need g (t - 97) q)]) (rest := []) ⟨hx, hb, hml, hown, hts⟩ (mt_X1_letterOf l E (m_need g (t - 97) q) (by omega)) (va_cwS 1 hts (lw_S q1126 q1127 q94 q1128) rfl rfl rfl (by decide +kernel) ⟨Nat.le_of_ble_eq_true rfl, Nat.le_of_ble_eq_true rfl⟩) (PW_S (hP.sub (ws' := []) [] rfl) hK) rfl rfl hl.1 rfl (lv_room (Nat.le_of_ble_eq_true rfl)) dX1_needAt_14 ⟨Nat.le_of_ble_eq_true rfl, Nat.le_of_ble_eq_true rfl⟩) ?_
    have hfin : 97 + (m_need g (t - 97) q) = 97 + m_need g (t - 97) q := by
      first | rfl | omega
    refine vx_ret ?_
    refine W.widen (k := 3) (n := 18) (Nat.le_of_ble_eq_true rfl) (Nat.le_of_ble_eq_true rfl) ?_
    exact W.zret (v := iI (97 + (m_need g (t - 97) q))) hx hb hr (nr_c (by omega)) (fun tt_ ht_ hW_ => ⟨⟨iI (97 + (m_need g (t - 97) q)), (), rfl, ⟨by exact hz0, (congrArg iI hfin)⟩, by rw [ht_]; exact hP, hD⟩, hS.F ht_⟩) hS.2.2 dX1_needAt_17
set_option maxHeartbeats 1000000 in
set_option maxRecDepth 100000 in
theorem mt_X1_isLazyNeed (l : Launch) (E : EE) (cw : Nat) (oaA : Nat) (osA : Nat) (hsn : Int) (hdA : Nat) (spA : Nat) (bfA : Nat) (lnA : Nat) (prA : Nat) (ep : Int) (lt : Option Nat) (o : Nat → Nat) (sc : Nat → Int) (ar : Nat → Int → Int) (t : Int) (q : Int) (g : Int → Int) (hst : l.stackTraces = false) (hsr : SR g sc ar) (ht : 0 ≤ t ∧ t < 65536) (hq : -2147483648 ≤ q ∧ q < 2147483648) (htw : TW g) (sz : Nat) : vx_Met l yX1_isLazyNeed (ws_ yX1_isLazyNeed cX1_isLazyNeed 3 (some .boolean)) { frames := 10, cells := 3, slots := 18, locals := 178 } (va_Pc [.ref cw, iv t, iv q] (UX E (([(cw, .inr (1, [.ref (o 0), .ref oaA, .ref osA, iv hsn, .ref hdA, .ref spA, .ref bfA, .ref lnA, .ref prA, iv ep, va_rf lt]))] : va_W) ++ (SW E o sc ar)) sz)) (UQx E (fun u : Unit => c_need g t q = 0) (fun u : Unit => b2 (!(m_dir g (t - 97) q))) (fun u : Unit => ([(cw, .inr (1, [.ref (o 0), .ref oaA, .ref osA, iv hsn, .ref hdA, .ref spA, .ref bfA, .ref lnA, .ref prA, iv ep, va_rf lt]))] : va_W) ++ (SW E o sc ar)) (va_A (([(cw, .inr (1, [.ref (o 0), .ref oaA, .ref osA, iv hsn, .ref hdA, .ref spA, .ref bfA, .ref lnA, .ref prA, iv ep, va_rf lt]))] : va_W) ++ (SW E o sc ar)) sz)) (UXx E (fun (En : String) (u : Unit) => 0 < c_need g t q ∧ En = nmX "java/lang/IllegalArgumentException" "java/util/NoSuchElementException" "java/lang/IndexOutOfBoundsException" (c_need g t q)) (fun u : Unit => ([(cw, .inr (1, [.ref (o 0), .ref oaA, .ref osA, iv hsn, .ref hdA, .ref spA, .ref bfA, .ref lnA, .ref prA, iv ep, va_rf lt]))] : va_W) ++ (SW E o sc ar)) (fun u : Unit => none) (va_A (([(cw, .inr (1, [.ref (o 0), .ref oaA, .ref osA, iv hsn, .ref hdA, .ref spA, .ref bfA, .ref lnA, .ref prA, iv ep, va_rf lt]))] : va_W) ++ (SW E o sc ar)) sz)) 3 18 (va_A (([(cw, .inr (1, [.ref (o 0), .ref oaA, .ref osA, iv hsn, .ref hdA, .ref spA, .ref bfA, .ref lnA, .ref prA, iv ep, va_rf lt]))] : va_W) ++ (SW E o sc ar)) sz) := by
  refine vx_ofW (cc := cX1_isLazyNeed) (maxL := 3) (ret := (some .boolean)) (by decide) rfl ?_
  intro p e s m args below meth c s₁ B hml htb hv
  obtain ⟨rfl, hsz, hP, hK, hD0, hE⟩ := hv
  have hx := B.exec
  have hb := B.bytes
  have hr := B.returns
  have hts := atoms_spec (ws := (ws_ yX1_isLazyNeed cX1_isLazyNeed 3 (some .boolean))) B.pre
  have hts : ∀ w ∈ lw_all, w.before _ s = true := fun w h => hts w (List.mem_cons_of_mem _ h)
  have hown : s.vm.findClass RX1 = some m.cls := findClass_of_methodNamed B.named
  have hlocks := B.notSynchronized
  subst hsz
  have hD := hD0.self (sz := s.heap.size)
  generalize hAe : va_A (([(cw, .inr (1, [.ref (o 0), .ref oaA, .ref osA, iv hsn, .ref hdA, .ref spA, .ref bfA, .ref lnA, .ref prA, iv ep, va_rf lt]))] : va_W) ++ (SW E o sc ar)) s.heap.size = A at hD hE ⊢
  have hA : ∀ q : Nat, s.heap.size ≤ q → A q := fun q h => by rw [← hAe]; exact Or.inr h
  have hS : va_S A s.heap s.heap [] := va_S.rf
  have hl := lv_entry ([.ref cw, iv t, iv q]) (n := 3) (Nat.le_of_ble_eq_true rfl)
  rw [lg_entry_eq]
  generalize (lg_sl ([.ref cw, iv t, iv q]) ++ List.replicate (3 - (lg_sl ([.ref cw, iv t, iv q])).length) Slot.unset).toArray = ls at hl ⊢
  have hl : lv_has ls 3 [(0, .ref cw), (1, iv t), (2, iv q)] := hl
  have hbr := hsr.br
  refine lv_aload_n hx hb dX1_isLazyNeed_0 rfl (lv_at hl 0 rfl) ?_
  refine n_csr (x := o 1) (va_runV (As := []) (rest := []) ⟨hx, hb, hml, hown, hts⟩ (mt_X1_book l E cw oaA osA hsn hdA spA bfA lnA prA ep lt o sc ar ) (cwV 0 hts (lw_V q510 q512 qs3 q94 q513) rfl rfl rfl (by decide +kernel) ⟨Nat.le_of_ble_eq_true rfl, Nat.le_of_ble_eq_true rfl⟩) (PW_V hP hK (va_recv hK.1 hP (ci := 1) (q0 := 0) rfl rfl)) rfl rfl hl.1 rfl (lv_room (Nat.le_of_ble_eq_true rfl)) dX1_isLazyNeed_1 ⟨Nat.le_of_ble_eq_true rfl, Nat.le_of_ble_eq_true rfl⟩) ?_
  refine lv_aload_n hx hb dX1_isLazyNeed_4 rfl (lv_at hl 0 rfl) ?_
  refine lv_iload_n hx hb dX1_isLazyNeed_5 rfl (lv_at hl 1 rfl) ?_
  refine lv_iload_n hx hb dX1_isLazyNeed_6 rfl (lv_at hl 2 rfl) ?_
  have hz_1 : s.heap.size ≤ s.heap.size := hS.1
  refine n_txS (x := fun u_2 => t - 97) (w2 := fun u_2 => ([(cw, .inr (1, [.ref (o 0), .ref oaA, .ref osA, iv hsn, .ref hdA, .ref spA, .ref bfA, .ref lnA, .ref prA, iv ep, va_rf lt]))] : va_W) ++ (SW E o sc ar)) (w3 := fun u_3 => ([(cw, .inr (1, [.ref (o 0), .ref oaA, .ref osA, iv hsn, .ref hdA, .ref spA, .ref bfA, .ref lnA, .ref prA, iv ep, va_rf lt]))] : va_W) ++ (SW E o sc ar)) (vx_runV (As := [iv t, iv q]) (rest := [.ref (o 1)]) ⟨hx, hb, hml, hown, hts⟩ (mt_X1_withNeed l E cw oaA osA hsn hdA spA bfA lnA prA ep lt o sc ar t q g (by exact hst) (by assumption) (by omega) (by omega) (by assumption) _) (cwV 2 hts (lw_V q1103 q1105 qs20 q94 q1106) rfl rfl rfl (by decide +kernel) ⟨Nat.le_of_ble_eq_true rfl, Nat.le_of_ble_eq_true rfl⟩) (UX_V hP hK (hD) hE hS (va_A_in hD hS hA) (va_recv hK.1 hP (ci := 1) (q0 := 0) rfl rfl)) rfl rfl hl.1 rfl (lv_room (Nat.le_of_ble_eq_true rfl)) dX1_isLazyNeed_7 ⟨Nat.le_of_ble_eq_true rfl, Nat.le_of_ble_eq_true rfl⟩) hP hD hS hA [0, 1, 2, 3, 4, 5, 6, 7, 8, 9, 10, 11, 12, 13, 14, 15, 16, 17] [] [0, 1, 2, 3, 4, 5, 6, 7, 8, 9, 10, 11, 12, 13, 14, 15, 16, 17] [0, 1, 2, 3, 4, 5, 6, 7, 8, 9, 10, 11, 12, 13, 14, 15, 16, 17] rfl rfl rfl rfl rfl (fun _ => rfl) rfl (fun _ => rfl) ?_ ?_
  · intro En ce q9 u_3 H locs hCx hP hD hS hxf hq9 hce hcv hcl
    have hCx : 0 < c_need g t q ∧ En = nmX "java/lang/IllegalArgumentException" "java/util/NoSuchElementException" "java/lang/IndexOutOfBoundsException" (c_need g t q) := hCx
    have hP : va_P E.1 CL (([(cw, .inr (1, [.ref (o 0), .ref oaA, .ref osA, iv hsn, .ref hdA, .ref spA, .ref bfA, .ref lnA, .ref prA, iv ep, va_rf lt]))] : va_W) ++ (SW E o sc ar)) H := hP
    have hD : va_D A (([(cw, .inr (1, [.ref (o 0), .ref oaA, .ref osA, iv hsn, .ref hdA, .ref spA, .ref bfA, .ref lnA, .ref prA, iv ep, va_rf lt]))] : va_W) ++ (SW E o sc ar)) := hD
    exact n_out () (by exact hCx) hP hD hS hxf (Nat.le_trans hz_1 hq9) hce hcv hcl (fun x hx9 => (htb x hx9).elim) hlocks (Nat.le_of_ble_eq_true rfl) (Nat.le_of_ble_eq_true rfl)
  · intro u_2 H locs hC hP hD hS
    have hu_2 : c_need g t q = 0 := hC
    have hP : va_P E.1 CL (([(cw, .inr (1, [.ref (o 0), .ref oaA, .ref osA, iv hsn, .ref hdA, .ref spA, .ref bfA, .ref lnA, .ref prA, iv ep, va_rf lt]))] : va_W) ++ (SW E o sc ar)) H := hP
    have hD : va_D A (([(cw, .inr (1, [.ref (o 0), .ref oaA, .ref osA, iv hsn, .ref hdA, .ref spA, .ref bfA, .ref lnA, .ref prA, iv ep, va_rf lt]))] : va_W) ++ (SW E o sc ar)) := hD
    have hz0 := hu_2
    obtain ⟨hti, hha, hp0, hp1⟩ := c_need_ok (g := g) (t := t) (p := q) (by omega)
    have hw9 := htw (t - 97) (by omega) (by omega)
    refine lv_iload_n hx hb dX1_isLazyNeed_10 rfl (lv_at hl 2 rfl) ?_
    refine n_csi (x := b2 (!(m_dir g (t - 97) q))) (va_runV (As := [iv (t - 97), iv q]) (rest := []) ⟨hx, hb, hml, hown, hts⟩ (mt_X3_isLazy l E o sc ar (t - 97) q g (by omega) (by assumption) (by first | assumption | exact HN_pos hhn (t := t - 97) (by omega) (by omega)) (by omega) (by assumption)) (cwV 2 hts (lw_V q1136 q550 q551 q96 q552) rfl rfl rfl (by decide +kernel) ⟨Nat.le_of_ble_eq_true rfl, Nat.le_of_ble_eq_true rfl⟩) (PW_V (hP.sub (ws' := BW E o sc ar) [2, 3, 4, 5, 6, 7, 8, 9] rfl) hK (va_recv hK.1 hP (ci := 3) (q0 := 2) rfl rfl)) rfl rfl hl.1 rfl (lv_room (Nat.le_of_ble_eq_true rfl)) dX1_isLazyNeed_11 ⟨Nat.le_of_ble_eq_true rfl, Nat.le_of_ble_eq_true rfl⟩) ?_
    refine vx_ret ?_
    refine W.widen (k := 3) (n := 18) (Nat.le_of_ble_eq_true rfl) (Nat.le_of_ble_eq_true rfl) ?_
    exact W.zret (v := iI (b2 (!(m_dir g (t - 97) q)))) hx hb hr (nr_b (b2_r _)) (fun tt_ ht_ hW_ => ⟨⟨iI (b2 (!(m_dir g (t - 97) q))), (), rfl, ⟨by exact hz0, rfl⟩, by rw [ht_]; exact hP, hD⟩, hS.F ht_⟩) hS.2.2 dX1_isLazyNeed_14
set_option maxHeartbeats 1000000 in
set_option maxRecDepth 100000 in
theorem mt_X1_standInFor (l : Launch) (E : EE) (cw : Nat) (oaA : Nat) (osA : Nat) (hsn : Int) (hdA : Nat) (spA : Nat) (bfA : Nat) (lnA : Nat) (prA : Nat) (ep : Int) (lt : Option Nat) (o : Nat → Nat) (sc : Nat → Int) (ar : Nat → Int → Int) (t : Int) (g : Int → Int) (hst : l.stackTraces = false) (hsr : SR g sc ar) (ht : 0 ≤ t ∧ t < 65536) (hsw : SwOK g) (sz : Nat) : vx_Met l yX1_standInFor (ws_ yX1_standInFor cX1_standInFor 2 (some .char)) { frames := 8, cells := 1, slots := 6, locals := 132 } (va_Pc [.ref cw, iv t] (UX E (([(cw, .inr (1, [.ref (o 0), .ref oaA, .ref osA, iv hsn, .ref hdA, .ref spA, .ref bfA, .ref lnA, .ref prA, iv ep, va_rf lt]))] : va_W) ++ (SW E o sc ar)) sz)) (UQx E (fun u : Unit => c_tool t = 0) (fun u : Unit => 97 + m_stands g (t - 97)) (fun u : Unit => ([(cw, .inr (1, [.ref (o 0), .ref oaA, .ref osA, iv hsn, .ref hdA, .ref spA, .ref bfA, .ref lnA, .ref prA, iv ep, va_rf lt]))] : va_W) ++ (SW E o sc ar)) (va_A (([(cw, .inr (1, [.ref (o 0), .ref oaA, .ref osA, iv hsn, .ref hdA, .ref spA, .ref bfA, .ref lnA, .ref prA, iv ep, va_rf lt]))] : va_W) ++ (SW E o sc ar)) sz)) (UXx E (fun (En : String) (u : Unit) => 0 < c_tool t ∧ En = nmX "java/lang/IllegalArgumentException" "" "" (c_tool t)) (fun u : Unit => ([(cw, .inr (1, [.ref (o 0), .ref oaA, .ref osA, iv hsn, .ref hdA, .ref spA, .ref bfA, .ref lnA, .ref prA, iv ep, va_rf lt]))] : va_W) ++ (SW E o sc ar)) (fun u : Unit => none) (va_A (([(cw, .inr (1, [.ref (o 0), .ref oaA, .ref osA, iv hsn, .ref hdA, .ref spA, .ref bfA, .ref lnA, .ref prA, iv ep, va_rf lt]))] : va_W) ++ (SW E o sc ar)) sz)) 1 6 (va_A (([(cw, .inr (1, [.ref (o 0), .ref oaA, .ref osA, iv hsn, .ref hdA, .ref spA, .ref bfA, .ref lnA, .ref prA, iv ep, va_rf lt]))] : va_W) ++ (SW E o sc ar)) sz) := by
  refine vx_ofW (cc := cX1_standInFor) (maxL := 2) (ret := (some .char)) (by decide) rfl ?_
  intro p e s m args below meth c s₁ B hml htb hv
  obtain ⟨rfl, hsz, hP, hK, hD0, hE⟩ := hv
  have hx := B.exec
  have hb := B.bytes
  have hr := B.returns
  have hts := atoms_spec (ws := (ws_ yX1_standInFor cX1_standInFor 2 (some .char))) B.pre
  have hts : ∀ w ∈ lw_all, w.before _ s = true := fun w h => hts w (List.mem_cons_of_mem _ h)
  have hown : s.vm.findClass RX1 = some m.cls := findClass_of_methodNamed B.named
  have hlocks := B.notSynchronized
  subst hsz
  have hD := hD0.self (sz := s.heap.size)
  generalize hAe : va_A (([(cw, .inr (1, [.ref (o 0), .ref oaA, .ref osA, iv hsn, .ref hdA, .ref spA, .ref bfA, .ref lnA, .ref prA, iv ep, va_rf lt]))] : va_W) ++ (SW E o sc ar)) s.heap.size = A at hD hE ⊢
  have hA : ∀ q : Nat, s.heap.size ≤ q → A q := fun q h => by rw [← hAe]; exact Or.inr h
  have hS : va_S A s.heap s.heap [] := va_S.rf
  have hl := lv_entry ([.ref cw, iv t]) (n := 2) (Nat.le_of_ble_eq_true rfl)
  rw [lg_entry_eq]
  generalize (lg_sl ([.ref cw, iv t]) ++ List.replicate (2 - (lg_sl ([.ref cw, iv t])).length) Slot.unset).toArray = ls at hl ⊢
  have hl : lv_has ls 2 [(0, .ref cw), (1, iv t)] := hl
  have hbr := hsr.br
  refine lv_aload_n hx hb dX1_standInFor_0 rfl (lv_at hl 0 rfl) ?_
  refine n_csr (x := o 1) (va_runV (As := []) (rest := []) ⟨hx, hb, hml, hown, hts⟩ (mt_X1_book l E cw oaA osA hsn hdA spA bfA lnA prA ep lt o sc ar ) (cwV 0 hts (lw_V q510 q512 qs3 q94 q513) rfl rfl rfl (by decide +kernel) ⟨Nat.le_of_ble_eq_true rfl, Nat.le_of_ble_eq_true rfl⟩) (PW_V hP hK (va_recv hK.1 hP (ci := 1) (q0 := 0) rfl rfl)) rfl rfl hl.1 rfl (lv_room (Nat.le_of_ble_eq_true rfl)) dX1_standInFor_1 ⟨Nat.le_of_ble_eq_true rfl, Nat.le_of_ble_eq_true rfl⟩) ?_
  refine lv_iload_n hx hb dX1_standInFor_4 rfl (lv_at hl 1 rfl) ?_
  have hz_1 : s.heap.size ≤ s.heap.size := hS.1
  refine n_txS (x := fun u_2 => t - 97) (w2 := fun u_2 => ([(cw, .inr (1, [.ref (o 0), .ref oaA, .ref osA, iv hsn, .ref hdA, .ref spA, .ref bfA, .ref lnA, .ref prA, iv ep, va_rf lt]))] : va_W) ++ (SW E o sc ar)) (w3 := fun u_3 => ([(cw, .inr (1, [.ref (o 0), .ref oaA, .ref osA, iv hsn, .ref hdA, .ref spA, .ref bfA, .ref lnA, .ref prA, iv ep, va_rf lt]))] : va_W) ++ (SW E o sc ar)) (vx_runS (As := [iv t]) (rest := [.ref (o 1)]) ⟨hx, hb, hml, hown, hts⟩ (mt_X1_indexOf l E t (by exact hst) (by omega) _) (va_cwS 1 hts (lw_S q1052 q963 q94 q964) rfl rfl rfl (by decide +kernel) ⟨Nat.le_of_ble_eq_true rfl, Nat.le_of_ble_eq_true rfl⟩) (UX_S (hP.sub (ws' := []) [] rfl) hK (hD.sub (ws' := []) [] rfl rfl) hE hS (va_sub_free hD hS hA [] rfl)) rfl rfl hl.1 rfl (lv_room (Nat.le_of_ble_eq_true rfl)) dX1_standInFor_5 ⟨Nat.le_of_ble_eq_true rfl, Nat.le_of_ble_eq_true rfl⟩) hP hD hS hA [] [0, 1, 2, 3, 4, 5, 6, 7, 8, 9, 10, 11, 12, 13, 14, 15, 16, 17] [0, 1, 2, 3, 4, 5, 6, 7, 8, 9, 10, 11, 12, 13, 14, 15, 16, 17] [0, 1, 2, 3, 4, 5, 6, 7, 8, 9, 10, 11, 12, 13, 14, 15, 16, 17] rfl rfl rfl rfl rfl (fun _ => rfl) rfl (fun _ => rfl) ?_ ?_
  · intro En ce q9 u_3 H locs hCx hP hD hS hxf hq9 hce hcv hcl
    have hCx : En = "java/lang/IllegalArgumentException" ∧ ¬ (97 ≤ t ∧ t ≤ 104) := hCx
    have hP : va_P E.1 CL (([(cw, .inr (1, [.ref (o 0), .ref oaA, .ref osA, iv hsn, .ref hdA, .ref spA, .ref bfA, .ref lnA, .ref prA, iv ep, va_rf lt]))] : va_W) ++ (SW E o sc ar)) H := hP
    have hD : va_D A (([(cw, .inr (1, [.ref (o 0), .ref oaA, .ref osA, iv hsn, .ref hdA, .ref spA, .ref bfA, .ref lnA, .ref prA, iv ep, va_rf lt]))] : va_W) ++ (SW E o sc ar)) := hD
    exact n_out () (by exact cx_k (k := 1) (by exact c_tool_1 hCx.2) (by decide) hCx.1) hP hD hS hxf (Nat.le_trans hz_1 hq9) hce hcv hcl (fun x hx9 => (htb x hx9).elim) hlocks (Nat.le_of_ble_eq_true rfl) (Nat.le_of_ble_eq_true rfl)
  · intro u_2 H locs hC hP hD hS
    have hu_2 : 97 ≤ t ∧ t ≤ 104 := hC
    have hP : va_P E.1 CL (([(cw, .inr (1, [.ref (o 0), .ref oaA, .ref osA, iv hsn, .ref hdA, .ref spA, .ref bfA, .ref lnA, .ref prA, iv ep, va_rf lt]))] : va_W) ++ (SW E o sc ar)) H := hP
    have hD : va_D A (([(cw, .inr (1, [.ref (o 0), .ref oaA, .ref osA, iv hsn, .ref hdA, .ref spA, .ref bfA, .ref lnA, .ref prA, iv ep, va_rf lt]))] : va_W) ++ (SW E o sc ar)) := hD
    have hti := hu_2
    have hur := m_stands_r (t := t - 97) hsw (by omega)
    refine n_csi (x := m_stands g (t - 97)) (va_runV (As := [iv (t - 97)]) (rest := []) ⟨hx, hb, hml, hown, hts⟩ (mt_X3_standIn l E o sc ar (t - 97) g (by omega) (by assumption) (by assumption)) (cwV 1 hts (lw_V q1179 q546 q547 q96 q548) rfl rfl rfl (by decide +kernel) ⟨Nat.le_of_ble_eq_true rfl, Nat.le_of_ble_eq_true rfl⟩) (PW_V (hP.sub (ws' := BW E o sc ar) [2, 3, 4, 5, 6, 7, 8, 9] rfl) hK (va_recv hK.1 hP (ci := 3) (q0 := 2) rfl rfl)) rfl rfl hl.1 rfl (lv_room (Nat.le_of_ble_eq_true rfl)) dX1_standInFor_8 ⟨Nat.le_of_ble_eq_true rfl, Nat.le_of_ble_eq_true rfl⟩) ?_
    have b_4 := m_stands_r (g := g) (by assumption) (t := (t - 97)) (by omega)
    refine n_csi (x := 97 + (m_stands g (t - 97))) (va_runS (As := [iv (m_stands g (t - 97))]) (rest := []) ⟨hx, hb, hml, hown, hts⟩ (mt_X1_letterOf l E (m_stands g (t - 97)) (by omega)) (va_cwS 1 hts (lw_S q1126 q1127 q94 q1128) rfl rfl rfl (by decide +kernel) ⟨Nat.le_of_ble_eq_true rfl, Nat.le_of_ble_eq_true rfl⟩) (PW_S (hP.sub (ws' := []) [] rfl) hK) rfl rfl hl.1 rfl (lv_room (Nat.le_of_ble_eq_true rfl)) dX1_standInFor_11 ⟨Nat.le_of_ble_eq_true rfl, Nat.le_of_ble_eq_true rfl⟩) ?_
    have hfin : 97 + (m_stands g (t - 97)) = 97 + m_stands g (t - 97) := by
      first | rfl | omega
    refine vx_ret ?_
    refine W.widen (k := 1) (n := 6) (Nat.le_of_ble_eq_true rfl) (Nat.le_of_ble_eq_true rfl) ?_
    exact W.zret (v := iI (97 + (m_stands g (t - 97)))) hx hb hr (nr_c (by omega)) (fun tt_ ht_ hW_ => ⟨⟨iI (97 + (m_stands g (t - 97))), (), rfl, ⟨by exact c_tool_0 hti, (congrArg iI hfin)⟩, by rw [ht_]; exact hP, hD⟩, hS.F ht_⟩) hS.2.2 dX1_standInFor_14
set_option maxHeartbeats 1000000 in
set_option maxRecDepth 100000 in
theorem mt_X1_leadsToCount (l : Launch) (E : EE) (cw : Nat) (oaA : Nat) (osA : Nat) (hsn : Int) (hdA : Nat) (spA : Nat) (bfA : Nat) (lnA : Nat) (prA : Nat) (ep : Int) (lt : Option Nat) (o : Nat → Nat) (sc : Nat → Int) (ar : Nat → Int → Int) (t : Int) (g : Int → Int) (hst : l.stackTraces = false) (hsr : SR g sc ar) (ht : 0 ≤ t ∧ t < 65536) (hhn : HN g) (htw : TW g) (hsw : SwOK g) (sz : Nat) : vx_Met l yX1_leadsToCount (ws_ yX1_leadsToCount cX1_leadsToCount 2 (some .int)) { frames := 8, cells := 6, slots := 43, locals := 3119 } (va_Pc [.ref cw, iv t] (UX E (([(cw, .inr (1, [.ref (o 0), .ref oaA, .ref osA, iv hsn, .ref hdA, .ref spA, .ref bfA, .ref lnA, .ref prA, iv ep, va_rf lt]))] : va_W) ++ (SW E o sc ar)) sz)) (UQx E (fun u : Unit => c_tool t = 0) (fun u : Unit => sumI (fun k => b2 (m_reach g true (t - 97) k)) 8) (fun u : Unit => ([(cw, .inr (1, [.ref (o 0), .ref oaA, .ref osA, iv hsn, .ref hdA, .ref spA, .ref bfA, .ref lnA, .ref prA, iv ep, va_rf lt]))] : va_W) ++ (SW E o sc ar)) (va_A (([(cw, .inr (1, [.ref (o 0), .ref oaA, .ref osA, iv hsn, .ref hdA, .ref spA, .ref bfA, .ref lnA, .ref prA, iv ep, va_rf lt]))] : va_W) ++ (SW E o sc ar)) sz)) (UXx E (fun (En : String) (u : Unit) => 0 < c_tool t ∧ En = nmX "java/lang/IllegalArgumentException" "" "" (c_tool t)) (fun u : Unit => ([(cw, .inr (1, [.ref (o 0), .ref oaA, .ref osA, iv hsn, .ref hdA, .ref spA, .ref bfA, .ref lnA, .ref prA, iv ep, va_rf lt]))] : va_W) ++ (SW E o sc ar)) (fun u : Unit => none) (va_A (([(cw, .inr (1, [.ref (o 0), .ref oaA, .ref osA, iv hsn, .ref hdA, .ref spA, .ref bfA, .ref lnA, .ref prA, iv ep, va_rf lt]))] : va_W) ++ (SW E o sc ar)) sz)) 6 43 (va_A (([(cw, .inr (1, [.ref (o 0), .ref oaA, .ref osA, iv hsn, .ref hdA, .ref spA, .ref bfA, .ref lnA, .ref prA, iv ep, va_rf lt]))] : va_W) ++ (SW E o sc ar)) sz) := by
  refine vx_ofW (cc := cX1_leadsToCount) (maxL := 2) (ret := (some .int)) (by decide) rfl ?_
  intro p e s m args below meth c s₁ B hml htb hv
  obtain ⟨rfl, hsz, hP, hK, hD0, hE⟩ := hv
  have hx := B.exec
  have hb := B.bytes
  have hr := B.returns
  have hts := atoms_spec (ws := (ws_ yX1_leadsToCount cX1_leadsToCount 2 (some .int))) B.pre
  have hts : ∀ w ∈ lw_all, w.before _ s = true := fun w h => hts w (List.mem_cons_of_mem _ h)
  have hown : s.vm.findClass RX1 = some m.cls := findClass_of_methodNamed B.named
  have hlocks := B.notSynchronized
  subst hsz
  have hD := hD0.self (sz := s.heap.size)
  generalize hAe : va_A (([(cw, .inr (1, [.ref (o 0), .ref oaA, .ref osA, iv hsn, .ref hdA, .ref spA, .ref bfA, .ref lnA, .ref prA, iv ep, va_rf lt]))] : va_W) ++ (SW E o sc ar)) s.heap.size = A at hD hE ⊢
  have hA : ∀ q : Nat, s.heap.size ≤ q → A q := fun q h => by rw [← hAe]; exact Or.inr h
  have hS : va_S A s.heap s.heap [] := va_S.rf
  have hl := lv_entry ([.ref cw, iv t]) (n := 2) (Nat.le_of_ble_eq_true rfl)
  rw [lg_entry_eq]
  generalize (lg_sl ([.ref cw, iv t]) ++ List.replicate (2 - (lg_sl ([.ref cw, iv t])).length) Slot.unset).toArray = ls at hl ⊢
  have hl : lv_has ls 2 [(0, .ref cw), (1, iv t)] := hl
  have hbr := hsr.br
  refine lv_aload_n hx hb dX1_leadsToCount_0 rfl (lv_at hl 0 rfl) ?_
  refine n_csr (x := o 1) (va_runV (As := []) (rest := []) ⟨hx, hb, hml, hown, hts⟩ (mt_X1_book l E cw oaA osA hsn hdA spA bfA lnA prA ep lt o sc ar ) (cwV 0 hts (lw_V q510 q512 qs3 q94 q513) rfl rfl rfl (by decide +kernel) ⟨Nat.le_of_ble_eq_true rfl, Nat.le_of_ble_eq_true rfl⟩) (PW_V hP hK (va_recv hK.1 hP (ci := 1) (q0 := 0) rfl rfl)) rfl rfl hl.1 rfl (lv_room (Nat.le_of_ble_eq_true rfl)) dX1_leadsToCount_1 ⟨Nat.le_of_ble_eq_true rfl, Nat.le_of_ble_eq_true rfl⟩) ?_
  refine lv_iload_n hx hb dX1_leadsToCount_4 rfl (lv_at hl 1 rfl) ?_
  have hz_1 : s.heap.size ≤ s.heap.size := hS.1
  refine n_txS (x := fun u_2 => t - 97) (w2 := fun u_2 => ([(cw, .inr (1, [.ref (o 0), .ref oaA, .ref osA, iv hsn, .ref hdA, .ref spA, .ref bfA, .ref lnA, .ref prA, iv ep, va_rf lt]))] : va_W) ++ (SW E o sc ar)) (w3 := fun u_3 => ([(cw, .inr (1, [.ref (o 0), .ref oaA, .ref osA, iv hsn, .ref hdA, .ref spA, .ref bfA, .ref lnA, .ref prA, iv ep, va_rf lt]))] : va_W) ++ (SW E o sc ar)) (vx_runS (As := [iv t]) (rest := [.ref (o 1)]) ⟨hx, hb, hml, hown, hts⟩ (mt_X1_indexOf l E t (by exact hst) (by omega) _) (va_cwS 1 hts (lw_S q1052 q963 q94 q964) rfl rfl rfl (by decide +kernel) ⟨Nat.le_of_ble_eq_true rfl, Nat.le_of_ble_eq_true rfl⟩) (UX_S (hP.sub (ws' := []) [] rfl) hK (hD.sub (ws' := []) [] rfl rfl) hE hS (va_sub_free hD hS hA [] rfl)) rfl rfl hl.1 rfl (lv_room (Nat.le_of_ble_eq_true rfl)) dX1_leadsToCount_5 ⟨Nat.le_of_ble_eq_true rfl, Nat.le_of_ble_eq_true rfl⟩) hP hD hS hA [] [0, 1, 2, 3, 4, 5, 6, 7, 8, 9, 10, 11, 12, 13, 14, 15, 16, 17] [0, 1, 2, 3, 4, 5, 6, 7, 8, 9, 10, 11, 12, 13, 14, 15, 16, 17] [0, 1, 2, 3, 4, 5, 6, 7, 8, 9, 10, 11, 12, 13, 14, 15, 16, 17] rfl rfl rfl rfl rfl (fun _ => rfl) rfl (fun _ => rfl) ?_ ?_
  · intro En ce q9 u_3 H locs hCx hP hD hS hxf hq9 hce hcv hcl
    have hCx : En = "java/lang/IllegalArgumentException" ∧ ¬ (97 ≤ t ∧ t ≤ 104) := hCx
    have hP : va_P E.1 CL (([(cw, .inr (1, [.ref (o 0), .ref oaA, .ref osA, iv hsn, .ref hdA, .ref spA, .ref bfA, .ref lnA, .ref prA, iv ep, va_rf lt]))] : va_W) ++ (SW E o sc ar)) H := hP
    have hD : va_D A (([(cw, .inr (1, [.ref (o 0), .ref oaA, .ref osA, iv hsn, .ref hdA, .ref spA, .ref bfA, .ref lnA, .ref prA, iv ep, va_rf lt]))] : va_W) ++ (SW E o sc ar)) := hD
    exact n_out () (by exact cx_k (k := 1) (by exact c_tool_1 hCx.2) (by decide) hCx.1) hP hD hS hxf (Nat.le_trans hz_1 hq9) hce hcv hcl (fun x hx9 => (htb x hx9).elim) hlocks (Nat.le_of_ble_eq_true rfl) (Nat.le_of_ble_eq_true rfl)
  · intro u_2 H locs hC hP hD hS
    have hu_2 : 97 ≤ t ∧ t ≤ 104 := hC
    have hP : va_P E.1 CL (([(cw, .inr (1, [.ref (o 0), .ref oaA, .ref osA, iv hsn, .ref hdA, .ref spA, .ref bfA, .ref lnA, .ref prA, iv ep, va_rf lt]))] : va_W) ++ (SW E o sc ar)) H := hP
    have hD : va_D A (([(cw, .inr (1, [.ref (o 0), .ref oaA, .ref osA, iv hsn, .ref hdA, .ref spA, .ref bfA, .ref lnA, .ref prA, iv ep, va_rf lt]))] : va_W) ++ (SW E o sc ar)) := hD
    have hti := hu_2
    refine n_cuiS (x := sumI (fun k => b2 (m_reach g true (t - 97) k)) 8) (w2 := ([(cw, .inr (1, [.ref (o 0), .ref oaA, .ref osA, iv hsn, .ref hdA, .ref spA, .ref bfA, .ref lnA, .ref prA, iv ep, va_rf lt]))] : va_W) ++ (SW E o sc ar)) (va_runV (As := [iv (t - 97)]) (rest := []) ⟨hx, hb, hml, hown, hts⟩ (mt_X3_leadsToCount l E o sc ar (t - 97) g (by omega) (by assumption) (by assumption) (by assumption) (by assumption) _) (cwV 1 hts (lw_V q1187 q710 q711 q96 q712) rfl rfl rfl (by decide +kernel) ⟨Nat.le_of_ble_eq_true rfl, Nat.le_of_ble_eq_true rfl⟩) (UX_V (hP.sub (ws' := BW E o sc ar) [2, 3, 4, 5, 6, 7, 8, 9] rfl) hK (hD.sub (ws' := BW E o sc ar) [2, 3, 4, 5, 6, 7, 8, 9] rfl rfl) hE hS (va_sub_free hD hS hA [2, 3, 4, 5, 6, 7, 8, 9] rfl) (va_recv hK.1 hP (ci := 3) (q0 := 2) rfl rfl)) rfl rfl hl.1 rfl (lv_room (Nat.le_of_ble_eq_true rfl)) dX1_leadsToCount_8 ⟨Nat.le_of_ble_eq_true rfl, Nat.le_of_ble_eq_true rfl⟩) hP hD hS hA [2, 3, 4, 5, 6, 7, 8, 9] [0, 1, 10, 11, 12, 13, 14, 15, 16, 17] [0, 1, 10, 11, 12, 13, 14, 15, 16, 17, 2, 3, 4, 5, 6, 7, 8, 9] rfl rfl rfl rfl rfl rfl (fun H locs hP hD hS => ?_)
    have hP : va_P E.1 CL (([(cw, .inr (1, [.ref (o 0), .ref oaA, .ref osA, iv hsn, .ref hdA, .ref spA, .ref bfA, .ref lnA, .ref prA, iv ep, va_rf lt]))] : va_W) ++ (SW E o sc ar)) H := hP
    have hD : va_D A (([(cw, .inr (1, [.ref (o 0), .ref oaA, .ref osA, iv hsn, .ref hdA, .ref spA, .ref bfA, .ref lnA, .ref prA, iv ep, va_rf lt]))] : va_W) ++ (SW E o sc ar)) := hD
    refine vx_ret ?_
    refine W.widen (k := 6) (n := 43) (Nat.le_of_ble_eq_true rfl) (Nat.le_of_ble_eq_true rfl) ?_
    exact W.iret (v := iI (sumI (fun k => b2 (m_reach g true (t - 97) k)) 8)) hx hb hr (fun tt_ ht_ hW_ => ⟨⟨iI (sumI (fun k => b2 (m_reach g true (t - 97) k)) 8), (), rfl, ⟨by exact c_tool_0 hti, rfl⟩, by rw [ht_]; exact hP, hD⟩, hS.F ht_⟩) hS.2.2 dX1_leadsToCount_11
set_option maxHeartbeats 1000000 in
set_option maxRecDepth 100000 in
theorem mt_X1_leadsToByTable (l : Launch) (E : EE) (cw : Nat) (oaA : Nat) (osA : Nat) (hsn : Int) (hdA : Nat) (spA : Nat) (bfA : Nat) (lnA : Nat) (prA : Nat) (ep : Int) (lt : Option Nat) (o : Nat → Nat) (sc : Nat → Int) (ar : Nat → Int → Int) (t : Int) (g : Int → Int) (hst : l.stackTraces = false) (hsr : SR g sc ar) (ht : 0 ≤ t ∧ t < 65536) (hhn : HN g) (htw : TW g) (hsw : SwOK g) (sz : Nat) : vx_Met l yX1_leadsToByTable (ws_ yX1_leadsToByTable cX1_leadsToByTable 2 (some .int)) { frames := 8, cells := 11, slots := 79, locals := 3121 } (va_Pc [.ref cw, iv t] (UX E (([(cw, .inr (1, [.ref (o 0), .ref oaA, .ref osA, iv hsn, .ref hdA, .ref spA, .ref bfA, .ref lnA, .ref prA, iv ep, va_rf lt]))] : va_W) ++ (SW E o sc ar)) sz)) (UQx E (fun u : Unit => c_tool t = 0) (fun u : Unit => sumI (fun k => b2 (m_reach g true (t - 97) k)) 8) (fun u : Unit => ([(cw, .inr (1, [.ref (o 0), .ref oaA, .ref osA, iv hsn, .ref hdA, .ref spA, .ref bfA, .ref lnA, .ref prA, iv ep, va_rf lt]))] : va_W) ++ (SW E o sc ar)) (va_A (([(cw, .inr (1, [.ref (o 0), .ref oaA, .ref osA, iv hsn, .ref hdA, .ref spA, .ref bfA, .ref lnA, .ref prA, iv ep, va_rf lt]))] : va_W) ++ (SW E o sc ar)) sz)) (UXx E (fun (En : String) (u : Unit) => 0 < c_tool t ∧ En = nmX "java/lang/IllegalArgumentException" "" "" (c_tool t)) (fun u : Unit => ([(cw, .inr (1, [.ref (o 0), .ref oaA, .ref osA, iv hsn, .ref hdA, .ref spA, .ref bfA, .ref lnA, .ref prA, iv ep, va_rf lt]))] : va_W) ++ (SW E o sc ar)) (fun u : Unit => none) (va_A (([(cw, .inr (1, [.ref (o 0), .ref oaA, .ref osA, iv hsn, .ref hdA, .ref spA, .ref bfA, .ref lnA, .ref prA, iv ep, va_rf lt]))] : va_W) ++ (SW E o sc ar)) sz)) 11 79 (va_A (([(cw, .inr (1, [.ref (o 0), .ref oaA, .ref osA, iv hsn, .ref hdA, .ref spA, .ref bfA, .ref lnA, .ref prA, iv ep, va_rf lt]))] : va_W) ++ (SW E o sc ar)) sz) := by
  refine vx_ofW (cc := cX1_leadsToByTable) (maxL := 2) (ret := (some .int)) (by decide) rfl ?_
  intro p e s m args below meth c s₁ B hml htb hv
  obtain ⟨rfl, hsz, hP, hK, hD0, hE⟩ := hv
  have hx := B.exec
  have hb := B.bytes
  have hr := B.returns
  have hts := atoms_spec (ws := (ws_ yX1_leadsToByTable cX1_leadsToByTable 2 (some .int))) B.pre
  have hts : ∀ w ∈ lw_all, w.before _ s = true := fun w h => hts w (List.mem_cons_of_mem _ h)
  have hown : s.vm.findClass RX1 = some m.cls := findClass_of_methodNamed B.named
  have hlocks := B.notSynchronized
  subst hsz
  have hD := hD0.self (sz := s.heap.size)
  generalize hAe : va_A (([(cw, .inr (1, [.ref (o 0), .ref oaA, .ref osA, iv hsn, .ref hdA, .ref spA, .ref bfA, .ref lnA, .ref prA, iv ep, va_rf lt]))] : va_W) ++ (SW E o sc ar)) s.heap.size = A at hD hE ⊢
  have hA : ∀ q : Nat, s.heap.size ≤ q → A q := fun q h => by rw [← hAe]; exact Or.inr h
  have hS : va_S A s.heap s.heap [] := va_S.rf
  have hl := lv_entry ([.ref cw, iv t]) (n := 2) (Nat.le_of_ble_eq_true rfl)
  rw [lg_entry_eq]
  generalize (lg_sl ([.ref cw, iv t]) ++ List.replicate (2 - (lg_sl ([.ref cw, iv t])).length) Slot.unset).toArray = ls at hl ⊢
  have hl : lv_has ls 2 [(0, .ref cw), (1, iv t)] := hl
  have hbr := hsr.br
  refine lv_aload_n hx hb dX1_leadsToByTable_0 rfl (lv_at hl 0 rfl) ?_
  refine n_csr (x := o 1) (va_runV (As := []) (rest := []) ⟨hx, hb, hml, hown, hts⟩ (mt_X1_book l E cw oaA osA hsn hdA spA bfA lnA prA ep lt o sc ar ) (cwV 0 hts (lw_V q510 q512 qs3 q94 q513) rfl rfl rfl (by decide +kernel) ⟨Nat.le_of_ble_eq_true rfl, Nat.le_of_ble_eq_true rfl⟩) (PW_V hP hK (va_recv hK.1 hP (ci := 1) (q0 := 0) rfl rfl)) rfl rfl hl.1 rfl (lv_room (Nat.le_of_ble_eq_true rfl)) dX1_leadsToByTable_1 ⟨Nat.le_of_ble_eq_true rfl, Nat.le_of_ble_eq_true rfl⟩) ?_
  refine lv_iload_n hx hb dX1_leadsToByTable_4 rfl (lv_at hl 1 rfl) ?_
  have hz_1 : s.heap.size ≤ s.heap.size := hS.1
  refine n_txS (x := fun u_2 => t - 97) (w2 := fun u_2 => ([(cw, .inr (1, [.ref (o 0), .ref oaA, .ref osA, iv hsn, .ref hdA, .ref spA, .ref bfA, .ref lnA, .ref prA, iv ep, va_rf lt]))] : va_W) ++ (SW E o sc ar)) (w3 := fun u_3 => ([(cw, .inr (1, [.ref (o 0), .ref oaA, .ref osA, iv hsn, .ref hdA, .ref spA, .ref bfA, .ref lnA, .ref prA, iv ep, va_rf lt]))] : va_W) ++ (SW E o sc ar)) (vx_runS (As := [iv t]) (rest := [.ref (o 1)]) ⟨hx, hb, hml, hown, hts⟩ (mt_X1_indexOf l E t (by exact hst) (by omega) _) (va_cwS 1 hts (lw_S q1052 q963 q94 q964) rfl rfl rfl (by decide +kernel) ⟨Nat.le_of_ble_eq_true rfl, Nat.le_of_ble_eq_true rfl⟩) (UX_S (hP.sub (ws' := []) [] rfl) hK (hD.sub (ws' := []) [] rfl rfl) hE hS (va_sub_free hD hS hA [] rfl)) rfl rfl hl.1 rfl (lv_room (Nat.le_of_ble_eq_true rfl)) dX1_leadsToByTable_5 ⟨Nat.le_of_ble_eq_true rfl, Nat.le_of_ble_eq_true rfl⟩) hP hD hS hA [] [0, 1, 2, 3, 4, 5, 6, 7, 8, 9, 10, 11, 12, 13, 14, 15, 16, 17] [0, 1, 2, 3, 4, 5, 6, 7, 8, 9, 10, 11, 12, 13, 14, 15, 16, 17] [0, 1, 2, 3, 4, 5, 6, 7, 8, 9, 10, 11, 12, 13, 14, 15, 16, 17] rfl rfl rfl rfl rfl (fun _ => rfl) rfl (fun _ => rfl) ?_ ?_
  · intro En ce q9 u_3 H locs hCx hP hD hS hxf hq9 hce hcv hcl
    have hCx : En = "java/lang/IllegalArgumentException" ∧ ¬ (97 ≤ t ∧ t ≤ 104) := hCx
    have hP : va_P E.1 CL (([(cw, .inr (1, [.ref (o 0), .ref oaA, .ref osA, iv hsn, .ref hdA, .ref spA, .ref bfA, .ref lnA, .ref prA, iv ep, va_rf lt]))] : va_W) ++ (SW E o sc ar)) H := hP
    have hD : va_D A (([(cw, .inr (1, [.ref (o 0), .ref oaA, .ref osA, iv hsn, .ref hdA, .ref spA, .ref bfA, .ref lnA, .ref prA, iv ep, va_rf lt]))] : va_W) ++ (SW E o sc ar)) := hD
    exact n_out () (by exact cx_k (k := 1) (by exact c_tool_1 hCx.2) (by decide) hCx.1) hP hD hS hxf (Nat.le_trans hz_1 hq9) hce hcv hcl (fun x hx9 => (htb x hx9).elim) hlocks (Nat.le_of_ble_eq_true rfl) (Nat.le_of_ble_eq_true rfl)
  · intro u_2 H locs hC hP hD hS
    have hu_2 : 97 ≤ t ∧ t ≤ 104 := hC
    have hP : va_P E.1 CL (([(cw, .inr (1, [.ref (o 0), .ref oaA, .ref osA, iv hsn, .ref hdA, .ref spA, .ref bfA, .ref lnA, .ref prA, iv ep, va_rf lt]))] : va_W) ++ (SW E o sc ar)) H := hP
    have hD : va_D A (([(cw, .inr (1, [.ref (o 0), .ref oaA, .ref osA, iv hsn, .ref hdA, .ref spA, .ref bfA, .ref lnA, .ref prA, iv ep, va_rf lt]))] : va_W) ++ (SW E o sc ar)) := hD
    have hti := hu_2
    refine n_cuiS (x := sumI (fun k => b2 (m_reach g true (t - 97) k)) 8) (w2 := ([(cw, .inr (1, [.ref (o 0), .ref oaA, .ref osA, iv hsn, .ref hdA, .ref spA, .ref bfA, .ref lnA, .ref prA, iv ep, va_rf lt]))] : va_W) ++ (SW E o sc ar)) (va_runV (As := [iv (t - 97)]) (rest := []) ⟨hx, hb, hml, hown, hts⟩ (mt_X3_leadsToByTable l E o sc ar (t - 97) g (by omega) (by assumption) (by assumption) (by assumption) (by assumption) _) (cwV 1 hts (lw_V q1195 q714 q715 q96 q716) rfl rfl rfl (by decide +kernel) ⟨Nat.le_of_ble_eq_true rfl, Nat.le_of_ble_eq_true rfl⟩) (UX_V (hP.sub (ws' := BW E o sc ar) [2, 3, 4, 5, 6, 7, 8, 9] rfl) hK (hD.sub (ws' := BW E o sc ar) [2, 3, 4, 5, 6, 7, 8, 9] rfl rfl) hE hS (va_sub_free hD hS hA [2, 3, 4, 5, 6, 7, 8, 9] rfl) (va_recv hK.1 hP (ci := 3) (q0 := 2) rfl rfl)) rfl rfl hl.1 rfl (lv_room (Nat.le_of_ble_eq_true rfl)) dX1_leadsToByTable_8 ⟨Nat.le_of_ble_eq_true rfl, Nat.le_of_ble_eq_true rfl⟩) hP hD hS hA [2, 3, 4, 5, 6, 7, 8, 9] [0, 1, 10, 11, 12, 13, 14, 15, 16, 17] [0, 1, 10, 11, 12, 13, 14, 15, 16, 17, 2, 3, 4, 5, 6, 7, 8, 9] rfl rfl rfl rfl rfl rfl (fun H locs hP hD hS => ?_)
    have hP : va_P E.1 CL (([(cw, .inr (1, [.ref (o 0), .ref oaA, .ref osA, iv hsn, .ref hdA, .ref spA, .ref bfA, .ref lnA, .ref prA, iv ep, va_rf lt]))] : va_W) ++ (SW E o sc ar)) H := hP
    have hD : va_D A (([(cw, .inr (1, [.ref (o 0), .ref oaA, .ref osA, iv hsn, .ref hdA, .ref spA, .ref bfA, .ref lnA, .ref prA, iv ep, va_rf lt]))] : va_W) ++ (SW E o sc ar)) := hD
    refine vx_ret ?_
    refine W.widen (k := 11) (n := 79) (Nat.le_of_ble_eq_true rfl) (Nat.le_of_ble_eq_true rfl) ?_
    exact W.iret (v := iI (sumI (fun k => b2 (m_reach g true (t - 97) k)) 8)) hx hb hr (fun tt_ ht_ hW_ => ⟨⟨iI (sumI (fun k => b2 (m_reach g true (t - 97) k)) 8), (), rfl, ⟨by exact c_tool_0 hti, rfl⟩, by rw [ht_]; exact hP, hD⟩, hS.F ht_⟩) hS.2.2 dX1_leadsToByTable_11
set_option maxHeartbeats 1000000 in
set_option maxRecDepth 100000 in
theorem mt_X1_inCircles (l : Launch) (E : EE) (cw : Nat) (oaA : Nat) (osA : Nat) (hsn : Int) (hdA : Nat) (spA : Nat) (bfA : Nat) (lnA : Nat) (prA : Nat) (ep : Int) (lt : Option Nat) (o : Nat → Nat) (sc : Nat → Int) (ar : Nat → Int → Int)  (g : Int → Int) (hsr : SR g sc ar) (hhn : HN g) (htw : TW g) (hsw : SwOK g) (sz : Nat) : Met l yX1_inCircles (ws_ yX1_inCircles cX1_inCircles 1 (some .int)) { frames := 6, cells := 40, slots := 296, locals := 3115 } (va_Pc [.ref cw] (UX E (([(cw, .inr (1, [.ref (o 0), .ref oaA, .ref osA, iv hsn, .ref hdA, .ref spA, .ref bfA, .ref lnA, .ref prA, iv ep, va_rf lt]))] : va_W) ++ (SW E o sc ar)) sz)) (UQi E (sumI (fun k => b2 (m_reach g true k k)) 8) (([(cw, .inr (1, [.ref (o 0), .ref oaA, .ref osA, iv hsn, .ref hdA, .ref spA, .ref bfA, .ref lnA, .ref prA, iv ep, va_rf lt]))] : va_W) ++ (SW E o sc ar)) (va_A (([(cw, .inr (1, [.ref (o 0), .ref oaA, .ref osA, iv hsn, .ref hdA, .ref spA, .ref bfA, .ref lnA, .ref prA, iv ep, va_rf lt]))] : va_W) ++ (SW E o sc ar)) sz)) 40 296 (va_A (([(cw, .inr (1, [.ref (o 0), .ref oaA, .ref osA, iv hsn, .ref hdA, .ref spA, .ref bfA, .ref lnA, .ref prA, iv ep, va_rf lt]))] : va_W) ++ (SW E o sc ar)) sz) := by
  refine Met.ofW (cc := cX1_inCircles) (maxL := 1) (ret := (some .int)) (by decide) rfl ?_
  intro p e s m args below meth c s₁ B hml hv
  obtain ⟨rfl, hsz, hP, hK, hD0, hE⟩ := hv
  have hx := B.exec
  have hb := B.bytes
  have hr := B.returns
  have hts := atoms_spec (ws := (ws_ yX1_inCircles cX1_inCircles 1 (some .int))) B.pre
  have hts : ∀ w ∈ lw_all, w.before _ s = true := fun w h => hts w (List.mem_cons_of_mem _ h)
  have hown : s.vm.findClass RX1 = some m.cls := findClass_of_methodNamed B.named
  have hlocks := B.notSynchronized
  subst hsz
  have hD := hD0.self (sz := s.heap.size)
  generalize hAe : va_A (([(cw, .inr (1, [.ref (o 0), .ref oaA, .ref osA, iv hsn, .ref hdA, .ref spA, .ref bfA, .ref lnA, .ref prA, iv ep, va_rf lt]))] : va_W) ++ (SW E o sc ar)) s.heap.size = A at hD hE ⊢
  have hA : ∀ q : Nat, s.heap.size ≤ q → A q := fun q h => by rw [← hAe]; exact Or.inr h
  have hS : va_S A s.heap s.heap [] := va_S.rf
  have hl := lv_entry ([.ref cw]) (n := 1) (Nat.le_of_ble_eq_true rfl)
  rw [lg_entry_eq]
  generalize (lg_sl ([.ref cw]) ++ List.replicate (1 - (lg_sl ([.ref cw])).length) Slot.unset).toArray = ls at hl ⊢
  have hl : lv_has ls 1 [(0, .ref cw)] := hl
  have hbr := hsr.br
  refine lv_aload_n hx hb dX1_inCircles_0 rfl (lv_at hl 0 rfl) ?_
  refine n_csr (x := o 1) (va_runV (As := []) (rest := []) ⟨hx, hb, hml, hown, hts⟩ (mt_X1_book l E cw oaA osA hsn hdA spA bfA lnA prA ep lt o sc ar ) (cwV 0 hts (lw_V q510 q512 qs3 q94 q513) rfl rfl rfl (by decide +kernel) ⟨Nat.le_of_ble_eq_true rfl, Nat.le_of_ble_eq_true rfl⟩) (PW_V hP hK (va_recv hK.1 hP (ci := 1) (q0 := 0) rfl rfl)) rfl rfl hl.1 rfl (lv_room (Nat.le_of_ble_eq_true rfl)) dX1_inCircles_1 ⟨Nat.le_of_ble_eq_true rfl, Nat.le_of_ble_eq_true rfl⟩) ?_
  refine n_cuiS (x := sumI (fun k => b2 (m_reach g true k k)) 8) (w2 := ([(cw, .inr (1, [.ref (o 0), .ref oaA, .ref osA, iv hsn, .ref hdA, .ref spA, .ref bfA, .ref lnA, .ref prA, iv ep, va_rf lt]))] : va_W) ++ (SW E o sc ar)) (va_runV (As := []) (rest := []) ⟨hx, hb, hml, hown, hts⟩ (mt_X3_inCircles l E o sc ar  g (by assumption) (by assumption) (by assumption) (by assumption) _) (cwV 0 hts (lw_V q522 q523 q524 q96 q525) rfl rfl rfl (by decide +kernel) ⟨Nat.le_of_ble_eq_true rfl, Nat.le_of_ble_eq_true rfl⟩) (UX_V (hP.sub (ws' := BW E o sc ar) [2, 3, 4, 5, 6, 7, 8, 9] rfl) hK (hD.sub (ws' := BW E o sc ar) [2, 3, 4, 5, 6, 7, 8, 9] rfl rfl) hE hS (va_sub_free hD hS hA [2, 3, 4, 5, 6, 7, 8, 9] rfl) (va_recv hK.1 hP (ci := 3) (q0 := 2) rfl rfl)) rfl rfl hl.1 rfl (lv_room (Nat.le_of_ble_eq_true rfl)) dX1_inCircles_4 ⟨Nat.le_of_ble_eq_true rfl, Nat.le_of_ble_eq_true rfl⟩) hP hD hS hA [2, 3, 4, 5, 6, 7, 8, 9] [0, 1, 10, 11, 12, 13, 14, 15, 16, 17] [0, 1, 10, 11, 12, 13, 14, 15, 16, 17, 2, 3, 4, 5, 6, 7, 8, 9] rfl rfl rfl rfl rfl rfl (fun H locs hP hD hS => ?_)
  have hP : va_P E.1 CL (([(cw, .inr (1, [.ref (o 0), .ref oaA, .ref osA, iv hsn, .ref hdA, .ref spA, .ref bfA, .ref lnA, .ref prA, iv ep, va_rf lt]))] : va_W) ++ (SW E o sc ar)) H := hP
  have hD : va_D A (([(cw, .inr (1, [.ref (o 0), .ref oaA, .ref osA, iv hsn, .ref hdA, .ref spA, .ref bfA, .ref lnA, .ref prA, iv ep, va_rf lt]))] : va_W) ++ (SW E o sc ar)) := hD
  refine W.widen (k := 40) (n := 296) (Nat.le_of_ble_eq_true rfl) (Nat.le_of_ble_eq_true rfl) ?_
  exact W.iret (v := iI (sumI (fun k => b2 (m_reach g true k k)) 8)) hx hb hr (fun tt_ ht_ hW_ => ⟨⟨iI (sumI (fun k => b2 (m_reach g true k k)) 8), (), rfl, rfl, by rw [ht_]; exact hP, hD⟩, hS.F ht_⟩) hS.2.2 dX1_inCircles_7
set_option maxHeartbeats 1000000 in
set_option maxRecDepth 100000 in
theorem mt_X1_inCirclesBySets (l : Launch) (E : EE) (cw : Nat) (oaA : Nat) (osA : Nat) (hsn : Int) (hdA : Nat) (spA : Nat) (bfA : Nat) (lnA : Nat) (prA : Nat) (ep : Int) (lt : Option Nat) (o : Nat → Nat) (sc : Nat → Int) (ar : Nat → Int → Int)  (g : Int → Int) (hsr : SR g sc ar) (hhn : HN g) (htw : TW g) (hsw : SwOK g) (sz : Nat) : Met l yX1_inCirclesBySets (ws_ yX1_inCirclesBySets cX1_inCirclesBySets 1 (some .int)) { frames := 27, cells := 7, slots := 52, locals := 3113 } (va_Pc [.ref cw] (UX E (([(cw, .inr (1, [.ref (o 0), .ref oaA, .ref osA, iv hsn, .ref hdA, .ref spA, .ref bfA, .ref lnA, .ref prA, iv ep, va_rf lt]))] : va_W) ++ (SW E o sc ar)) sz)) (UQi E (sumI (fun k => b2 (m_reach g true k k)) 8) (([(cw, .inr (1, [.ref (o 0), .ref oaA, .ref osA, iv hsn, .ref hdA, .ref spA, .ref bfA, .ref lnA, .ref prA, iv ep, va_rf lt]))] : va_W) ++ (SW E o sc ar)) (va_A (([(cw, .inr (1, [.ref (o 0), .ref oaA, .ref osA, iv hsn, .ref hdA, .ref spA, .ref bfA, .ref lnA, .ref prA, iv ep, va_rf lt]))] : va_W) ++ (SW E o sc ar)) sz)) 7 52 (va_A (([(cw, .inr (1, [.ref (o 0), .ref oaA, .ref osA, iv hsn, .ref hdA, .ref spA, .ref bfA, .ref lnA, .ref prA, iv ep, va_rf lt]))] : va_W) ++ (SW E o sc ar)) sz) := by
  refine Met.ofW (cc := cX1_inCirclesBySets) (maxL := 1) (ret := (some .int)) (by decide) rfl ?_
  intro p e s m args below meth c s₁ B hml hv
  obtain ⟨rfl, hsz, hP, hK, hD0, hE⟩ := hv
  have hx := B.exec
  have hb := B.bytes
  have hr := B.returns
  have hts := atoms_spec (ws := (ws_ yX1_inCirclesBySets cX1_inCirclesBySets 1 (some .int))) B.pre
  have hts : ∀ w ∈ lw_all, w.before _ s = true := fun w h => hts w (List.mem_cons_of_mem _ h)
  have hown : s.vm.findClass RX1 = some m.cls := findClass_of_methodNamed B.named
  have hlocks := B.notSynchronized
  subst hsz
  have hD := hD0.self (sz := s.heap.size)
  generalize hAe : va_A (([(cw, .inr (1, [.ref (o 0), .ref oaA, .ref osA, iv hsn, .ref hdA, .ref spA, .ref bfA, .ref lnA, .ref prA, iv ep, va_rf lt]))] : va_W) ++ (SW E o sc ar)) s.heap.size = A at hD hE ⊢
  have hA : ∀ q : Nat, s.heap.size ≤ q → A q := fun q h => by rw [← hAe]; exact Or.inr h
  have hS : va_S A s.heap s.heap [] := va_S.rf
  have hl := lv_entry ([.ref cw]) (n := 1) (Nat.le_of_ble_eq_true rfl)
  rw [lg_entry_eq]
  generalize (lg_sl ([.ref cw]) ++ List.replicate (1 - (lg_sl ([.ref cw])).length) Slot.unset).toArray = ls at hl ⊢
  have hl : lv_has ls 1 [(0, .ref cw)] := hl
  have hbr := hsr.br
  refine lv_aload_n hx hb dX1_inCirclesBySets_0 rfl (lv_at hl 0 rfl) ?_
  refine n_csr (x := o 1) (va_runV (As := []) (rest := []) ⟨hx, hb, hml, hown, hts⟩ (mt_X1_book l E cw oaA osA hsn hdA spA bfA lnA prA ep lt o sc ar ) (cwV 0 hts (lw_V q510 q512 qs3 q94 q513) rfl rfl rfl (by decide +kernel) ⟨Nat.le_of_ble_eq_true rfl, Nat.le_of_ble_eq_true rfl⟩) (PW_V hP hK (va_recv hK.1 hP (ci := 1) (q0 := 0) rfl rfl)) rfl rfl hl.1 rfl (lv_room (Nat.le_of_ble_eq_true rfl)) dX1_inCirclesBySets_1 ⟨Nat.le_of_ble_eq_true rfl, Nat.le_of_ble_eq_true rfl⟩) ?_
  refine n_cuiS (x := sumI (fun k => b2 (m_reach g true k k)) 8) (w2 := ([(cw, .inr (1, [.ref (o 0), .ref oaA, .ref osA, iv hsn, .ref hdA, .ref spA, .ref bfA, .ref lnA, .ref prA, iv ep, va_rf lt]))] : va_W) ++ (SW E o sc ar)) (va_runV (As := []) (rest := []) ⟨hx, hb, hml, hown, hts⟩ (mt_X3_inCirclesBySets l E o sc ar  g (by assumption) (by assumption) (by assumption) (by assumption) _) (cwV 0 hts (lw_V q603 q604 q605 q96 q606) rfl rfl rfl (by decide +kernel) ⟨Nat.le_of_ble_eq_true rfl, Nat.le_of_ble_eq_true rfl⟩) (UX_V (hP.sub (ws' := BW E o sc ar) [2, 3, 4, 5, 6, 7, 8, 9] rfl) hK (hD.sub (ws' := BW E o sc ar) [2, 3, 4, 5, 6, 7, 8, 9] rfl rfl) hE hS (va_sub_free hD hS hA [2, 3, 4, 5, 6, 7, 8, 9] rfl) (va_recv hK.1 hP (ci := 3) (q0 := 2) rfl rfl)) rfl rfl hl.1 rfl (lv_room (Nat.le_of_ble_eq_true rfl)) dX1_inCirclesBySets_4 ⟨Nat.le_of_ble_eq_true rfl, Nat.le_of_ble_eq_true rfl⟩) hP hD hS hA [2, 3, 4, 5, 6, 7, 8, 9] [0, 1, 10, 11, 12, 13, 14, 15, 16, 17] [0, 1, 10, 11, 12, 13, 14, 15, 16, 17, 2, 3, 4, 5, 6, 7, 8, 9] rfl rfl rfl rfl rfl rfl (fun H locs hP hD hS => ?_)
  have hP : va_P E.1 CL (([(cw, .inr (1, [.ref (o 0), .ref oaA, .ref osA, iv hsn, .ref hdA, .ref spA, .ref bfA, .ref lnA, .ref prA, iv ep, va_rf lt]))] : va_W) ++ (SW E o sc ar)) H := hP
  have hD : va_D A (([(cw, .inr (1, [.ref (o 0), .ref oaA, .ref osA, iv hsn, .ref hdA, .ref spA, .ref bfA, .ref lnA, .ref prA, iv ep, va_rf lt]))] : va_W) ++ (SW E o sc ar)) := hD
  refine W.widen (k := 7) (n := 52) (Nat.le_of_ble_eq_true rfl) (Nat.le_of_ble_eq_true rfl) ?_
  exact W.iret (v := iI (sumI (fun k => b2 (m_reach g true k k)) 8)) hx hb hr (fun tt_ ht_ hW_ => ⟨⟨iI (sumI (fun k => b2 (m_reach g true k k)) 8), (), rfl, rfl, by rw [ht_]; exact hP, hD⟩, hS.F ht_⟩) hS.2.2 dX1_inCirclesBySets_7
set_option maxHeartbeats 1000000 in
set_option maxRecDepth 100000 in
theorem mt_X1_longestWay (l : Launch) (E : EE) (cw : Nat) (oaA : Nat) (osA : Nat) (hsn : Int) (hdA : Nat) (spA : Nat) (bfA : Nat) (lnA : Nat) (prA : Nat) (ep : Int) (lt : Option Nat) (o : Nat → Nat) (sc : Nat → Int) (ar : Nat → Int → Int) (t : Int) (g : Int → Int) (r : Int → Nat) (hst : l.stackTraces = false) (hsr : SR g sc ar) (ht : 0 ≤ t ∧ t < 65536) (hhn : HN g) (htw : TW g) (hsw : SwOK g) (htm : TM g) (hrk : RK g r) (hr8 : ∀ t, 0 ≤ t → t < 8 → r t < 8) (sz : Nat) : vx_Met l yX1_longestWay (ws_ yX1_longestWay cX1_longestWay 2 (some .int)) { frames := 10, cells := 2, slots := 12, locals := 238 } (va_Pc [.ref cw, iv t] (UX E (([(cw, .inr (1, [.ref (o 0), .ref oaA, .ref osA, iv hsn, .ref hdA, .ref spA, .ref bfA, .ref lnA, .ref prA, iv ep, va_rf lt]))] : va_W) ++ (SW E o sc ar)) sz)) (UQx E (fun u : Unit => c_way g t = 0) (fun u : Unit => m_lng g 8 (t - 97)) (fun u : Unit => ([(cw, .inr (1, [.ref (o 0), .ref oaA, .ref osA, iv hsn, .ref hdA, .ref spA, .ref bfA, .ref lnA, .ref prA, iv ep, va_rf lt]))] : va_W) ++ (SW E o sc ar)) (va_A (([(cw, .inr (1, [.ref (o 0), .ref oaA, .ref osA, iv hsn, .ref hdA, .ref spA, .ref bfA, .ref lnA, .ref prA, iv ep, va_rf lt]))] : va_W) ++ (SW E o sc ar)) sz)) (UXx E (fun (En : String) (u : Unit) => 0 < c_way g t ∧ En = nmX "java/lang/IllegalArgumentException" "java/util/NoSuchElementException" "" (c_way g t)) (fun u : Unit => ([(cw, .inr (1, [.ref (o 0), .ref oaA, .ref osA, iv hsn, .ref hdA, .ref spA, .ref bfA, .ref lnA, .ref prA, iv ep, va_rf lt]))] : va_W) ++ (SW E o sc ar)) (fun u : Unit => none) (va_A (([(cw, .inr (1, [.ref (o 0), .ref oaA, .ref osA, iv hsn, .ref hdA, .ref spA, .ref bfA, .ref lnA, .ref prA, iv ep, va_rf lt]))] : va_W) ++ (SW E o sc ar)) sz)) 2 12 (va_A (([(cw, .inr (1, [.ref (o 0), .ref oaA, .ref osA, iv hsn, .ref hdA, .ref spA, .ref bfA, .ref lnA, .ref prA, iv ep, va_rf lt]))] : va_W) ++ (SW E o sc ar)) sz) := by
  refine vx_ofW (cc := cX1_longestWay) (maxL := 2) (ret := (some .int)) (by decide) rfl ?_
  intro p e s m args below meth c s₁ B hml htb hv
  obtain ⟨rfl, hsz, hP, hK, hD0, hE⟩ := hv
  have hx := B.exec
  have hb := B.bytes
  have hr := B.returns
  have hts := atoms_spec (ws := (ws_ yX1_longestWay cX1_longestWay 2 (some .int))) B.pre
  have hts : ∀ w ∈ lw_all, w.before _ s = true := fun w h => hts w (List.mem_cons_of_mem _ h)
  have hown : s.vm.findClass RX1 = some m.cls := findClass_of_methodNamed B.named
  have hlocks := B.notSynchronized
  subst hsz
  have hD := hD0.self (sz := s.heap.size)
  generalize hAe : va_A (([(cw, .inr (1, [.ref (o 0), .ref oaA, .ref osA, iv hsn, .ref hdA, .ref spA, .ref bfA, .ref lnA, .ref prA, iv ep, va_rf lt]))] : va_W) ++ (SW E o sc ar)) s.heap.size = A at hD hE ⊢
  have hA : ∀ q : Nat, s.heap.size ≤ q → A q := fun q h => by rw [← hAe]; exact Or.inr h
  have hS : va_S A s.heap s.heap [] := va_S.rf
  have hl := lv_entry ([.ref cw, iv t]) (n := 2) (Nat.le_of_ble_eq_true rfl)
  rw [lg_entry_eq]
  generalize (lg_sl ([.ref cw, iv t]) ++ List.replicate (2 - (lg_sl ([.ref cw, iv t])).length) Slot.unset).toArray = ls at hl ⊢
  have hl : lv_has ls 2 [(0, .ref cw), (1, iv t)] := hl
  have hbr := hsr.br
  refine lv_aload_n hx hb dX1_longestWay_0 rfl (lv_at hl 0 rfl) ?_
  refine n_csr (x := o 1) (va_runV (As := []) (rest := []) ⟨hx, hb, hml, hown, hts⟩ (mt_X1_book l E cw oaA osA hsn hdA spA bfA lnA prA ep lt o sc ar ) (cwV 0 hts (lw_V q510 q512 qs3 q94 q513) rfl rfl rfl (by decide +kernel) ⟨Nat.le_of_ble_eq_true rfl, Nat.le_of_ble_eq_true rfl⟩) (PW_V hP hK (va_recv hK.1 hP (ci := 1) (q0 := 0) rfl rfl)) rfl rfl hl.1 rfl (lv_room (Nat.le_of_ble_eq_true rfl)) dX1_longestWay_1 ⟨Nat.le_of_ble_eq_true rfl, Nat.le_of_ble_eq_true rfl⟩) ?_
  refine lv_iload_n hx hb dX1_longestWay_4 rfl (lv_at hl 1 rfl) ?_
  have hz_1 : s.heap.size ≤ s.heap.size := hS.1
  refine n_txS (x := fun u_2 => t - 97) (w2 := fun u_2 => ([(cw, .inr (1, [.ref (o 0), .ref oaA, .ref osA, iv hsn, .ref hdA, .ref spA, .ref bfA, .ref lnA, .ref prA, iv ep, va_rf lt]))] : va_W) ++ (SW E o sc ar)) (w3 := fun u_3 => ([(cw, .inr (1, [.ref (o 0), .ref oaA, .ref osA, iv hsn, .ref hdA, .ref spA, .ref bfA, .ref lnA, .ref prA, iv ep, va_rf lt]))] : va_W) ++ (SW E o sc ar)) (vx_runS (As := [iv t]) (rest := [.ref (o 1)]) ⟨hx, hb, hml, hown, hts⟩ (mt_X1_indexOf l E t (by exact hst) (by omega) _) (va_cwS 1 hts (lw_S q1052 q963 q94 q964) rfl rfl rfl (by decide +kernel) ⟨Nat.le_of_ble_eq_true rfl, Nat.le_of_ble_eq_true rfl⟩) (UX_S (hP.sub (ws' := []) [] rfl) hK (hD.sub (ws' := []) [] rfl rfl) hE hS (va_sub_free hD hS hA [] rfl)) rfl rfl hl.1 rfl (lv_room (Nat.le_of_ble_eq_true rfl)) dX1_longestWay_5 ⟨Nat.le_of_ble_eq_true rfl, Nat.le_of_ble_eq_true rfl⟩) hP hD hS hA [] [0, 1, 2, 3, 4, 5, 6, 7, 8, 9, 10, 11, 12, 13, 14, 15, 16, 17] [0, 1, 2, 3, 4, 5, 6, 7, 8, 9, 10, 11, 12, 13, 14, 15, 16, 17] [0, 1, 2, 3, 4, 5, 6, 7, 8, 9, 10, 11, 12, 13, 14, 15, 16, 17] rfl rfl rfl rfl rfl (fun _ => rfl) rfl (fun _ => rfl) ?_ ?_
  · intro En ce q9 u_3 H locs hCx hP hD hS hxf hq9 hce hcv hcl
    have hCx : En = "java/lang/IllegalArgumentException" ∧ ¬ (97 ≤ t ∧ t ≤ 104) := hCx
    have hP : va_P E.1 CL (([(cw, .inr (1, [.ref (o 0), .ref oaA, .ref osA, iv hsn, .ref hdA, .ref spA, .ref bfA, .ref lnA, .ref prA, iv ep, va_rf lt]))] : va_W) ++ (SW E o sc ar)) H := hP
    have hD : va_D A (([(cw, .inr (1, [.ref (o 0), .ref oaA, .ref osA, iv hsn, .ref hdA, .ref spA, .ref bfA, .ref lnA, .ref prA, iv ep, va_rf lt]))] : va_W) ++ (SW E o sc ar)) := hD
    exact n_out () (by exact cx_k (k := 1) (by exact c_way_1 hCx.2) (by decide) hCx.1) hP hD hS hxf (Nat.le_trans hz_1 hq9) hce hcv hcl (fun x hx9 => (htb x hx9).elim) hlocks (Nat.le_of_ble_eq_true rfl) (Nat.le_of_ble_eq_true rfl)
  · intro u_2 H locs hC hP hD hS
    have hu_2 : 97 ≤ t ∧ t ≤ 104 := hC
    have hP : va_P E.1 CL (([(cw, .inr (1, [.ref (o 0), .ref oaA, .ref osA, iv hsn, .ref hdA, .ref spA, .ref bfA, .ref lnA, .ref prA, iv ep, va_rf lt]))] : va_W) ++ (SW E o sc ar)) H := hP
    have hD : va_D A (([(cw, .inr (1, [.ref (o 0), .ref oaA, .ref osA, iv hsn, .ref hdA, .ref spA, .ref bfA, .ref lnA, .ref prA, iv ep, va_rf lt]))] : va_W) ++ (SW E o sc ar)) := hD
    have hti := hu_2
    have hwc := way_cases htw hsw htm hrk hr8 hti
    have hr9 := hr8 (t - 97) (by omega) (by omega)
    have hlr := k_lng_r htw hsw htm 8 (t - 97) (by omega) (by omega)
    refine n_csi (x := k_lng g 8 (t - 97)) (va_runV (As := [iv (t - 97)]) (rest := []) ⟨hx, hb, hml, hown, hts⟩ (mt_X3_longest l E 8 o sc ar (t - 97) g r (by omega) (by assumption) (by assumption) (by assumption) (by assumption) (by assumption) (by assumption) (by exact hr9) (by omega)) (cwV 1 hts (lw_V q1203 q720 q721 q96 q722) rfl rfl rfl (by decide +kernel) ⟨Nat.le_of_ble_eq_true rfl, Nat.le_of_ble_eq_true rfl⟩) (PW_V (hP.sub (ws' := BW E o sc ar) [2, 3, 4, 5, 6, 7, 8, 9] rfl) hK (va_recv hK.1 hP (ci := 3) (q0 := 2) rfl rfl)) rfl rfl hl.1 rfl (lv_room (Nat.le_of_ble_eq_true rfl)) dX1_longestWay_8 ⟨Nat.le_of_ble_eq_true rfl, Nat.le_of_ble_eq_true rfl⟩) ?_
    have b_4 := k_lng_r (g := g) (by assumption) (by assumption) (by assumption) 8 (t - 97) (by omega) (by omega)
    have hz_5 : s.heap.size ≤ H.size := hS.1
    refine n_txS (x := fun u_6 => k_lng g 8 (t - 97)) (w2 := fun u_6 => ([(cw, .inr (1, [.ref (o 0), .ref oaA, .ref osA, iv hsn, .ref hdA, .ref spA, .ref bfA, .ref lnA, .ref prA, iv ep, va_rf lt]))] : va_W) ++ (SW E o sc ar)) (w3 := fun u_7 => ([(cw, .inr (1, [.ref (o 0), .ref oaA, .ref osA, iv hsn, .ref hdA, .ref spA, .ref bfA, .ref lnA, .ref prA, iv ep, va_rf lt]))] : va_W) ++ (SW E o sc ar)) (vx_runS (As := [iv (k_lng g 8 (t - 97))]) (rest := []) ⟨hx, hb, hml, hown, hts⟩ (mt_X1_found l E (k_lng g 8 (t - 97)) (by exact hst) (by omega) _) (va_cwS 1 hts (lw_S q1204 q1038 q94 q1039) rfl rfl rfl (by decide +kernel) ⟨Nat.le_of_ble_eq_true rfl, Nat.le_of_ble_eq_true rfl⟩) (UX_S (hP.sub (ws' := []) [] rfl) hK (hD.sub (ws' := []) [] rfl rfl) hE hS (va_sub_free hD hS hA [] rfl)) rfl rfl hl.1 rfl (lv_room (Nat.le_of_ble_eq_true rfl)) dX1_longestWay_11 ⟨Nat.le_of_ble_eq_true rfl, Nat.le_of_ble_eq_true rfl⟩) hP hD hS hA [] [0, 1, 2, 3, 4, 5, 6, 7, 8, 9, 10, 11, 12, 13, 14, 15, 16, 17] [0, 1, 2, 3, 4, 5, 6, 7, 8, 9, 10, 11, 12, 13, 14, 15, 16, 17] [0, 1, 2, 3, 4, 5, 6, 7, 8, 9, 10, 11, 12, 13, 14, 15, 16, 17] rfl rfl rfl rfl rfl (fun _ => rfl) rfl (fun _ => rfl) ?_ ?_
    · intro En ce q9 u_7 H locs hCx hP hD hS hxf hq9 hce hcv hcl
      have hCx : En = "java/util/NoSuchElementException" ∧ (k_lng g 8 (t - 97)) = -1 := hCx
      have hP : va_P E.1 CL (([(cw, .inr (1, [.ref (o 0), .ref oaA, .ref osA, iv hsn, .ref hdA, .ref spA, .ref bfA, .ref lnA, .ref prA, iv ep, va_rf lt]))] : va_W) ++ (SW E o sc ar)) H := hP
      have hD : va_D A (([(cw, .inr (1, [.ref (o 0), .ref oaA, .ref osA, iv hsn, .ref hdA, .ref spA, .ref bfA, .ref lnA, .ref prA, iv ep, va_rf lt]))] : va_W) ++ (SW E o sc ar)) := hD
      exact n_out () (by exact cx_k (k := 2) (by exact hwc.elim (fun h => absurd hCx.2 (by omega)) (fun h => h.1)) (by decide) hCx.1) hP hD hS hxf (Nat.le_trans hz_5 hq9) hce hcv hcl (fun x hx9 => (htb x hx9).elim) hlocks (Nat.le_of_ble_eq_true rfl) (Nat.le_of_ble_eq_true rfl)
    · intro u_6 H locs hC hP hD hS
      have hu_6 : ¬ (k_lng g 8 (t - 97)) = -1 := hC
      have hP : va_P E.1 CL (([(cw, .inr (1, [.ref (o 0), .ref oaA, .ref osA, iv hsn, .ref hdA, .ref spA, .ref bfA, .ref lnA, .ref prA, iv ep, va_rf lt]))] : va_W) ++ (SW E o sc ar)) H := hP
      have hD : va_D A (([(cw, .inr (1, [.ref (o 0), .ref oaA, .ref osA, iv hsn, .ref hdA, .ref spA, .ref bfA, .ref lnA, .ref prA, iv ep, va_rf lt]))] : va_W) ++ (SW E o sc ar)) := hD
      have hne := hu_6
      have hfin : k_lng g 8 (t - 97) = m_lng g 8 (t - 97) := by
        exact hwc.elim (fun h => h.2.1) (fun h => absurd h.2 hne)
      refine vx_ret ?_
      refine W.widen (k := 2) (n := 12) (Nat.le_of_ble_eq_true rfl) (Nat.le_of_ble_eq_true rfl) ?_
      exact W.iret (v := iI (k_lng g 8 (t - 97))) hx hb hr (fun tt_ ht_ hW_ => ⟨⟨iI (k_lng g 8 (t - 97)), (), rfl, ⟨by exact hwc.elim (fun h => h.1) (fun h => absurd h.2 hne), (congrArg iI hfin)⟩, by rw [ht_]; exact hP, hD⟩, hS.F ht_⟩) hS.2.2 dX1_longestWay_14
set_option maxHeartbeats 1000000 in
set_option maxRecDepth 100000 in
theorem mt_X1_longestByRounds (l : Launch) (E : EE) (cw : Nat) (oaA : Nat) (osA : Nat) (hsn : Int) (hdA : Nat) (spA : Nat) (bfA : Nat) (lnA : Nat) (prA : Nat) (ep : Int) (lt : Option Nat) (o : Nat → Nat) (sc : Nat → Int) (ar : Nat → Int → Int) (t : Int) (g : Int → Int) (r : Int → Nat) (hst : l.stackTraces = false) (hsr : SR g sc ar) (ht : 0 ≤ t ∧ t < 65536) (hhn : HN g) (htw : TW g) (hsw : SwOK g) (htm : TM g) (hrk : RK g r) (hr8 : ∀ t, 0 ≤ t → t < 8 → r t < 8) (sz : Nat) : vx_Met l yX1_longestByRounds (ws_ yX1_longestByRounds cX1_longestByRounds 2 (some .int)) { frames := 8, cells := 12, slots := 85, locals := 3123 } (va_Pc [.ref cw, iv t] (UX E (([(cw, .inr (1, [.ref (o 0), .ref oaA, .ref osA, iv hsn, .ref hdA, .ref spA, .ref bfA, .ref lnA, .ref prA, iv ep, va_rf lt]))] : va_W) ++ (SW E o sc ar)) sz)) (UQx E (fun u : Unit => c_way g t = 0) (fun u : Unit => m_lng g 8 (t - 97)) (fun u : Unit => ([(cw, .inr (1, [.ref (o 0), .ref oaA, .ref osA, iv hsn, .ref hdA, .ref spA, .ref bfA, .ref lnA, .ref prA, iv ep, va_rf lt]))] : va_W) ++ (SW E o sc ar)) (va_A (([(cw, .inr (1, [.ref (o 0), .ref oaA, .ref osA, iv hsn, .ref hdA, .ref spA, .ref bfA, .ref lnA, .ref prA, iv ep, va_rf lt]))] : va_W) ++ (SW E o sc ar)) sz)) (UXx E (fun (En : String) (u : Unit) => 0 < c_way g t ∧ En = nmX "java/lang/IllegalArgumentException" "java/util/NoSuchElementException" "" (c_way g t)) (fun u : Unit => ([(cw, .inr (1, [.ref (o 0), .ref oaA, .ref osA, iv hsn, .ref hdA, .ref spA, .ref bfA, .ref lnA, .ref prA, iv ep, va_rf lt]))] : va_W) ++ (SW E o sc ar)) (fun u : Unit => none) (va_A (([(cw, .inr (1, [.ref (o 0), .ref oaA, .ref osA, iv hsn, .ref hdA, .ref spA, .ref bfA, .ref lnA, .ref prA, iv ep, va_rf lt]))] : va_W) ++ (SW E o sc ar)) sz)) 12 85 (va_A (([(cw, .inr (1, [.ref (o 0), .ref oaA, .ref osA, iv hsn, .ref hdA, .ref spA, .ref bfA, .ref lnA, .ref prA, iv ep, va_rf lt]))] : va_W) ++ (SW E o sc ar)) sz) := by
  refine vx_ofW (cc := cX1_longestByRounds) (maxL := 2) (ret := (some .int)) (by decide) rfl ?_
  intro p e s m args below meth c s₁ B hml htb hv
  obtain ⟨rfl, hsz, hP, hK, hD0, hE⟩ := hv
  have hx := B.exec
  have hb := B.bytes
  have hr := B.returns
  have hts := atoms_spec (ws := (ws_ yX1_longestByRounds cX1_longestByRounds 2 (some .int))) B.pre
  have hts : ∀ w ∈ lw_all, w.before _ s = true := fun w h => hts w (List.mem_cons_of_mem _ h)
  have hown : s.vm.findClass RX1 = some m.cls := findClass_of_methodNamed B.named
  have hlocks := B.notSynchronized
  subst hsz
  have hD := hD0.self (sz := s.heap.size)
  generalize hAe : va_A (([(cw, .inr (1, [.ref (o 0), .ref oaA, .ref osA, iv hsn, .ref hdA, .ref spA, .ref bfA, .ref lnA, .ref prA, iv ep, va_rf lt]))] : va_W) ++ (SW E o sc ar)) s.heap.size = A at hD hE ⊢
  have hA : ∀ q : Nat, s.heap.size ≤ q → A q := fun q h => by rw [← hAe]; exact Or.inr h
  have hS : va_S A s.heap s.heap [] := va_S.rf
  have hl := lv_entry ([.ref cw, iv t]) (n := 2) (Nat.le_of_ble_eq_true rfl)
  rw [lg_entry_eq]
  generalize (lg_sl ([.ref cw, iv t]) ++ List.replicate (2 - (lg_sl ([.ref cw, iv t])).length) Slot.unset).toArray = ls at hl ⊢
  have hl : lv_has ls 2 [(0, .ref cw), (1, iv t)] := hl
  have hbr := hsr.br
  refine lv_aload_n hx hb dX1_longestByRounds_0 rfl (lv_at hl 0 rfl) ?_
  refine n_csr (x := o 1) (va_runV (As := []) (rest := []) ⟨hx, hb, hml, hown, hts⟩ (mt_X1_book l E cw oaA osA hsn hdA spA bfA lnA prA ep lt o sc ar ) (cwV 0 hts (lw_V q510 q512 qs3 q94 q513) rfl rfl rfl (by decide +kernel) ⟨Nat.le_of_ble_eq_true rfl, Nat.le_of_ble_eq_true rfl⟩) (PW_V hP hK (va_recv hK.1 hP (ci := 1) (q0 := 0) rfl rfl)) rfl rfl hl.1 rfl (lv_room (Nat.le_of_ble_eq_true rfl)) dX1_longestByRounds_1 ⟨Nat.le_of_ble_eq_true rfl, Nat.le_of_ble_eq_true rfl⟩) ?_
  refine lv_iload_n hx hb dX1_longestByRounds_4 rfl (lv_at hl 1 rfl) ?_
  have hz_1 : s.heap.size ≤ s.heap.size := hS.1
  refine n_txS (x := fun u_2 => t - 97) (w2 := fun u_2 => ([(cw, .inr (1, [.ref (o 0), .ref oaA, .ref osA, iv hsn, .ref hdA, .ref spA, .ref bfA, .ref lnA, .ref prA, iv ep, va_rf lt]))] : va_W) ++ (SW E o sc ar)) (w3 := fun u_3 => ([(cw, .inr (1, [.ref (o 0), .ref oaA, .ref osA, iv hsn, .ref hdA, .ref spA, .ref bfA, .ref lnA, .ref prA, iv ep, va_rf lt]))] : va_W) ++ (SW E o sc ar)) (vx_runS (As := [iv t]) (rest := [.ref (o 1)]) ⟨hx, hb, hml, hown, hts⟩ (mt_X1_indexOf l E t (by exact hst) (by omega) _) (va_cwS 1 hts (lw_S q1052 q963 q94 q964) rfl rfl rfl (by decide +kernel) ⟨Nat.le_of_ble_eq_true rfl, Nat.le_of_ble_eq_true rfl⟩) (UX_S (hP.sub (ws' := []) [] rfl) hK (hD.sub (ws' := []) [] rfl rfl) hE hS (va_sub_free hD hS hA [] rfl)) rfl rfl hl.1 rfl (lv_room (Nat.le_of_ble_eq_true rfl)) dX1_longestByRounds_5 ⟨Nat.le_of_ble_eq_true rfl, Nat.le_of_ble_eq_true rfl⟩) hP hD hS hA [] [0, 1, 2, 3, 4, 5, 6, 7, 8, 9, 10, 11, 12, 13, 14, 15, 16, 17] [0, 1, 2, 3, 4, 5, 6, 7, 8, 9, 10, 11, 12, 13, 14, 15, 16, 17] [0, 1, 2, 3, 4, 5, 6, 7, 8, 9, 10, 11, 12, 13, 14, 15, 16, 17] rfl rfl rfl rfl rfl (fun _ => rfl) rfl (fun _ => rfl) ?_ ?_
  · intro En ce q9 u_3 H locs hCx hP hD hS hxf hq9 hce hcv hcl
    have hCx : En = "java/lang/IllegalArgumentException" ∧ ¬ (97 ≤ t ∧ t ≤ 104) := hCx
    have hP : va_P E.1 CL (([(cw, .inr (1, [.ref (o 0), .ref oaA, .ref osA, iv hsn, .ref hdA, .ref spA, .ref bfA, .ref lnA, .ref prA, iv ep, va_rf lt]))] : va_W) ++ (SW E o sc ar)) H := hP
    have hD : va_D A (([(cw, .inr (1, [.ref (o 0), .ref oaA, .ref osA, iv hsn, .ref hdA, .ref spA, .ref bfA, .ref lnA, .ref prA, iv ep, va_rf lt]))] : va_W) ++ (SW E o sc ar)) := hD
    exact n_out () (by exact cx_k (k := 1) (by exact c_way_1 hCx.2) (by decide) hCx.1) hP hD hS hxf (Nat.le_trans hz_1 hq9) hce hcv hcl (fun x hx9 => (htb x hx9).elim) hlocks (Nat.le_of_ble_eq_true rfl) (Nat.le_of_ble_eq_true rfl)
  · intro u_2 H locs hC hP hD hS
    have hu_2 : 97 ≤ t ∧ t ≤ 104 := hC
    have hP : va_P E.1 CL (([(cw, .inr (1, [.ref (o 0), .ref oaA, .ref osA, iv hsn, .ref hdA, .ref spA, .ref bfA, .ref lnA, .ref prA, iv ep, va_rf lt]))] : va_W) ++ (SW E o sc ar)) H := hP
    have hD : va_D A (([(cw, .inr (1, [.ref (o 0), .ref oaA, .ref osA, iv hsn, .ref hdA, .ref spA, .ref bfA, .ref lnA, .ref prA, iv ep, va_rf lt]))] : va_W) ++ (SW E o sc ar)) := hD
    have hti := hu_2
    have hwc := way_cases htw hsw htm hrk hr8 hti
    have hr9 := hr8 (t - 97) (by omega) (by omega)
    have hlr := k_lng_r htw hsw htm 8 (t - 97) (by omega) (by omega)
    refine n_cuiS (x := k_lng g 8 (t - 97)) (w2 := ([(cw, .inr (1, [.ref (o 0), .ref oaA, .ref osA, iv hsn, .ref hdA, .ref spA, .ref bfA, .ref lnA, .ref prA, iv ep, va_rf lt]))] : va_W) ++ (SW E o sc ar)) (va_runV (As := [iv (t - 97)]) (rest := []) ⟨hx, hb, hml, hown, hts⟩ (mt_X3_longestByRounds l E o sc ar (t - 97) g r (by omega) (by assumption) (by assumption) (by assumption) (by assumption) (by assumption) (by assumption) (by assumption) _) (cwV 1 hts (lw_V q1212 q728 q729 q96 q730) rfl rfl rfl (by decide +kernel) ⟨Nat.le_of_ble_eq_true rfl, Nat.le_of_ble_eq_true rfl⟩) (UX_V (hP.sub (ws' := BW E o sc ar) [2, 3, 4, 5, 6, 7, 8, 9] rfl) hK (hD.sub (ws' := BW E o sc ar) [2, 3, 4, 5, 6, 7, 8, 9] rfl rfl) hE hS (va_sub_free hD hS hA [2, 3, 4, 5, 6, 7, 8, 9] rfl) (va_recv hK.1 hP (ci := 3) (q0 := 2) rfl rfl)) rfl rfl hl.1 rfl (lv_room (Nat.le_of_ble_eq_true rfl)) dX1_longestByRounds_8 ⟨Nat.le_of_ble_eq_true rfl, Nat.le_of_ble_eq_true rfl⟩) hP hD hS hA [2, 3, 4, 5, 6, 7, 8, 9] [0, 1, 10, 11, 12, 13, 14, 15, 16, 17] [0, 1, 10, 11, 12, 13, 14, 15, 16, 17, 2, 3, 4, 5, 6, 7, 8, 9] rfl rfl rfl rfl rfl rfl (fun H locs hP hD hS => ?_)
    have hP : va_P E.1 CL (([(cw, .inr (1, [.ref (o 0), .ref oaA, .ref osA, iv hsn, .ref hdA, .ref spA, .ref bfA, .ref lnA, .ref prA, iv ep, va_rf lt]))] : va_W) ++ (SW E o sc ar)) H := hP
    have hD : va_D A (([(cw, .inr (1, [.ref (o 0), .ref oaA, .ref osA, iv hsn, .ref hdA, .ref spA, .ref bfA, .ref lnA, .ref prA, iv ep, va_rf lt]))] : va_W) ++ (SW E o sc ar)) := hD
    have b_4 := k_lng_r (g := g) (by assumption) (by assumption) (by assumption) 8 (t - 97) (by omega) (by omega)
    have hz_5 : s.heap.size ≤ H.size := hS.1
    refine n_txS (x := fun u_6 => k_lng g 8 (t - 97)) (w2 := fun u_6 => ([(cw, .inr (1, [.ref (o 0), .ref oaA, .ref osA, iv hsn, .ref hdA, .ref spA, .ref bfA, .ref lnA, .ref prA, iv ep, va_rf lt]))] : va_W) ++ (SW E o sc ar)) (w3 := fun u_7 => ([(cw, .inr (1, [.ref (o 0), .ref oaA, .ref osA, iv hsn, .ref hdA, .ref spA, .ref bfA, .ref lnA, .ref prA, iv ep, va_rf lt]))] : va_W) ++ (SW E o sc ar)) (vx_runS (As := [iv (k_lng g 8 (t - 97))]) (rest := []) ⟨hx, hb, hml, hown, hts⟩ (mt_X1_found l E (k_lng g 8 (t - 97)) (by exact hst) (by omega) _) (va_cwS 1 hts (lw_S q1204 q1038 q94 q1039) rfl rfl rfl (by decide +kernel) ⟨Nat.le_of_ble_eq_true rfl, Nat.le_of_ble_eq_true rfl⟩) (UX_S (hP.sub (ws' := []) [] rfl) hK (hD.sub (ws' := []) [] rfl rfl) hE hS (va_sub_free hD hS hA [] rfl)) rfl rfl hl.1 rfl (lv_room (Nat.le_of_ble_eq_true rfl)) dX1_longestByRounds_11 ⟨Nat.le_of_ble_eq_true rfl, Nat.le_of_ble_eq_true rfl⟩) hP hD hS hA [] [0, 1, 2, 3, 4, 5, 6, 7, 8, 9, 10, 11, 12, 13, 14, 15, 16, 17] [0, 1, 2, 3, 4, 5, 6, 7, 8, 9, 10, 11, 12, 13, 14, 15, 16, 17] [0, 1, 2, 3, 4, 5, 6, 7, 8, 9, 10, 11, 12, 13, 14, 15, 16, 17] rfl rfl rfl rfl rfl (fun _ => rfl) rfl (fun _ => rfl) ?_ ?_
    · intro En ce q9 u_7 H locs hCx hP hD hS hxf hq9 hce hcv hcl
      have hCx : En = "java/util/NoSuchElementException" ∧ (k_lng g 8 (t - 97)) = -1 := hCx
      have hP : va_P E.1 CL (([(cw, .inr (1, [.ref (o 0), .ref oaA, .ref osA, iv hsn, .ref hdA, .ref spA, .ref bfA, .ref lnA, .ref prA, iv ep, va_rf lt]))] : va_W) ++ (SW E o sc ar)) H := hP
      have hD : va_D A (([(cw, .inr (1, [.ref (o 0), .ref oaA, .ref osA, iv hsn, .ref hdA, .ref spA, .ref bfA, .ref lnA, .ref prA, iv ep, va_rf lt]))] : va_W) ++ (SW E o sc ar)) := hD
      exact n_out () (by exact cx_k (k := 2) (by exact hwc.elim (fun h => absurd hCx.2 (by omega)) (fun h => h.1)) (by decide) hCx.1) hP hD hS hxf (Nat.le_trans hz_5 hq9) hce hcv hcl (fun x hx9 => (htb x hx9).elim) hlocks (Nat.le_of_ble_eq_true rfl) (Nat.le_of_ble_eq_true rfl)
    · intro u_6 H locs hC hP hD hS
      have hu_6 : ¬ (k_lng g 8 (t - 97)) = -1 := hC
      have hP : va_P E.1 CL (([(cw, .inr (1, [.ref (o 0), .ref oaA, .ref osA, iv hsn, .ref hdA, .ref spA, .ref bfA, .ref lnA, .ref prA, iv ep, va_rf lt]))] : va_W) ++ (SW E o sc ar)) H := hP
      have hD : va_D A (([(cw, .inr (1, [.ref (o 0), .ref oaA, .ref osA, iv hsn, .ref hdA, .ref spA, .ref bfA, .ref lnA, .ref prA, iv ep, va_rf lt]))] : va_W) ++ (SW E o sc ar)) := hD
      have hne := hu_6
      have hfin : k_lng g 8 (t - 97) = m_lng g 8 (t - 97) := by
        exact hwc.elim (fun h => h.2.1) (fun h => absurd h.2 hne)
      refine vx_ret ?_
      refine W.widen (k := 12) (n := 85) (Nat.le_of_ble_eq_true rfl) (Nat.le_of_ble_eq_true rfl) ?_
      exact W.iret (v := iI (k_lng g 8 (t - 97))) hx hb hr (fun tt_ ht_ hW_ => ⟨⟨iI (k_lng g 8 (t - 97)), (), rfl, ⟨by exact hwc.elim (fun h => h.1) (fun h => absurd h.2 hne), (congrArg iI hfin)⟩, by rw [ht_]; exact hP, hD⟩, hS.F ht_⟩) hS.2.2 dX1_longestByRounds_14
set_option maxHeartbeats 1000000 in
set_option maxRecDepth 100000 in
theorem mt_X1_captives (l : Launch) (E : EE) (cw : Nat) (oaA : Nat) (osA : Nat) (hsn : Int) (hdA : Nat) (spA : Nat) (bfA : Nat) (lnA : Nat) (prA : Nat) (ep : Int) (lt : Option Nat) (o : Nat → Nat) (sc : Nat → Int) (ar : Nat → Int → Int)  (g : Int → Int) (hsr : SR g sc ar) (htw : TW g) (hsw : SwOK g) (hhn : HN g) (hsc : SC g) : Met l yX1_captives (ws_ yX1_captives cX1_captives 1 (some .int)) { frames := 2, cells := 0, slots := 0, locals := 46 } (va_Pc [.ref cw] (PW E (([(cw, .inr (1, [.ref (o 0), .ref oaA, .ref osA, iv hsn, .ref hdA, .ref spA, .ref bfA, .ref lnA, .ref prA, iv ep, va_rf lt]))] : va_W) ++ (SW E o sc ar)))) (NP (m_capt g)) 0 0 (fun _ => False) := by
  refine Met.ofW (cc := cX1_captives) (maxL := 1) (ret := (some .int)) (by decide) rfl ?_
  intro p e s m args below meth c s₁ B hml hv
  obtain ⟨rfl, hP, hK⟩ := hv
  have hx := B.exec
  have hb := B.bytes
  have hr := B.returns
  have hts := atoms_spec (ws := (ws_ yX1_captives cX1_captives 1 (some .int))) B.pre
  have hts : ∀ w ∈ lw_all, w.before _ s = true := fun w h => hts w (List.mem_cons_of_mem _ h)
  have hown : s.vm.findClass RX1 = some m.cls := findClass_of_methodNamed B.named
  have hlocks := B.notSynchronized
  have hl := lv_entry ([.ref cw]) (n := 1) (Nat.le_of_ble_eq_true rfl)
  rw [lg_entry_eq]
  generalize (lg_sl ([.ref cw]) ++ List.replicate (1 - (lg_sl ([.ref cw])).length) Slot.unset).toArray = ls at hl ⊢
  have hl : lv_has ls 1 [(0, .ref cw)] := hl
  have hbr := hsr.br
  refine lv_aload_n hx hb dX1_captives_0 rfl (lv_at hl 0 rfl) ?_
  refine n_csr (x := o 1) (va_runV (As := []) (rest := []) ⟨hx, hb, hml, hown, hts⟩ (mt_X1_book l E cw oaA osA hsn hdA spA bfA lnA prA ep lt o sc ar ) (cwV 0 hts (lw_V q510 q512 qs3 q94 q513) rfl rfl rfl (by decide +kernel) ⟨Nat.le_of_ble_eq_true rfl, Nat.le_of_ble_eq_true rfl⟩) (PW_V hP hK (va_recv hK.1 hP (ci := 1) (q0 := 0) rfl rfl)) rfl rfl hl.1 rfl (lv_room (Nat.le_of_ble_eq_true rfl)) dX1_captives_1 ⟨Nat.le_of_ble_eq_true rfl, Nat.le_of_ble_eq_true rfl⟩) ?_
  refine n_csi (x := m_capt g) (va_runV (As := []) (rest := []) ⟨hx, hb, hml, hown, hts⟩ (mt_X3_captives l E o sc ar  g (by assumption) (by assumption) (by assumption) (by assumption) (by assumption)) (cwV 0 hts (lw_V q671 q672 q673 q96 q674) rfl rfl rfl (by decide +kernel) ⟨Nat.le_of_ble_eq_true rfl, Nat.le_of_ble_eq_true rfl⟩) (PW_V (hP.sub (ws' := BW E o sc ar) [2, 3, 4, 5, 6, 7, 8, 9] rfl) hK (va_recv hK.1 hP (ci := 3) (q0 := 2) rfl rfl)) rfl rfl hl.1 rfl (lv_room (Nat.le_of_ble_eq_true rfl)) dX1_captives_4 ⟨Nat.le_of_ble_eq_true rfl, Nat.le_of_ble_eq_true rfl⟩) ?_
  exact W.iret (v := iI (m_capt g)) hx hb hr (fun tt_ ht_ hW_ => ⟨iI (m_capt g), rfl, rfl, ht_⟩) (fun q h => by cases h) dX1_captives_7
set_option maxHeartbeats 1000000 in
set_option maxRecDepth 100000 in
theorem mt_X1_isOpen (l : Launch) (E : EE) (cw : Nat) (oaA : Nat) (osA : Nat) (hsn : Int) (hdA : Nat) (spA : Nat) (bfA : Nat) (lnA : Nat) (prA : Nat) (ep : Int) (lt : Option Nat) (o : Nat → Nat) (sc : Nat → Int) (ar : Nat → Int → Int) (k : Int) (g : Int → Int) (hst : l.stackTraces = false) (hsr : SR g sc ar) (hk : -2147483648 ≤ k ∧ k < 2147483648) (sz : Nat) : vx_Met l yX1_isOpen (ws_ yX1_isOpen cX1_isOpen 2 (some .boolean)) { frames := 7, cells := 1, slots := 6, locals := 112 } (va_Pc [.ref cw, iv k] (UX E (([(cw, .inr (1, [.ref (o 0), .ref oaA, .ref osA, iv hsn, .ref hdA, .ref spA, .ref bfA, .ref lnA, .ref prA, iv ep, va_rf lt]))] : va_W) ++ (SW E o sc ar)) sz)) (UQx E (fun u : Unit => c_in k 0 3 1 = 0) (fun u : Unit => b2 (m_opened g k)) (fun u : Unit => ([(cw, .inr (1, [.ref (o 0), .ref oaA, .ref osA, iv hsn, .ref hdA, .ref spA, .ref bfA, .ref lnA, .ref prA, iv ep, va_rf lt]))] : va_W) ++ (SW E o sc ar)) (va_A (([(cw, .inr (1, [.ref (o 0), .ref oaA, .ref osA, iv hsn, .ref hdA, .ref spA, .ref bfA, .ref lnA, .ref prA, iv ep, va_rf lt]))] : va_W) ++ (SW E o sc ar)) sz)) (UXx E (fun (En : String) (u : Unit) => 0 < c_in k 0 3 1 ∧ En = nmX "java/lang/IndexOutOfBoundsException" "" "" (c_in k 0 3 1)) (fun u : Unit => ([(cw, .inr (1, [.ref (o 0), .ref oaA, .ref osA, iv hsn, .ref hdA, .ref spA, .ref bfA, .ref lnA, .ref prA, iv ep, va_rf lt]))] : va_W) ++ (SW E o sc ar)) (fun u : Unit => none) (va_A (([(cw, .inr (1, [.ref (o 0), .ref oaA, .ref osA, iv hsn, .ref hdA, .ref spA, .ref bfA, .ref lnA, .ref prA, iv ep, va_rf lt]))] : va_W) ++ (SW E o sc ar)) sz)) 1 6 (va_A (([(cw, .inr (1, [.ref (o 0), .ref oaA, .ref osA, iv hsn, .ref hdA, .ref spA, .ref bfA, .ref lnA, .ref prA, iv ep, va_rf lt]))] : va_W) ++ (SW E o sc ar)) sz) := by
  refine vx_ofW (cc := cX1_isOpen) (maxL := 2) (ret := (some .boolean)) (by decide) rfl ?_
  intro p e s m args below meth c s₁ B hml htb hv
  obtain ⟨rfl, hsz, hP, hK, hD0, hE⟩ := hv
  have hx := B.exec
  have hb := B.bytes
  have hr := B.returns
  have hts := atoms_spec (ws := (ws_ yX1_isOpen cX1_isOpen 2 (some .boolean))) B.pre
  have hts : ∀ w ∈ lw_all, w.before _ s = true := fun w h => hts w (List.mem_cons_of_mem _ h)
  have hown : s.vm.findClass RX1 = some m.cls := findClass_of_methodNamed B.named
  have hlocks := B.notSynchronized
  subst hsz
  have hD := hD0.self (sz := s.heap.size)
  generalize hAe : va_A (([(cw, .inr (1, [.ref (o 0), .ref oaA, .ref osA, iv hsn, .ref hdA, .ref spA, .ref bfA, .ref lnA, .ref prA, iv ep, va_rf lt]))] : va_W) ++ (SW E o sc ar)) s.heap.size = A at hD hE ⊢
  have hA : ∀ q : Nat, s.heap.size ≤ q → A q := fun q h => by rw [← hAe]; exact Or.inr h
  have hS : va_S A s.heap s.heap [] := va_S.rf
  have hl := lv_entry ([.ref cw, iv k]) (n := 2) (Nat.le_of_ble_eq_true rfl)
  rw [lg_entry_eq]
  generalize (lg_sl ([.ref cw, iv k]) ++ List.replicate (2 - (lg_sl ([.ref cw, iv k])).length) Slot.unset).toArray = ls at hl ⊢
  have hl : lv_has ls 2 [(0, .ref cw), (1, iv k)] := hl
  refine lv_iload_n hx hb dX1_isOpen_0 rfl (lv_at hl 1 rfl) ?_
  refine n_csi (x := b2 (decide (0 ≤ k ∧ k ≤ 3))) (va_runS (As := [iv k]) (rest := []) ⟨hx, hb, hml, hown, hts⟩ (mt_X1_isThread l E k (by omega)) (va_cwS 1 hts (lw_S q1254 q1244 q94 q1245) rfl rfl rfl (by decide +kernel) ⟨Nat.le_of_ble_eq_true rfl, Nat.le_of_ble_eq_true rfl⟩) (PW_S (hP.sub (ws' := []) [] rfl) hK) rfl rfl hl.1 rfl (lv_room (Nat.le_of_ble_eq_true rfl)) dX1_isOpen_1 ⟨Nat.le_of_ble_eq_true rfl, Nat.le_of_ble_eq_true rfl⟩) ?_
  have hz_1 : s.heap.size ≤ s.heap.size := hS.1
  refine n_txvS (w2 := fun u_2 => ([(cw, .inr (1, [.ref (o 0), .ref oaA, .ref osA, iv hsn, .ref hdA, .ref spA, .ref bfA, .ref lnA, .ref prA, iv ep, va_rf lt]))] : va_W) ++ (SW E o sc ar)) (w3 := fun u_3 => ([(cw, .inr (1, [.ref (o 0), .ref oaA, .ref osA, iv hsn, .ref hdA, .ref spA, .ref bfA, .ref lnA, .ref prA, iv ep, va_rf lt]))] : va_W) ++ (SW E o sc ar)) (vx_runS (As := [iv (b2 (decide (0 ≤ k ∧ k ≤ 3)))]) (rest := []) ⟨hx, hb, hml, hown, hts⟩ (mt_X1_checkIndex l E (decide (0 ≤ k ∧ k ≤ 3)) (by exact hst) _) (va_cwS 1 hts (lw_S q1107 q1108 q94 q1109) rfl rfl rfl (by decide +kernel) ⟨Nat.le_of_ble_eq_true rfl, Nat.le_of_ble_eq_true rfl⟩) (UX_S (hP.sub (ws' := []) [] rfl) hK (hD.sub (ws' := []) [] rfl rfl) hE hS (va_sub_free hD hS hA [] rfl)) rfl rfl hl.1 rfl (lv_room (Nat.le_of_ble_eq_true rfl)) dX1_isOpen_4 ⟨Nat.le_of_ble_eq_true rfl, Nat.le_of_ble_eq_true rfl⟩) hP hD hS hA [] [0, 1, 2, 3, 4, 5, 6, 7, 8, 9, 10, 11, 12, 13, 14, 15, 16, 17] [0, 1, 2, 3, 4, 5, 6, 7, 8, 9, 10, 11, 12, 13, 14, 15, 16, 17] [0, 1, 2, 3, 4, 5, 6, 7, 8, 9, 10, 11, 12, 13, 14, 15, 16, 17] rfl rfl rfl rfl rfl (fun _ => rfl) rfl (fun _ => rfl) ?_ ?_
  · intro En ce q9 u_3 H locs hCx hP hD hS hxf hq9 hce hcv hcl
    have hCx : En = "java/lang/IndexOutOfBoundsException" ∧ (decide (0 ≤ k ∧ k ≤ 3)) = false := hCx
    have hP : va_P E.1 CL (([(cw, .inr (1, [.ref (o 0), .ref oaA, .ref osA, iv hsn, .ref hdA, .ref spA, .ref bfA, .ref lnA, .ref prA, iv ep, va_rf lt]))] : va_W) ++ (SW E o sc ar)) H := hP
    have hD : va_D A (([(cw, .inr (1, [.ref (o 0), .ref oaA, .ref osA, iv hsn, .ref hdA, .ref spA, .ref bfA, .ref lnA, .ref prA, iv ep, va_rf lt]))] : va_W) ++ (SW E o sc ar)) := hD
    exact n_out () (by exact cx_k (k := 1) (by exact c_in_k (of_decide_eq_false hCx.2)) (by decide) hCx.1) hP hD hS hxf (Nat.le_trans hz_1 hq9) hce hcv hcl (fun x hx9 => (htb x hx9).elim) hlocks (Nat.le_of_ble_eq_true rfl) (Nat.le_of_ble_eq_true rfl)
  · intro u_2 H locs hC hP hD hS
    have hu_2 : (decide (0 ≤ k ∧ k ≤ 3)) = true := hC
    have hP : va_P E.1 CL (([(cw, .inr (1, [.ref (o 0), .ref oaA, .ref osA, iv hsn, .ref hdA, .ref spA, .ref bfA, .ref lnA, .ref prA, iv ep, va_rf lt]))] : va_W) ++ (SW E o sc ar)) H := hP
    have hD : va_D A (([(cw, .inr (1, [.ref (o 0), .ref oaA, .ref osA, iv hsn, .ref hdA, .ref spA, .ref bfA, .ref lnA, .ref prA, iv ep, va_rf lt]))] : va_W) ++ (SW E o sc ar)) := hD
    have hin := of_decide_eq_true hu_2
    refine lv_aload_n hx hb dX1_isOpen_7 rfl (lv_at hl 0 rfl) ?_
    refine va_get (D := E.1) (ci := 1) (v := .ref (o 0)) (C := RX1) (T := TX1) (N := 11) hx hb hts in_X1 hown hK.1 hP 0 rfl rfl 0 (by decide) (hts _ q472) (fun _ h9 => h9) rfl dX1_isOpen_8 ?_
    refine va_getN (D := E.1) (ci := 2) (v := .ref (o 9)) (C := RX2) (T := TX2) (N := 14) hx hb hts in_X2 hown hK.1 hP 1 rfl rfl 1 (by decide) (hK.nw q192) (fun _ h9 => h9) rfl dX1_isOpen_11 ?_
    refine lv_iload_n hx hb dX1_isOpen_14 rfl (lv_at hl 1 rfl) ?_
    refine n_zald (f := ar 9) hx hb hK.1 hP 10 1 rfl rfl (by omega) (by decide) dX1_isOpen_15 ?_
    rw [hsr.op (k := k) (by omega)]
    refine vx_ret ?_
    refine W.widen (k := 1) (n := 6) (Nat.le_of_ble_eq_true rfl) (Nat.le_of_ble_eq_true rfl) ?_
    exact W.zret (v := iI (b2 (m_opened g k))) hx hb hr (nr_b (b2_r _)) (fun tt_ ht_ hW_ => ⟨⟨iI (b2 (m_opened g k)), (), rfl, ⟨by exact c_in_0 hin, rfl⟩, by rw [ht_]; exact hP, hD⟩, hS.F ht_⟩) hS.2.2 dX1_isOpen_16
set_option maxHeartbeats 1000000 in
set_option maxRecDepth 100000 in
theorem mt_X1_objectCount (l : Launch) (E : EE) (cw : Nat) (oaA : Nat) (osA : Nat) (hsn : Int) (hdA : Nat) (spA : Nat) (bfA : Nat) (lnA : Nat) (prA : Nat) (ep : Int) (lt : Option Nat) (o : Nat → Nat) (sc : Nat → Int) (ar : Nat → Int → Int)  (g : Int → Int) (hsr : SR g sc ar) : Met l yX1_objectCount (ws_ yX1_objectCount cX1_objectCount 1 (some .int)) { frames := 0, cells := 0, slots := 0, locals := 0 } (va_Pc [.ref cw] (PW E (([(cw, .inr (1, [.ref (o 0), .ref oaA, .ref osA, iv hsn, .ref hdA, .ref spA, .ref bfA, .ref lnA, .ref prA, iv ep, va_rf lt]))] : va_W) ++ (SW E o sc ar)))) (NP (g 1)) 0 0 (fun _ => False) := by
  refine Met.ofW (cc := cX1_objectCount) (maxL := 1) (ret := (some .int)) (by decide) rfl ?_
  intro p e s m args below meth c s₁ B hml hv
  obtain ⟨rfl, hP, hK⟩ := hv
  have hx := B.exec
  have hb := B.bytes
  have hr := B.returns
  have hts := atoms_spec (ws := (ws_ yX1_objectCount cX1_objectCount 1 (some .int))) B.pre
  have hts : ∀ w ∈ lw_all, w.before _ s = true := fun w h => hts w (List.mem_cons_of_mem _ h)
  have hown : s.vm.findClass RX1 = some m.cls := findClass_of_methodNamed B.named
  have hlocks := B.notSynchronized
  have hl := lv_entry ([.ref cw]) (n := 1) (Nat.le_of_ble_eq_true rfl)
  rw [lg_entry_eq]
  generalize (lg_sl ([.ref cw]) ++ List.replicate (1 - (lg_sl ([.ref cw])).length) Slot.unset).toArray = ls at hl ⊢
  have hl : lv_has ls 1 [(0, .ref cw)] := hl
  have hn1 := hsr.n1
  refine lv_aload_n hx hb dX1_objectCount_0 rfl (lv_at hl 0 rfl) ?_
  refine va_get (D := E.1) (ci := 1) (v := .ref (o 0)) (C := RX1) (T := TX1) (N := 11) hx hb hts in_X1 hown hK.1 hP 0 rfl rfl 0 (by decide) (hts _ q472) (fun _ h9 => h9) rfl dX1_objectCount_1 ?_
  refine va_getN (D := E.1) (ci := 2) (v := iv (sc 2)) (C := RX2) (T := TX2) (N := 14) hx hb hts in_X2 hown hK.1 hP 1 rfl rfl 2 (by decide) (hK.nw q194) (fun _ h9 => h9) rfl dX1_objectCount_4 ?_
  have hfin : sc 2 = g 1 := by
    exact hn1.1
  exact W.iret (v := iI (sc 2)) hx hb hr (fun tt_ ht_ hW_ => ⟨iI (sc 2), rfl, (congrArg iI hfin), ht_⟩) (fun q h => by cases h) dX1_objectCount_7
set_option maxHeartbeats 1000000 in
set_option maxRecDepth 100000 in
theorem mt_X1_gotCount (l : Launch) (E : EE) (cw : Nat) (oaA : Nat) (osA : Nat) (hsn : Int) (hdA : Nat) (spA : Nat) (bfA : Nat) (lnA : Nat) (prA : Nat) (ep : Int) (lt : Option Nat) (o : Nat → Nat) (sc : Nat → Int) (ar : Nat → Int → Int)  (g : Int → Int) (hsr : SR g sc ar) : Met l yX1_gotCount (ws_ yX1_gotCount cX1_gotCount 1 (some .int)) { frames := 0, cells := 0, slots := 0, locals := 0 } (va_Pc [.ref cw] (PW E (([(cw, .inr (1, [.ref (o 0), .ref oaA, .ref osA, iv hsn, .ref hdA, .ref spA, .ref bfA, .ref lnA, .ref prA, iv ep, va_rf lt]))] : va_W) ++ (SW E o sc ar)))) (NP (g 2)) 0 0 (fun _ => False) := by
  refine Met.ofW (cc := cX1_gotCount) (maxL := 1) (ret := (some .int)) (by decide) rfl ?_
  intro p e s m args below meth c s₁ B hml hv
  obtain ⟨rfl, hP, hK⟩ := hv
  have hx := B.exec
  have hb := B.bytes
  have hr := B.returns
  have hts := atoms_spec (ws := (ws_ yX1_gotCount cX1_gotCount 1 (some .int))) B.pre
  have hts : ∀ w ∈ lw_all, w.before _ s = true := fun w h => hts w (List.mem_cons_of_mem _ h)
  have hown : s.vm.findClass RX1 = some m.cls := findClass_of_methodNamed B.named
  have hlocks := B.notSynchronized
  have hl := lv_entry ([.ref cw]) (n := 1) (Nat.le_of_ble_eq_true rfl)
  rw [lg_entry_eq]
  generalize (lg_sl ([.ref cw]) ++ List.replicate (1 - (lg_sl ([.ref cw])).length) Slot.unset).toArray = ls at hl ⊢
  have hl : lv_has ls 1 [(0, .ref cw)] := hl
  have hn1 := hsr.n1
  refine lv_aload_n hx hb dX1_gotCount_0 rfl (lv_at hl 0 rfl) ?_
  refine va_get (D := E.1) (ci := 1) (v := .ref (o 0)) (C := RX1) (T := TX1) (N := 11) hx hb hts in_X1 hown hK.1 hP 0 rfl rfl 0 (by decide) (hts _ q472) (fun _ h9 => h9) rfl dX1_gotCount_1 ?_
  refine va_getN (D := E.1) (ci := 2) (v := iv (sc 9)) (C := RX2) (T := TX2) (N := 14) hx hb hts in_X2 hown hK.1 hP 1 rfl rfl 9 (by decide) (hK.nw q206) (fun _ h9 => h9) rfl dX1_gotCount_4 ?_
  have hfin : sc 9 = g 2 := by
    exact hn1.2.1
  exact W.iret (v := iI (sc 9)) hx hb hr (fun tt_ ht_ hW_ => ⟨iI (sc 9), rfl, (congrArg iI hfin), ht_⟩) (fun q h => by cases h) dX1_gotCount_7
set_option maxHeartbeats 1000000 in
set_option maxRecDepth 100000 in
theorem mt_X1_reusedCount (l : Launch) (E : EE) (cw : Nat) (oaA : Nat) (osA : Nat) (hsn : Int) (hdA : Nat) (spA : Nat) (bfA : Nat) (lnA : Nat) (prA : Nat) (ep : Int) (lt : Option Nat) (o : Nat → Nat) (sc : Nat → Int) (ar : Nat → Int → Int)  (g : Int → Int) (hsr : SR g sc ar) : Met l yX1_reusedCount (ws_ yX1_reusedCount cX1_reusedCount 1 (some .int)) { frames := 0, cells := 0, slots := 0, locals := 0 } (va_Pc [.ref cw] (PW E (([(cw, .inr (1, [.ref (o 0), .ref oaA, .ref osA, iv hsn, .ref hdA, .ref spA, .ref bfA, .ref lnA, .ref prA, iv ep, va_rf lt]))] : va_W) ++ (SW E o sc ar)))) (NP (g 3)) 0 0 (fun _ => False) := by
  refine Met.ofW (cc := cX1_reusedCount) (maxL := 1) (ret := (some .int)) (by decide) rfl ?_
  intro p e s m args below meth c s₁ B hml hv
  obtain ⟨rfl, hP, hK⟩ := hv
  have hx := B.exec
  have hb := B.bytes
  have hr := B.returns
  have hts := atoms_spec (ws := (ws_ yX1_reusedCount cX1_reusedCount 1 (some .int))) B.pre
  have hts : ∀ w ∈ lw_all, w.before _ s = true := fun w h => hts w (List.mem_cons_of_mem _ h)
  have hown : s.vm.findClass RX1 = some m.cls := findClass_of_methodNamed B.named
  have hlocks := B.notSynchronized
  have hl := lv_entry ([.ref cw]) (n := 1) (Nat.le_of_ble_eq_true rfl)
  rw [lg_entry_eq]
  generalize (lg_sl ([.ref cw]) ++ List.replicate (1 - (lg_sl ([.ref cw])).length) Slot.unset).toArray = ls at hl ⊢
  have hl : lv_has ls 1 [(0, .ref cw)] := hl
  have hn1 := hsr.n1
  refine lv_aload_n hx hb dX1_reusedCount_0 rfl (lv_at hl 0 rfl) ?_
  refine va_get (D := E.1) (ci := 1) (v := .ref (o 0)) (C := RX1) (T := TX1) (N := 11) hx hb hts in_X1 hown hK.1 hP 0 rfl rfl 0 (by decide) (hts _ q472) (fun _ h9 => h9) rfl dX1_reusedCount_1 ?_
  refine va_getN (D := E.1) (ci := 2) (v := iv (sc 10)) (C := RX2) (T := TX2) (N := 14) hx hb hts in_X2 hown hK.1 hP 1 rfl rfl 10 (by decide) (hK.nw q208) (fun _ h9 => h9) rfl dX1_reusedCount_4 ?_
  have hfin : sc 10 = g 3 := by
    exact hn1.2.2.1
  exact W.iret (v := iI (sc 10)) hx hb hr (fun tt_ ht_ hW_ => ⟨iI (sc 10), rfl, (congrArg iI hfin), ht_⟩) (fun q h => by cases h) dX1_reusedCount_7
set_option maxHeartbeats 1000000 in
set_option maxRecDepth 100000 in
theorem mt_X1_isThere (l : Launch) (E : EE) (cw : Nat) (oaA : Nat) (osA : Nat) (hsn : Int) (hdA : Nat) (spA : Nat) (bfA : Nat) (lnA : Nat) (prA : Nat) (ep : Int) (lt : Option Nat) (o : Nat → Nat) (sc : Nat → Int) (ar : Nat → Int → Int) (k : Int) (g : Int → Int) (hst : l.stackTraces = false) (hsr : SR g sc ar) (hk : -2147483648 ≤ k ∧ k < 2147483648) (how : OY g) (sz : Nat) : vx_Met l yX1_isThere (ws_ yX1_isThere cX1_isThere 2 (some .boolean)) { frames := 7, cells := 1, slots := 6, locals := 112 } (va_Pc [.ref cw, iv k] (UX E (([(cw, .inr (1, [.ref (o 0), .ref oaA, .ref osA, iv hsn, .ref hdA, .ref spA, .ref bfA, .ref lnA, .ref prA, iv ep, va_rf lt]))] : va_W) ++ (SW E o sc ar)) sz)) (UQx E (fun u : Unit => c_in k 0 (g 1 - 1) 1 = 0) (fun u : Unit => b2 (m_here g k)) (fun u : Unit => ([(cw, .inr (1, [.ref (o 0), .ref oaA, .ref osA, iv hsn, .ref hdA, .ref spA, .ref bfA, .ref lnA, .ref prA, iv ep, va_rf lt]))] : va_W) ++ (SW E o sc ar)) (va_A (([(cw, .inr (1, [.ref (o 0), .ref oaA, .ref osA, iv hsn, .ref hdA, .ref spA, .ref bfA, .ref lnA, .ref prA, iv ep, va_rf lt]))] : va_W) ++ (SW E o sc ar)) sz)) (UXx E (fun (En : String) (u : Unit) => 0 < c_in k 0 (g 1 - 1) 1 ∧ En = nmX "java/lang/IndexOutOfBoundsException" "" "" (c_in k 0 (g 1 - 1) 1)) (fun u : Unit => ([(cw, .inr (1, [.ref (o 0), .ref oaA, .ref osA, iv hsn, .ref hdA, .ref spA, .ref bfA, .ref lnA, .ref prA, iv ep, va_rf lt]))] : va_W) ++ (SW E o sc ar)) (fun u : Unit => none) (va_A (([(cw, .inr (1, [.ref (o 0), .ref oaA, .ref osA, iv hsn, .ref hdA, .ref spA, .ref bfA, .ref lnA, .ref prA, iv ep, va_rf lt]))] : va_W) ++ (SW E o sc ar)) sz)) 1 6 (va_A (([(cw, .inr (1, [.ref (o 0), .ref oaA, .ref osA, iv hsn, .ref hdA, .ref spA, .ref bfA, .ref lnA, .ref prA, iv ep, va_rf lt]))] : va_W) ++ (SW E o sc ar)) sz) := by
  refine vx_ofW (cc := cX1_isThere) (maxL := 2) (ret := (some .boolean)) (by decide) rfl ?_
  intro p e s m args below meth c s₁ B hml htb hv
  obtain ⟨rfl, hsz, hP, hK, hD0, hE⟩ := hv
  have hx := B.exec
  have hb := B.bytes
  have hr := B.returns
  have hts := atoms_spec (ws := (ws_ yX1_isThere cX1_isThere 2 (some .boolean))) B.pre
  have hts : ∀ w ∈ lw_all, w.before _ s = true := fun w h => hts w (List.mem_cons_of_mem _ h)
  have hown : s.vm.findClass RX1 = some m.cls := findClass_of_methodNamed B.named
  have hlocks := B.notSynchronized
  subst hsz
  have hD := hD0.self (sz := s.heap.size)
  generalize hAe : va_A (([(cw, .inr (1, [.ref (o 0), .ref oaA, .ref osA, iv hsn, .ref hdA, .ref spA, .ref bfA, .ref lnA, .ref prA, iv ep, va_rf lt]))] : va_W) ++ (SW E o sc ar)) s.heap.size = A at hD hE ⊢
  have hA : ∀ q : Nat, s.heap.size ≤ q → A q := fun q h => by rw [← hAe]; exact Or.inr h
  have hS : va_S A s.heap s.heap [] := va_S.rf
  have hl := lv_entry ([.ref cw, iv k]) (n := 2) (Nat.le_of_ble_eq_true rfl)
  rw [lg_entry_eq]
  generalize (lg_sl ([.ref cw, iv k]) ++ List.replicate (2 - (lg_sl ([.ref cw, iv k])).length) Slot.unset).toArray = ls at hl ⊢
  have hl : lv_has ls 2 [(0, .ref cw), (1, iv k)] := hl
  have hn1 := hsr.n1
  have ho1 := how.1
  have ho2 := how.2.1
  refine lv_iload_n hx hb dX1_isThere_0 rfl (lv_at hl 1 rfl) ?_
  refine lv_iconst (v := iI 0) hx hb dX1_isThere_1 rfl ?_
  refine lv_aload_n hx hb dX1_isThere_2 rfl (lv_at hl 0 rfl) ?_
  refine va_get (D := E.1) (ci := 1) (v := .ref (o 0)) (C := RX1) (T := TX1) (N := 11) hx hb hts in_X1 hown hK.1 hP 0 rfl rfl 0 (by decide) (hts _ q472) (fun _ h9 => h9) rfl dX1_isThere_3 ?_
  refine va_getN (D := E.1) (ci := 2) (v := iv (sc 2)) (C := RX2) (T := TX2) (N := 14) hx hb hts in_X2 hown hK.1 hP 1 rfl rfl 2 (by decide) (hK.nw q194) (fun _ h9 => h9) rfl dX1_isThere_6 ?_
  refine n_top (y := g 1) (by exact hn1.1) ?_
  refine lv_iconst (v := iI 1) hx hb dX1_isThere_9 rfl ?_
  refine n_isub hx hb dX1_isThere_10 ?_
  refine n_csi (x := b2 (decide (0 ≤ k ∧ k ≤ (g 1) - 1))) (va_runS (As := [iv k, iv 0, iv ((g 1) - 1)]) (rest := []) ⟨hx, hb, hml, hown, hts⟩ (mt_X1_inRange l E k 0 ((g 1) - 1) (by omega) (by omega) (by omega)) (va_cwS 3 hts (lw_S q882 q883 q94 q884) rfl rfl rfl (by decide +kernel) ⟨Nat.le_of_ble_eq_true rfl, Nat.le_of_ble_eq_true rfl⟩) (PW_S (hP.sub (ws' := []) [] rfl) hK) rfl rfl hl.1 rfl (lv_room (Nat.le_of_ble_eq_true rfl)) dX1_isThere_11 ⟨Nat.le_of_ble_eq_true rfl, Nat.le_of_ble_eq_true rfl⟩) ?_
  have hz_1 : s.heap.size ≤ s.heap.size := hS.1
  refine n_txvS (w2 := fun u_2 => ([(cw, .inr (1, [.ref (o 0), .ref oaA, .ref osA, iv hsn, .ref hdA, .ref spA, .ref bfA, .ref lnA, .ref prA, iv ep, va_rf lt]))] : va_W) ++ (SW E o sc ar)) (w3 := fun u_3 => ([(cw, .inr (1, [.ref (o 0), .ref oaA, .ref osA, iv hsn, .ref hdA, .ref spA, .ref bfA, .ref lnA, .ref prA, iv ep, va_rf lt]))] : va_W) ++ (SW E o sc ar)) (vx_runS (As := [iv (b2 (decide (0 ≤ k ∧ k ≤ (g 1) - 1)))]) (rest := []) ⟨hx, hb, hml, hown, hts⟩ (mt_X1_checkIndex l E (decide (0 ≤ k ∧ k ≤ (g 1) - 1)) (by exact hst) _) (va_cwS 1 hts (lw_S q1107 q1108 q94 q1109) rfl rfl rfl (by decide +kernel) ⟨Nat.le_of_ble_eq_true rfl, Nat.le_of_ble_eq_true rfl⟩) (UX_S (hP.sub (ws' := []) [] rfl) hK (hD.sub (ws' := []) [] rfl rfl) hE hS (va_sub_free hD hS hA [] rfl)) rfl rfl hl.1 rfl (lv_room (Nat.le_of_ble_eq_true rfl)) dX1_isThere_14 ⟨Nat.le_of_ble_eq_true rfl, Nat.le_of_ble_eq_true rfl⟩) hP hD hS hA [] [0, 1, 2, 3, 4, 5, 6, 7, 8, 9, 10, 11, 12, 13, 14, 15, 16, 17] [0, 1, 2, 3, 4, 5, 6, 7, 8, 9, 10, 11, 12, 13, 14, 15, 16, 17] [0, 1, 2, 3, 4, 5, 6, 7, 8, 9, 10, 11, 12, 13, 14, 15, 16, 17] rfl rfl rfl rfl rfl (fun _ => rfl) rfl (fun _ => rfl) ?_ ?_
  · intro En ce q9 u_3 H locs hCx hP hD hS hxf hq9 hce hcv hcl
    have hCx : En = "java/lang/IndexOutOfBoundsException" ∧ (decide (0 ≤ k ∧ k ≤ (g 1) - 1)) = false := hCx
    have hP : va_P E.1 CL (([(cw, .inr (1, [.ref (o 0), .ref oaA, .ref osA, iv hsn, .ref hdA, .ref spA, .ref bfA, .ref lnA, .ref prA, iv ep, va_rf lt]))] : va_W) ++ (SW E o sc ar)) H := hP
    have hD : va_D A (([(cw, .inr (1, [.ref (o 0), .ref oaA, .ref osA, iv hsn, .ref hdA, .ref spA, .ref bfA, .ref lnA, .ref prA, iv ep, va_rf lt]))] : va_W) ++ (SW E o sc ar)) := hD
    exact n_out () (by exact cx_k (k := 1) (by exact c_in_k (of_decide_eq_false hCx.2)) (by decide) hCx.1) hP hD hS hxf (Nat.le_trans hz_1 hq9) hce hcv hcl (fun x hx9 => (htb x hx9).elim) hlocks (Nat.le_of_ble_eq_true rfl) (Nat.le_of_ble_eq_true rfl)
  · intro u_2 H locs hC hP hD hS
    have hu_2 : (decide (0 ≤ k ∧ k ≤ (g 1) - 1)) = true := hC
    have hP : va_P E.1 CL (([(cw, .inr (1, [.ref (o 0), .ref oaA, .ref osA, iv hsn, .ref hdA, .ref spA, .ref bfA, .ref lnA, .ref prA, iv ep, va_rf lt]))] : va_W) ++ (SW E o sc ar)) H := hP
    have hD : va_D A (([(cw, .inr (1, [.ref (o 0), .ref oaA, .ref osA, iv hsn, .ref hdA, .ref spA, .ref bfA, .ref lnA, .ref prA, iv ep, va_rf lt]))] : va_W) ++ (SW E o sc ar)) := hD
    have hin := of_decide_eq_true hu_2
    refine lv_aload_n hx hb dX1_isThere_17 rfl (lv_at hl 0 rfl) ?_
    refine va_get (D := E.1) (ci := 1) (v := .ref (o 0)) (C := RX1) (T := TX1) (N := 11) hx hb hts in_X1 hown hK.1 hP 0 rfl rfl 0 (by decide) (hts _ q472) (fun _ h9 => h9) rfl dX1_isThere_18 ?_
    refine va_getN (D := E.1) (ci := 2) (v := .ref (o 12)) (C := RX2) (T := TX2) (N := 14) hx hb hts in_X2 hown hK.1 hP 1 rfl rfl 5 (by decide) (hK.nw q200) (fun _ h9 => h9) rfl dX1_isThere_21 ?_
    refine lv_iload_n hx hb dX1_isThere_24 rfl (lv_at hl 1 rfl) ?_
    refine n_zald (f := ar 12) hx hb hK.1 hP 13 1 rfl rfl (by omega) (by decide) dX1_isThere_25 ?_
    rw [hsr.her (k := k) (by omega)]
    refine vx_ret ?_
    refine W.widen (k := 1) (n := 6) (Nat.le_of_ble_eq_true rfl) (Nat.le_of_ble_eq_true rfl) ?_
    exact W.zret (v := iI (b2 (m_here g k))) hx hb hr (nr_b (b2_r _)) (fun tt_ ht_ hW_ => ⟨⟨iI (b2 (m_here g k)), (), rfl, ⟨by exact c_in_0 hin, rfl⟩, by rw [ht_]; exact hP, hD⟩, hS.F ht_⟩) hS.2.2 dX1_isThere_26
set_option maxHeartbeats 1000000 in
set_option maxRecDepth 100000 in
theorem mt_X1_toolOf (l : Launch) (E : EE) (cw : Nat) (oaA : Nat) (osA : Nat) (hsn : Int) (hdA : Nat) (spA : Nat) (bfA : Nat) (lnA : Nat) (prA : Nat) (ep : Int) (lt : Option Nat) (o : Nat → Nat) (sc : Nat → Int) (ar : Nat → Int → Int) (k : Int) (g : Int → Int) (hst : l.stackTraces = false) (hsr : SR g sc ar) (hk : -2147483648 ≤ k ∧ k < 2147483648) (how : OY g) (sz : Nat) : vx_Met l yX1_toolOf (ws_ yX1_toolOf cX1_toolOf 2 (some .char)) { frames := 8, cells := 1, slots := 6, locals := 133 } (va_Pc [.ref cw, iv k] (UX E (([(cw, .inr (1, [.ref (o 0), .ref oaA, .ref osA, iv hsn, .ref hdA, .ref spA, .ref bfA, .ref lnA, .ref prA, iv ep, va_rf lt]))] : va_W) ++ (SW E o sc ar)) sz)) (UQx E (fun u : Unit => c_obj g k = 0) (fun u : Unit => 97 + m_thing g k 0) (fun u : Unit => ([(cw, .inr (1, [.ref (o 0), .ref oaA, .ref osA, iv hsn, .ref hdA, .ref spA, .ref bfA, .ref lnA, .ref prA, iv ep, va_rf lt]))] : va_W) ++ (SW E o sc ar)) (va_A (([(cw, .inr (1, [.ref (o 0), .ref oaA, .ref osA, iv hsn, .ref hdA, .ref spA, .ref bfA, .ref lnA, .ref prA, iv ep, va_rf lt]))] : va_W) ++ (SW E o sc ar)) sz)) (UXx E (fun (En : String) (u : Unit) => 0 < c_obj g k ∧ En = nmX "java/lang/IndexOutOfBoundsException" "" "" (c_obj g k)) (fun u : Unit => ([(cw, .inr (1, [.ref (o 0), .ref oaA, .ref osA, iv hsn, .ref hdA, .ref spA, .ref bfA, .ref lnA, .ref prA, iv ep, va_rf lt]))] : va_W) ++ (SW E o sc ar)) (fun u : Unit => none) (va_A (([(cw, .inr (1, [.ref (o 0), .ref oaA, .ref osA, iv hsn, .ref hdA, .ref spA, .ref bfA, .ref lnA, .ref prA, iv ep, va_rf lt]))] : va_W) ++ (SW E o sc ar)) sz)) 1 6 (va_A (([(cw, .inr (1, [.ref (o 0), .ref oaA, .ref osA, iv hsn, .ref hdA, .ref spA, .ref bfA, .ref lnA, .ref prA, iv ep, va_rf lt]))] : va_W) ++ (SW E o sc ar)) sz) := by
  refine vx_ofW (cc := cX1_toolOf) (maxL := 2) (ret := (some .char)) (by decide) rfl ?_
  intro p e s m args below meth c s₁ B hml htb hv
  obtain ⟨rfl, hsz, hP, hK, hD0, hE⟩ := hv
  have hx := B.exec
  have hb := B.bytes
  have hr := B.returns
  have hts := atoms_spec (ws := (ws_ yX1_toolOf cX1_toolOf 2 (some .char))) B.pre
  have hts : ∀ w ∈ lw_all, w.before _ s = true := fun w h => hts w (List.mem_cons_of_mem _ h)
  have hown : s.vm.findClass RX1 = some m.cls := findClass_of_methodNamed B.named
  have hlocks := B.notSynchronized
  subst hsz
  have hD := hD0.self (sz := s.heap.size)
  generalize hAe : va_A (([(cw, .inr (1, [.ref (o 0), .ref oaA, .ref osA, iv hsn, .ref hdA, .ref spA, .ref bfA, .ref lnA, .ref prA, iv ep, va_rf lt]))] : va_W) ++ (SW E o sc ar)) s.heap.size = A at hD hE ⊢
  have hA : ∀ q : Nat, s.heap.size ≤ q → A q := fun q h => by rw [← hAe]; exact Or.inr h
  have hS : va_S A s.heap s.heap [] := va_S.rf
  have hl := lv_entry ([.ref cw, iv k]) (n := 2) (Nat.le_of_ble_eq_true rfl)
  rw [lg_entry_eq]
  generalize (lg_sl ([.ref cw, iv k]) ++ List.replicate (2 - (lg_sl ([.ref cw, iv k])).length) Slot.unset).toArray = ls at hl ⊢
  have hl : lv_has ls 2 [(0, .ref cw), (1, iv k)] := hl
  have hn1 := hsr.n1
  have ho1 := how.1
  have ho2 := how.2.1
  refine lv_aload_n hx hb dX1_toolOf_0 rfl (lv_at hl 0 rfl) ?_
  refine va_get (D := E.1) (ci := 1) (v := .ref (o 0)) (C := RX1) (T := TX1) (N := 11) hx hb hts in_X1 hown hK.1 hP 0 rfl rfl 0 (by decide) (hts _ q472) (fun _ h9 => h9) rfl dX1_toolOf_1 ?_
  refine lv_iload_n hx hb dX1_toolOf_4 rfl (lv_at hl 1 rfl) ?_
  have hz_1 : s.heap.size ≤ s.heap.size := hS.1
  refine n_txvS (w2 := fun u_2 => ([(cw, .inr (1, [.ref (o 0), .ref oaA, .ref osA, iv hsn, .ref hdA, .ref spA, .ref bfA, .ref lnA, .ref prA, iv ep, va_rf lt]))] : va_W) ++ (SW E o sc ar)) (w3 := fun u_3 => ([(cw, .inr (1, [.ref (o 0), .ref oaA, .ref osA, iv hsn, .ref hdA, .ref spA, .ref bfA, .ref lnA, .ref prA, iv ep, va_rf lt]))] : va_W) ++ (SW E o sc ar)) (vx_runV (As := [iv k]) (rest := []) ⟨hx, hb, hml, hown, hts⟩ (mt_X2_checkObject l E o sc ar k g (by exact hst) (by omega) (by assumption) (by assumption) _) (cwV 1 hts (lw_V q1322 q1290 q1291 q95 q1292) rfl rfl rfl (by decide +kernel) ⟨Nat.le_of_ble_eq_true rfl, Nat.le_of_ble_eq_true rfl⟩) (UX_V (hP.sub (ws' := SW E o sc ar) [1, 2, 3, 4, 5, 6, 7, 8, 9, 10, 11, 12, 13, 14, 15, 16, 17] rfl) hK (hD.sub (ws' := SW E o sc ar) [1, 2, 3, 4, 5, 6, 7, 8, 9, 10, 11, 12, 13, 14, 15, 16, 17] rfl rfl) hE hS (va_sub_free hD hS hA [1, 2, 3, 4, 5, 6, 7, 8, 9, 10, 11, 12, 13, 14, 15, 16, 17] rfl) (va_recv hK.1 hP (ci := 2) (q0 := 1) rfl rfl)) rfl rfl hl.1 rfl (lv_room (Nat.le_of_ble_eq_true rfl)) dX1_toolOf_5 ⟨Nat.le_of_ble_eq_true rfl, Nat.le_of_ble_eq_true rfl⟩) hP hD hS hA [1, 2, 3, 4, 5, 6, 7, 8, 9, 10, 11, 12, 13, 14, 15, 16, 17] [0] [0, 1, 2, 3, 4, 5, 6, 7, 8, 9, 10, 11, 12, 13, 14, 15, 16, 17] [0, 1, 2, 3, 4, 5, 6, 7, 8, 9, 10, 11, 12, 13, 14, 15, 16, 17] rfl rfl rfl rfl rfl (fun _ => rfl) rfl (fun _ => rfl) ?_ ?_
  · intro En ce q9 u_3 H locs hCx hP hD hS hxf hq9 hce hcv hcl
    have hCx : En = "java/lang/IndexOutOfBoundsException" ∧ m_isobj g k = false := hCx
    have hP : va_P E.1 CL (([(cw, .inr (1, [.ref (o 0), .ref oaA, .ref osA, iv hsn, .ref hdA, .ref spA, .ref bfA, .ref lnA, .ref prA, iv ep, va_rf lt]))] : va_W) ++ (SW E o sc ar)) H := hP
    have hD : va_D A (([(cw, .inr (1, [.ref (o 0), .ref oaA, .ref osA, iv hsn, .ref hdA, .ref spA, .ref bfA, .ref lnA, .ref prA, iv ep, va_rf lt]))] : va_W) ++ (SW E o sc ar)) := hD
    exact n_out () (by exact cx_k (k := 1) (by exact c_obj_1 hCx.2) (by decide) hCx.1) hP hD hS hxf (Nat.le_trans hz_1 hq9) hce hcv hcl (fun x hx9 => (htb x hx9).elim) hlocks (Nat.le_of_ble_eq_true rfl) (Nat.le_of_ble_eq_true rfl)
  · intro u_2 H locs hC hP hD hS
    have hu_2 : m_isobj g k = true := hC
    have hP : va_P E.1 CL (([(cw, .inr (1, [.ref (o 0), .ref oaA, .ref osA, iv hsn, .ref hdA, .ref spA, .ref bfA, .ref lnA, .ref prA, iv ep, va_rf lt]))] : va_W) ++ (SW E o sc ar)) H := hP
    have hD : va_D A (([(cw, .inr (1, [.ref (o 0), .ref oaA, .ref osA, iv hsn, .ref hdA, .ref spA, .ref bfA, .ref lnA, .ref prA, iv ep, va_rf lt]))] : va_W) ++ (SW E o sc ar)) := hD
    have hob := hu_2
    have hz := m_isobj_ok hob
    have hpl := how.pl
    refine lv_aload_n hx hb dX1_toolOf_8 rfl (lv_at hl 0 rfl) ?_
    refine va_get (D := E.1) (ci := 1) (v := .ref (o 0)) (C := RX1) (T := TX1) (N := 11) hx hb hts in_X1 hown hK.1 hP 0 rfl rfl 0 (by decide) (hts _ q472) (fun _ h9 => h9) rfl dX1_toolOf_9 ?_
    refine va_getN (D := E.1) (ci := 2) (v := .ref (o 10)) (C := RX2) (T := TX2) (N := 14) hx hb hts in_X2 hown hK.1 hP 1 rfl rfl 3 (by decide) (hK.nw q196) (fun _ h9 => h9) rfl dX1_toolOf_12 ?_
    refine lv_iload_n hx hb dX1_toolOf_15 rfl (lv_at hl 1 rfl) ?_
    refine n_iald (f := ar 10) hx hb hK.1 hP 11 0 rfl rfl (by omega) (by decide) dX1_toolOf_16 ?_
    rw [hsr.kind (k := k) (by omega)]
    have b_4 := (how.2.2 k (by omega) (by omega)).1
    refine n_csi (x := 97 + (m_thing g k 0)) (va_runS (As := [iv (m_thing g k 0)]) (rest := []) ⟨hx, hb, hml, hown, hts⟩ (mt_X1_letterOf l E (m_thing g k 0) (by omega)) (va_cwS 1 hts (lw_S q1126 q1127 q94 q1128) rfl rfl rfl (by decide +kernel) ⟨Nat.le_of_ble_eq_true rfl, Nat.le_of_ble_eq_true rfl⟩) (PW_S (hP.sub (ws' := []) [] rfl) hK) rfl rfl hl.1 rfl (lv_room (Nat.le_of_ble_eq_true rfl)) dX1_toolOf_17 ⟨Nat.le_of_ble_eq_true rfl, Nat.le_of_ble_eq_true rfl⟩) ?_
    have hfin : 97 + (m_thing g k 0) = 97 + m_thing g k 0 := by
      first | rfl | omega
    refine vx_ret ?_
    refine W.widen (k := 1) (n := 6) (Nat.le_of_ble_eq_true rfl) (Nat.le_of_ble_eq_true rfl) ?_
    exact W.zret (v := iI (97 + (m_thing g k 0))) hx hb hr (nr_c (by omega)) (fun tt_ ht_ hW_ => ⟨⟨iI (97 + (m_thing g k 0)), (), rfl, ⟨by exact c_obj_0 hob, (congrArg iI hfin)⟩, by rw [ht_]; exact hP, hD⟩, hS.F ht_⟩) hS.2.2 dX1_toolOf_20
set_option maxHeartbeats 1000000 in
set_option maxRecDepth 100000 in
theorem mt_X1_threadOf (l : Launch) (E : EE) (cw : Nat) (oaA : Nat) (osA : Nat) (hsn : Int) (hdA : Nat) (spA : Nat) (bfA : Nat) (lnA : Nat) (prA : Nat) (ep : Int) (lt : Option Nat) (o : Nat → Nat) (sc : Nat → Int) (ar : Nat → Int → Int) (k : Int) (g : Int → Int) (hst : l.stackTraces = false) (hsr : SR g sc ar) (hk : -2147483648 ≤ k ∧ k < 2147483648) (how : OY g) (sz : Nat) : vx_Met l yX1_threadOf (ws_ yX1_threadOf cX1_threadOf 2 (some .int)) { frames := 8, cells := 1, slots := 6, locals := 133 } (va_Pc [.ref cw, iv k] (UX E (([(cw, .inr (1, [.ref (o 0), .ref oaA, .ref osA, iv hsn, .ref hdA, .ref spA, .ref bfA, .ref lnA, .ref prA, iv ep, va_rf lt]))] : va_W) ++ (SW E o sc ar)) sz)) (UQx E (fun u : Unit => c_obj g k = 0) (fun u : Unit => m_thing g k 1) (fun u : Unit => ([(cw, .inr (1, [.ref (o 0), .ref oaA, .ref osA, iv hsn, .ref hdA, .ref spA, .ref bfA, .ref lnA, .ref prA, iv ep, va_rf lt]))] : va_W) ++ (SW E o sc ar)) (va_A (([(cw, .inr (1, [.ref (o 0), .ref oaA, .ref osA, iv hsn, .ref hdA, .ref spA, .ref bfA, .ref lnA, .ref prA, iv ep, va_rf lt]))] : va_W) ++ (SW E o sc ar)) sz)) (UXx E (fun (En : String) (u : Unit) => 0 < c_obj g k ∧ En = nmX "java/lang/IndexOutOfBoundsException" "" "" (c_obj g k)) (fun u : Unit => ([(cw, .inr (1, [.ref (o 0), .ref oaA, .ref osA, iv hsn, .ref hdA, .ref spA, .ref bfA, .ref lnA, .ref prA, iv ep, va_rf lt]))] : va_W) ++ (SW E o sc ar)) (fun u : Unit => none) (va_A (([(cw, .inr (1, [.ref (o 0), .ref oaA, .ref osA, iv hsn, .ref hdA, .ref spA, .ref bfA, .ref lnA, .ref prA, iv ep, va_rf lt]))] : va_W) ++ (SW E o sc ar)) sz)) 1 6 (va_A (([(cw, .inr (1, [.ref (o 0), .ref oaA, .ref osA, iv hsn, .ref hdA, .ref spA, .ref bfA, .ref lnA, .ref prA, iv ep, va_rf lt]))] : va_W) ++ (SW E o sc ar)) sz) := by
  refine vx_ofW (cc := cX1_threadOf) (maxL := 2) (ret := (some .int)) (by decide) rfl ?_
  intro p e s m args below meth c s₁ B hml htb hv
  obtain ⟨rfl, hsz, hP, hK, hD0, hE⟩ := hv
  have hx := B.exec
  have hb := B.bytes
  have hr := B.returns
  have hts := atoms_spec (ws := (ws_ yX1_threadOf cX1_threadOf 2 (some .int))) B.pre
  have hts : ∀ w ∈ lw_all, w.before _ s = true := fun w h => hts w (List.mem_cons_of_mem _ h)
  have hown : s.vm.findClass RX1 = some m.cls := findClass_of_methodNamed B.named
  have hlocks := B.notSynchronized
  subst hsz
  have hD := hD0.self (sz := s.heap.size)
  generalize hAe : va_A (([(cw, .inr (1, [.ref (o 0), .ref oaA, .ref osA, iv hsn, .ref hdA, .ref spA, .ref bfA, .ref lnA, .ref prA, iv ep, va_rf lt]))] : va_W) ++ (SW E o sc ar)) s.heap.size = A at hD hE ⊢
  have hA : ∀ q : Nat, s.heap.size ≤ q → A q := fun q h => by rw [← hAe]; exact Or.inr h
  have hS : va_S A s.heap s.heap [] := va_S.rf
  have hl := lv_entry ([.ref cw, iv k]) (n := 2) (Nat.le_of_ble_eq_true rfl)
  rw [lg_entry_eq]
  generalize (lg_sl ([.ref cw, iv k]) ++ List.replicate (2 - (lg_sl ([.ref cw, iv k])).length) Slot.unset).toArray = ls at hl ⊢
  have hl : lv_has ls 2 [(0, .ref cw), (1, iv k)] := hl
  have hn1 := hsr.n1
  have ho1 := how.1
  have ho2 := how.2.1
  refine lv_aload_n hx hb dX1_threadOf_0 rfl (lv_at hl 0 rfl) ?_
  refine va_get (D := E.1) (ci := 1) (v := .ref (o 0)) (C := RX1) (T := TX1) (N := 11) hx hb hts in_X1 hown hK.1 hP 0 rfl rfl 0 (by decide) (hts _ q472) (fun _ h9 => h9) rfl dX1_threadOf_1 ?_
  refine lv_iload_n hx hb dX1_threadOf_4 rfl (lv_at hl 1 rfl) ?_
  have hz_1 : s.heap.size ≤ s.heap.size := hS.1
  refine n_txvS (w2 := fun u_2 => ([(cw, .inr (1, [.ref (o 0), .ref oaA, .ref osA, iv hsn, .ref hdA, .ref spA, .ref bfA, .ref lnA, .ref prA, iv ep, va_rf lt]))] : va_W) ++ (SW E o sc ar)) (w3 := fun u_3 => ([(cw, .inr (1, [.ref (o 0), .ref oaA, .ref osA, iv hsn, .ref hdA, .ref spA, .ref bfA, .ref lnA, .ref prA, iv ep, va_rf lt]))] : va_W) ++ (SW E o sc ar)) (vx_runV (As := [iv k]) (rest := []) ⟨hx, hb, hml, hown, hts⟩ (mt_X2_checkObject l E o sc ar k g (by exact hst) (by omega) (by assumption) (by assumption) _) (cwV 1 hts (lw_V q1322 q1290 q1291 q95 q1292) rfl rfl rfl (by decide +kernel) ⟨Nat.le_of_ble_eq_true rfl, Nat.le_of_ble_eq_true rfl⟩) (UX_V (hP.sub (ws' := SW E o sc ar) [1, 2, 3, 4, 5, 6, 7, 8, 9, 10, 11, 12, 13, 14, 15, 16, 17] rfl) hK (hD.sub (ws' := SW E o sc ar) [1, 2, 3, 4, 5, 6, 7, 8, 9, 10, 11, 12, 13, 14, 15, 16, 17] rfl rfl) hE hS (va_sub_free hD hS hA [1, 2, 3, 4, 5, 6, 7, 8, 9, 10, 11, 12, 13, 14, 15, 16, 17] rfl) (va_recv hK.1 hP (ci := 2) (q0 := 1) rfl rfl)) rfl rfl hl.1 rfl (lv_room (Nat.le_of_ble_eq_true rfl)) dX1_threadOf_5 ⟨Nat.le_of_ble_eq_true rfl, Nat.le_of_ble_eq_true rfl⟩) hP hD hS hA [1, 2, 3, 4, 5, 6, 7, 8, 9, 10, 11, 12, 13, 14, 15, 16, 17] [0] [0, 1, 2, 3, 4, 5, 6, 7, 8, 9, 10, 11, 12, 13, 14, 15, 16, 17] [0, 1, 2, 3, 4, 5, 6, 7, 8, 9, 10, 11, 12, 13, 14, 15, 16, 17] rfl rfl rfl rfl rfl (fun _ => rfl) rfl (fun _ => rfl) ?_ ?_
  · intro En ce q9 u_3 H locs hCx hP hD hS hxf hq9 hce hcv hcl
    have hCx : En = "java/lang/IndexOutOfBoundsException" ∧ m_isobj g k = false := hCx
    have hP : va_P E.1 CL (([(cw, .inr (1, [.ref (o 0), .ref oaA, .ref osA, iv hsn, .ref hdA, .ref spA, .ref bfA, .ref lnA, .ref prA, iv ep, va_rf lt]))] : va_W) ++ (SW E o sc ar)) H := hP
    have hD : va_D A (([(cw, .inr (1, [.ref (o 0), .ref oaA, .ref osA, iv hsn, .ref hdA, .ref spA, .ref bfA, .ref lnA, .ref prA, iv ep, va_rf lt]))] : va_W) ++ (SW E o sc ar)) := hD
    exact n_out () (by exact cx_k (k := 1) (by exact c_obj_1 hCx.2) (by decide) hCx.1) hP hD hS hxf (Nat.le_trans hz_1 hq9) hce hcv hcl (fun x hx9 => (htb x hx9).elim) hlocks (Nat.le_of_ble_eq_true rfl) (Nat.le_of_ble_eq_true rfl)
  · intro u_2 H locs hC hP hD hS
    have hu_2 : m_isobj g k = true := hC
    have hP : va_P E.1 CL (([(cw, .inr (1, [.ref (o 0), .ref oaA, .ref osA, iv hsn, .ref hdA, .ref spA, .ref bfA, .ref lnA, .ref prA, iv ep, va_rf lt]))] : va_W) ++ (SW E o sc ar)) H := hP
    have hD : va_D A (([(cw, .inr (1, [.ref (o 0), .ref oaA, .ref osA, iv hsn, .ref hdA, .ref spA, .ref bfA, .ref lnA, .ref prA, iv ep, va_rf lt]))] : va_W) ++ (SW E o sc ar)) := hD
    have hob := hu_2
    have hz := m_isobj_ok hob
    have hpl := how.pl
    refine lv_aload_n hx hb dX1_threadOf_8 rfl (lv_at hl 0 rfl) ?_
    refine va_get (D := E.1) (ci := 1) (v := .ref (o 0)) (C := RX1) (T := TX1) (N := 11) hx hb hts in_X1 hown hK.1 hP 0 rfl rfl 0 (by decide) (hts _ q472) (fun _ h9 => h9) rfl dX1_threadOf_9 ?_
    refine va_getN (D := E.1) (ci := 2) (v := .ref (o 11)) (C := RX2) (T := TX2) (N := 14) hx hb hts in_X2 hown hK.1 hP 1 rfl rfl 4 (by decide) (hK.nw q198) (fun _ h9 => h9) rfl dX1_threadOf_12 ?_
    refine lv_iload_n hx hb dX1_threadOf_15 rfl (lv_at hl 1 rfl) ?_
    refine n_iald (f := ar 11) hx hb hK.1 hP 12 0 rfl rfl (by omega) (by decide) dX1_threadOf_16 ?_
    rw [hsr.plc (k := k) (by omega)]
    refine vx_ret ?_
    refine W.widen (k := 1) (n := 6) (Nat.le_of_ble_eq_true rfl) (Nat.le_of_ble_eq_true rfl) ?_
    exact W.iret (v := iI (m_thing g k 1)) hx hb hr (fun tt_ ht_ hW_ => ⟨⟨iI (m_thing g k 1), (), rfl, ⟨by exact c_obj_0 hob, rfl⟩, by rw [ht_]; exact hP, hD⟩, hS.F ht_⟩) hS.2.2 dX1_threadOf_17
set_option maxHeartbeats 1000000 in
set_option maxRecDepth 100000 in
theorem mt_X1_danglers (l : Launch) (E : EE) (cw : Nat) (oaA : Nat) (osA : Nat) (hsn : Int) (hdA : Nat) (spA : Nat) (bfA : Nat) (lnA : Nat) (prA : Nat) (ep : Int) (lt : Option Nat) (o : Nat → Nat) (sc : Nat → Int) (ar : Nat → Int → Int)  (g : Int → Int) (hsr : SR g sc ar) (how : OY g) : Met l yX1_danglers (ws_ yX1_danglers cX1_danglers 1 (some .int)) { frames := 1, cells := 0, slots := 0, locals := 25 } (va_Pc [.ref cw] (PW E (([(cw, .inr (1, [.ref (o 0), .ref oaA, .ref osA, iv hsn, .ref hdA, .ref spA, .ref bfA, .ref lnA, .ref prA, iv ep, va_rf lt]))] : va_W) ++ (SW E o sc ar)))) (NP (m_dang g)) 0 0 (fun _ => False) := by
  refine Met.ofW (cc := cX1_danglers) (maxL := 1) (ret := (some .int)) (by decide) rfl ?_
  intro p e s m args below meth c s₁ B hml hv
  obtain ⟨rfl, hP, hK⟩ := hv
  have hx := B.exec
  have hb := B.bytes
  have hr := B.returns
  have hts := atoms_spec (ws := (ws_ yX1_danglers cX1_danglers 1 (some .int))) B.pre
  have hts : ∀ w ∈ lw_all, w.before _ s = true := fun w h => hts w (List.mem_cons_of_mem _ h)
  have hown : s.vm.findClass RX1 = some m.cls := findClass_of_methodNamed B.named
  have hlocks := B.notSynchronized
  have hl := lv_entry ([.ref cw]) (n := 1) (Nat.le_of_ble_eq_true rfl)
  rw [lg_entry_eq]
  generalize (lg_sl ([.ref cw]) ++ List.replicate (1 - (lg_sl ([.ref cw])).length) Slot.unset).toArray = ls at hl ⊢
  have hl : lv_has ls 1 [(0, .ref cw)] := hl
  refine lv_aload_n hx hb dX1_danglers_0 rfl (lv_at hl 0 rfl) ?_
  refine va_get (D := E.1) (ci := 1) (v := .ref (o 0)) (C := RX1) (T := TX1) (N := 11) hx hb hts in_X1 hown hK.1 hP 0 rfl rfl 0 (by decide) (hts _ q472) (fun _ h9 => h9) rfl dX1_danglers_1 ?_
  refine n_csi (x := m_dang g) (va_runV (As := []) (rest := []) ⟨hx, hb, hml, hown, hts⟩ (mt_X2_danglers l E o sc ar  g (by assumption) (by assumption)) (cwV 0 hts (lw_V q683 q684 q685 q95 q686) rfl rfl rfl (by decide +kernel) ⟨Nat.le_of_ble_eq_true rfl, Nat.le_of_ble_eq_true rfl⟩) (PW_V (hP.sub (ws' := SW E o sc ar) [1, 2, 3, 4, 5, 6, 7, 8, 9, 10, 11, 12, 13, 14, 15, 16, 17] rfl) hK (va_recv hK.1 hP (ci := 2) (q0 := 1) rfl rfl)) rfl rfl hl.1 rfl (lv_room (Nat.le_of_ble_eq_true rfl)) dX1_danglers_4 ⟨Nat.le_of_ble_eq_true rfl, Nat.le_of_ble_eq_true rfl⟩) ?_
  exact W.iret (v := iI (m_dang g)) hx hb hr (fun tt_ ht_ hW_ => ⟨iI (m_dang g), rfl, rfl, ht_⟩) (fun q h => by cases h) dX1_danglers_7
set_option maxHeartbeats 1000000 in
set_option maxRecDepth 100000 in
theorem mt_X1_tried (l : Launch) (E : EE) (cw : Nat) (osA : Nat) (hsn : Int) (hdA : Nat) (spA : Nat) (bfA : Nat) (lnA : Nat) (prA : Nat) (ep : Int) (lt : Option Nat) (o : Nat → Nat) (sc : Nat → Int) (ar : Nat → Int → Int) (oa : Nat → Nat) (sa : Nat → Int) (aa : Nat → Int → Int) (t : Int) (th : Int) (g : Int → Int) (r : Int → Nat) (hst : l.stackTraces = false) (hsr : SR g sc ar) (ht : 0 ≤ t ∧ t < 8) (hth : 0 ≤ th ∧ th ≤ 3) (htw : TW g) (hsw : SwOK g) (htm : TM g) (hhn : HN g) (hsc : SC g) (hrk : RK g r) (hr8 : ∀ t, 0 ≤ t → t < 8 → r t < 8) (how : OY g) (hfit : g 1 + (m_dues g t th).1 ≤ 160) (sz : Nat) : vx_Met l yX1_tried (ws_ yX1_tried cX1_tried 3 (some .int)) { frames := 21, cells := 1, slots := 4, locals := 648 } (va_Pc [.ref cw, iv t, iv th] (UX E (([(cw, .inr (1, [.ref (o 0), .ref (oa 0), .ref osA, iv hsn, .ref hdA, .ref spA, .ref bfA, .ref lnA, .ref prA, iv ep, va_rf lt]))] : va_W) ++ (SW E o sc ar) ++ (SW E oa sa aa)) sz)) (UQx E (fun u : SU => True) (fun u : SU => (if (m_dues g t th).2.2 < 0 then (m_dues g t th).1 else -1)) (fun u : SU => ([(cw, .inr (1, [.ref (o 0), .ref (oa 0), .ref osA, iv hsn, .ref hdA, .ref spA, .ref bfA, .ref lnA, .ref prA, iv ep, va_rf lt]))] : va_W) ++ (SW E o sc ar) ++ (SW E oa u.1 u.2)) (va_A (([(cw, .inr (1, [.ref (o 0), .ref (oa 0), .ref osA, iv hsn, .ref hdA, .ref spA, .ref bfA, .ref lnA, .ref prA, iv ep, va_rf lt]))] : va_W) ++ (SW E o sc ar) ++ (SW E oa sa aa)) sz)) (UXx E (fun (En : String) (u : Unit) => False) (fun u : Unit => ([(cw, .inr (1, [.ref (o 0), .ref (oa 0), .ref osA, iv hsn, .ref hdA, .ref spA, .ref bfA, .ref lnA, .ref prA, iv ep, va_rf lt]))] : va_W) ++ (SW E o sc ar) ++ (SW E oa sa aa)) (fun u : Unit => none) (va_A (([(cw, .inr (1, [.ref (o 0), .ref (oa 0), .ref osA, iv hsn, .ref hdA, .ref spA, .ref bfA, .ref lnA, .ref prA, iv ep, va_rf lt]))] : va_W) ++ (SW E o sc ar) ++ (SW E oa sa aa)) sz)) 1 4 (va_A (([(cw, .inr (1, [.ref (o 0), .ref (oa 0), .ref osA, iv hsn, .ref hdA, .ref spA, .ref bfA, .ref lnA, .ref prA, iv ep, va_rf lt]))] : va_W) ++ (SW E o sc ar) ++ (SW E oa sa aa)) sz) := by
  refine vx_ofW (cc := cX1_tried) (maxL := 3) (ret := (some .int)) (by decide) rfl ?_
  intro p e s m args below meth c s₁ B hml htb hv
  obtain ⟨rfl, hsz, hP, hK, hD0, hE⟩ := hv
  have hx := B.exec
  have hb := B.bytes
  have hr := B.returns
  have hts := atoms_spec (ws := (ws_ yX1_tried cX1_tried 3 (some .int))) B.pre
  have hts : ∀ w ∈ lw_all, w.before _ s = true := fun w h => hts w (List.mem_cons_of_mem _ h)
  have hown : s.vm.findClass RX1 = some m.cls := findClass_of_methodNamed B.named
  have hlocks := B.notSynchronized
  subst hsz
  have hD := hD0.self (sz := s.heap.size)
  generalize hAe : va_A (([(cw, .inr (1, [.ref (o 0), .ref (oa 0), .ref osA, iv hsn, .ref hdA, .ref spA, .ref bfA, .ref lnA, .ref prA, iv ep, va_rf lt]))] : va_W) ++ (SW E o sc ar) ++ (SW E oa sa aa)) s.heap.size = A at hD hE ⊢
  have hA : ∀ q : Nat, s.heap.size ≤ q → A q := fun q h => by rw [← hAe]; exact Or.inr h
  have hS : va_S A s.heap s.heap [] := va_S.rf
  have hl := lv_entry ([.ref cw, iv t, iv th]) (n := 3) (Nat.le_of_ble_eq_true rfl)
  rw [lg_entry_eq]
  generalize (lg_sl ([.ref cw, iv t, iv th]) ++ List.replicate (3 - (lg_sl ([.ref cw, iv t, iv th])).length) Slot.unset).toArray = ls at hl ⊢
  have hl : lv_has ls 3 [(0, .ref cw), (1, iv t), (2, iv th)] := hl
  refine lv_aload_n hx hb dX1_tried_0 rfl (lv_at hl 0 rfl) ?_
  refine va_get (D := E.1) (ci := 1) (v := .ref (oa 0)) (C := RX1) (T := TX1) (N := 11) hx hb hts in_X1 hown hK.1 hP 0 rfl rfl 1 (by decide) (hts _ q473) (fun _ h9 => h9) rfl dX1_tried_1 ?_
  refine lv_aload_n hx hb dX1_tried_4 rfl (lv_at hl 0 rfl) ?_
  refine va_get (D := E.1) (ci := 1) (v := .ref (o 0)) (C := RX1) (T := TX1) (N := 11) hx hb hts in_X1 hown hK.1 hP 0 rfl rfl 0 (by decide) (hts _ q472) (fun _ h9 => h9) rfl dX1_tried_5 ?_
  refine n_cuxvS (w2 := fun u_1 => ([(cw, .inr (1, [.ref (o 0), .ref (oa 0), .ref osA, iv hsn, .ref hdA, .ref spA, .ref bfA, .ref lnA, .ref prA, iv ep, va_rf lt]))] : va_W) ++ (SW E o sc ar) ++ (SW E oa u_1.1 u_1.2)) (va_runV (As := [.ref (o 0)]) (rest := []) ⟨hx, hb, hml, hown, hts⟩ (mt_X2_copyFrom l E oa sa aa o sc ar  g (by exact hsr) (by exact how) _) (cwV 1 hts (lw_V q760 q761 q762 q95 q763) rfl rfl rfl (by decide +kernel) ⟨Nat.le_of_ble_eq_true rfl, Nat.le_of_ble_eq_true rfl⟩) (UW_V (hP.sub (ws' := (SW E oa sa aa) ++ (SW E o sc ar)) [18, 19, 20, 21, 22, 23, 24, 25, 26, 27, 28, 29, 30, 31, 32, 33, 34, 1, 2, 3, 4, 5, 6, 7, 8, 9, 10, 11, 12, 13, 14, 15, 16, 17] rfl) hK (hD.sub (ws' := (SW E oa sa aa) ++ (SW E o sc ar)) [18, 19, 20, 21, 22, 23, 24, 25, 26, 27, 28, 29, 30, 31, 32, 33, 34, 1, 2, 3, 4, 5, 6, 7, 8, 9, 10, 11, 12, 13, 14, 15, 16, 17] rfl rfl) (va_recv hK.1 hP (ci := 2) (q0 := 18) rfl rfl)) rfl rfl hl.1 rfl (lv_room (Nat.le_of_ble_eq_true rfl)) dX1_tried_8 ⟨Nat.le_of_ble_eq_true rfl, Nat.le_of_ble_eq_true rfl⟩) hP hD hS hA [18, 19, 20, 21, 22, 23, 24, 25, 26, 27, 28, 29, 30, 31, 32, 33, 34, 1, 2, 3, 4, 5, 6, 7, 8, 9, 10, 11, 12, 13, 14, 15, 16, 17] [0] [0, 18, 19, 20, 21, 22, 23, 24, 25, 26, 27, 28, 29, 30, 31, 32, 33, 34, 1, 2, 3, 4, 5, 6, 7, 8, 9, 10, 11, 12, 13, 14, 15, 16, 17] rfl rfl rfl rfl rfl (fun _ => rfl) (fun u_1 H locs hu_1 hP hD hS => ?_)
  have hu_1 : SR g u_1.1 u_1.2 := hu_1
  have hP : va_P E.1 CL (([(cw, .inr (1, [.ref (o 0), .ref (oa 0), .ref osA, iv hsn, .ref hdA, .ref spA, .ref bfA, .ref lnA, .ref prA, iv ep, va_rf lt]))] : va_W) ++ (SW E o sc ar) ++ (SW E oa u_1.1 u_1.2)) H := hP
  have hD : va_D A (([(cw, .inr (1, [.ref (o 0), .ref (oa 0), .ref osA, iv hsn, .ref hdA, .ref spA, .ref bfA, .ref lnA, .ref prA, iv ep, va_rf lt]))] : va_W) ++ (SW E o sc ar) ++ (SW E oa u_1.1 u_1.2)) := hD
  refine lv_aload_n hx hb dX1_tried_11 rfl (lv_at hl 0 rfl) ?_
  refine va_get (D := E.1) (ci := 1) (v := .ref (oa 0)) (C := RX1) (T := TX1) (N := 11) hx hb hts in_X1 hown hK.1 hP 0 rfl rfl 1 (by decide) (hts _ q473) (fun _ h9 => h9) rfl dX1_tried_12 ?_
  refine lv_iload_n hx hb dX1_tried_15 rfl (lv_at hl 1 rfl) ?_
  refine lv_iload_n hx hb dX1_tried_16 rfl (lv_at hl 2 rfl) ?_
  have hz_2 : s.heap.size ≤ H.size := hS.1
  refine n_txS (x := fun u_3 => (if (m_dues g t th).2.2 < 0 then (m_dues g t th).1 else -1)) (w2 := fun u_3 => ([(cw, .inr (1, [.ref (o 0), .ref (oa 0), .ref osA, iv hsn, .ref hdA, .ref spA, .ref bfA, .ref lnA, .ref prA, iv ep, va_rf lt]))] : va_W) ++ (SW E o sc ar) ++ (SW E oa u_3.1 u_3.2)) (w3 := fun u_4 => ([(cw, .inr (1, [.ref (o 0), .ref (oa 0), .ref osA, iv hsn, .ref hdA, .ref spA, .ref bfA, .ref lnA, .ref prA, iv ep, va_rf lt]))] : va_W) ++ (SW E o sc ar) ++ (SW E oa u_1.1 u_1.2)) (vx_runVX (As := [iv t, iv th]) (rest := []) ⟨hx, hb, hml, hown, hts⟩ (mt_X2_tried l E oa u_1.1 u_1.2 t th g r (by exact hst) (by exact hu_1) (by omega) (by omega) (by assumption) (by assumption) (by assumption) (by assumption) (by assumption) (by assumption) (by assumption) (by assumption) (by assumption) _) (vx_cwVW 2 hts (lw_VW q770 q771 q772 q95 q773) rfl rfl rfl (by decide +kernel) ⟨Nat.le_of_ble_eq_true rfl, Nat.le_of_ble_eq_true rfl⟩) (UX_V (hP.sub (ws' := SW E oa u_1.1 u_1.2) [18, 19, 20, 21, 22, 23, 24, 25, 26, 27, 28, 29, 30, 31, 32, 33, 34] rfl) hK (hD.sub (ws' := SW E oa u_1.1 u_1.2) [18, 19, 20, 21, 22, 23, 24, 25, 26, 27, 28, 29, 30, 31, 32, 33, 34] rfl rfl) hE hS (va_sub_free hD hS hA [18, 19, 20, 21, 22, 23, 24, 25, 26, 27, 28, 29, 30, 31, 32, 33, 34] rfl) (va_recv hK.1 hP (ci := 2) (q0 := 18) rfl rfl)) rfl rfl hl.1 rfl (lv_room (Nat.le_of_ble_eq_true rfl)) dX1_tried_17 ⟨Nat.le_of_ble_eq_true rfl, Nat.le_of_ble_eq_true rfl⟩) hP hD hS hA [18, 19, 20, 21, 22, 23, 24, 25, 26, 27, 28, 29, 30, 31, 32, 33, 34] [0, 1, 2, 3, 4, 5, 6, 7, 8, 9, 10, 11, 12, 13, 14, 15, 16, 17] [0, 1, 2, 3, 4, 5, 6, 7, 8, 9, 10, 11, 12, 13, 14, 15, 16, 17, 18, 19, 20, 21, 22, 23, 24, 25, 26, 27, 28, 29, 30, 31, 32, 33, 34] [0, 1, 2, 3, 4, 5, 6, 7, 8, 9, 10, 11, 12, 13, 14, 15, 16, 17, 18, 19, 20, 21, 22, 23, 24, 25, 26, 27, 28, 29, 30, 31, 32, 33, 34] rfl rfl rfl rfl rfl (fun _ => rfl) rfl (fun _ => rfl) ?_ ?_
  · intro En ce q9 u_4 H locs hCx hP hD hS hxf hq9 hce hcv hcl
    have hCx : False := hCx
    have hP : va_P E.1 CL (([(cw, .inr (1, [.ref (o 0), .ref (oa 0), .ref osA, iv hsn, .ref hdA, .ref spA, .ref bfA, .ref lnA, .ref prA, iv ep, va_rf lt]))] : va_W) ++ (SW E o sc ar) ++ (SW E oa u_1.1 u_1.2)) H := hP
    have hD : va_D A (([(cw, .inr (1, [.ref (o 0), .ref (oa 0), .ref osA, iv hsn, .ref hdA, .ref spA, .ref bfA, .ref lnA, .ref prA, iv ep, va_rf lt]))] : va_W) ++ (SW E o sc ar) ++ (SW E oa u_1.1 u_1.2)) := hD
    exact (show False from hCx).elim
  · intro u_3 H locs hC hP hD hS
    have hu_3 : True := hC
    have hP : va_P E.1 CL (([(cw, .inr (1, [.ref (o 0), .ref (oa 0), .ref osA, iv hsn, .ref hdA, .ref spA, .ref bfA, .ref lnA, .ref prA, iv ep, va_rf lt]))] : va_W) ++ (SW E o sc ar) ++ (SW E oa u_3.1 u_3.2)) H := hP
    have hD : va_D A (([(cw, .inr (1, [.ref (o 0), .ref (oa 0), .ref osA, iv hsn, .ref hdA, .ref spA, .ref bfA, .ref lnA, .ref prA, iv ep, va_rf lt]))] : va_W) ++ (SW E o sc ar) ++ (SW E oa u_3.1 u_3.2)) := hD
    refine vx_ret ?_
    refine W.widen (k := 1) (n := 4) (Nat.le_of_ble_eq_true rfl) (Nat.le_of_ble_eq_true rfl) ?_
    exact W.iret (v := iI (if (m_dues g t th).2.2 < 0 then (m_dues g t th).1 else -1)) hx hb hr (fun tt_ ht_ hW_ => ⟨⟨iI (if (m_dues g t th).2.2 < 0 then (m_dues g t th).1 else -1), (u_3.1, u_3.2), rfl, ⟨trivial, rfl⟩, by rw [ht_]; exact hP, hD⟩, hS.F ht_⟩) hS.2.2 dX1_tried_20
set_option maxHeartbeats 1000000 in
set_option maxRecDepth 100000 in
theorem mt_X1_wouldMake (l : Launch) (E : EE) (cw : Nat) (osA : Nat) (hsn : Int) (hdA : Nat) (spA : Nat) (bfA : Nat) (lnA : Nat) (prA : Nat) (ep : Int) (lt : Option Nat) (o : Nat → Nat) (sc : Nat → Int) (ar : Nat → Int → Int) (oa : Nat → Nat) (sa : Nat → Int) (aa : Nat → Int → Int) (t : Int) (th : Int) (g : Int → Int) (r : Int → Nat) (hst : l.stackTraces = false) (hsr : SR g sc ar) (ht : 0 ≤ t ∧ t < 65536) (hth : -2147483648 ≤ th ∧ th < 2147483648) (htw : TW g) (hsw : SwOK g) (htm : TM g) (hhn : HN g) (hsc : SC g) (hrk : RK g r) (hr8 : ∀ t, 0 ≤ t → t < 8 → r t < 8) (how : OY g) (hfit : ∀ t, 0 ≤ t → t < 8 → ∀ th, g 1 + (m_dues g t th).1 ≤ 160) (sz : Nat) : vx_Met l yX1_wouldMake (ws_ yX1_wouldMake cX1_wouldMake 4 (some .int)) { frames := 22, cells := 4, slots := 22, locals := 670 } (va_Pc [.ref cw, iv t, iv th] (UX E (([(cw, .inr (1, [.ref (o 0), .ref (oa 0), .ref osA, iv hsn, .ref hdA, .ref spA, .ref bfA, .ref lnA, .ref prA, iv ep, va_rf lt]))] : va_W) ++ (SW E o sc ar) ++ (SW E oa sa aa)) sz)) (UQx E (fun u : SU => c_wd g t th = 0) (fun u : SU => (m_dues g (t - 97) th).1) (fun u : SU => ([(cw, .inr (1, [.ref (o 0), .ref (oa 0), .ref osA, iv hsn, .ref hdA, .ref spA, .ref bfA, .ref lnA, .ref prA, iv ep, va_rf lt]))] : va_W) ++ (SW E o sc ar) ++ (SW E oa u.1 u.2)) (va_A (([(cw, .inr (1, [.ref (o 0), .ref (oa 0), .ref osA, iv hsn, .ref hdA, .ref spA, .ref bfA, .ref lnA, .ref prA, iv ep, va_rf lt]))] : va_W) ++ (SW E o sc ar) ++ (SW E oa sa aa)) sz)) (UXx E (fun (En : String) (u : SU) => 0 < c_wd g t th ∧ En = nmX "java/lang/IllegalArgumentException" "java/lang/IndexOutOfBoundsException" "java/util/NoSuchElementException" (c_wd g t th)) (fun u : SU => ([(cw, .inr (1, [.ref (o 0), .ref (oa 0), .ref osA, iv hsn, .ref hdA, .ref spA, .ref bfA, .ref lnA, .ref prA, iv ep, va_rf lt]))] : va_W) ++ (SW E o sc ar) ++ (SW E oa u.1 u.2)) (fun u : SU => none) (va_A (([(cw, .inr (1, [.ref (o 0), .ref (oa 0), .ref osA, iv hsn, .ref hdA, .ref spA, .ref bfA, .ref lnA, .ref prA, iv ep, va_rf lt]))] : va_W) ++ (SW E o sc ar) ++ (SW E oa sa aa)) sz)) 4 22 (va_A (([(cw, .inr (1, [.ref (o 0), .ref (oa 0), .ref osA, iv hsn, .ref hdA, .ref spA, .ref bfA, .ref lnA, .ref prA, iv ep, va_rf lt]))] : va_W) ++ (SW E o sc ar) ++ (SW E oa sa aa)) sz) := by
  refine vx_ofW (cc := cX1_wouldMake) (maxL := 4) (ret := (some .int)) (by decide) rfl ?_
  intro p e s m args below meth c s₁ B hml htb hv
  obtain ⟨rfl, hsz, hP, hK, hD0, hE⟩ := hv
  have hx := B.exec
  have hb := B.bytes
  have hr := B.returns
  have hts := atoms_spec (ws := (ws_ yX1_wouldMake cX1_wouldMake 4 (some .int))) B.pre
  have hts : ∀ w ∈ lw_all, w.before _ s = true := fun w h => hts w (List.mem_cons_of_mem _ h)
  have hown : s.vm.findClass RX1 = some m.cls := findClass_of_methodNamed B.named
  have hlocks := B.notSynchronized
  subst hsz
  have hD := hD0.self (sz := s.heap.size)
  generalize hAe : va_A (([(cw, .inr (1, [.ref (o 0), .ref (oa 0), .ref osA, iv hsn, .ref hdA, .ref spA, .ref bfA, .ref lnA, .ref prA, iv ep, va_rf lt]))] : va_W) ++ (SW E o sc ar) ++ (SW E oa sa aa)) s.heap.size = A at hD hE ⊢
  have hA : ∀ q : Nat, s.heap.size ≤ q → A q := fun q h => by rw [← hAe]; exact Or.inr h
  have hS : va_S A s.heap s.heap [] := va_S.rf
  have hl := lv_entry ([.ref cw, iv t, iv th]) (n := 4) (Nat.le_of_ble_eq_true rfl)
  rw [lg_entry_eq]
  generalize (lg_sl ([.ref cw, iv t, iv th]) ++ List.replicate (4 - (lg_sl ([.ref cw, iv t, iv th])).length) Slot.unset).toArray = ls at hl ⊢
  have hl : lv_has ls 4 [(0, .ref cw), (1, iv t), (2, iv th)] := hl
  have hpl := how.pl
  have hbr := hsr.br
  refine lv_iload_n hx hb dX1_wouldMake_0 rfl (lv_at hl 1 rfl) ?_
  have hg_1 : gpick [[(cw, .inr (1, [.ref (o 0), .ref (oa 0), .ref osA, iv hsn, .ref hdA, .ref spA, .ref bfA, .ref lnA, .ref prA, iv ep, va_rf lt]))], SW E o sc ar, SW E oa sa aa] ([] ++ [[(cw, .inr (1, [.ref (o 0), .ref (oa 0), .ref osA, iv hsn, .ref hdA, .ref spA, .ref bfA, .ref lnA, .ref prA, iv ep, va_rf lt]))], SW E o sc ar, SW E oa sa aa]) [0, 1, 2] := ⟨rfl, (show List.Perm [0, 1, 2] (List.range 3) from by decide)⟩
  have hg_1P : va_P E.1 CL ([]) s.heap := (g_out hg_1 hP hD).1
  have hg_1D : va_D A ([]) := (g_out hg_1 hP hD).2
  have hg_1F : ∀ q, va_A ([]) s.heap.size q → A q := g_free hg_1 hP hD hS hA
  have hz_2 : s.heap.size ≤ s.heap.size := hS.1
  have hj_5 : ∀ u_3 : Unit, gpick ([] ++ [[(cw, .inr (1, [.ref (o 0), .ref (oa 0), .ref osA, iv hsn, .ref hdA, .ref spA, .ref bfA, .ref lnA, .ref prA, iv ep, va_rf lt]))], SW E o sc ar, SW E oa sa aa]) [[(cw, .inr (1, [.ref (o 0), .ref (oa 0), .ref osA, iv hsn, .ref hdA, .ref spA, .ref bfA, .ref lnA, .ref prA, iv ep, va_rf lt]))], SW E o sc ar, SW E oa sa aa] [0, 1, 2] := fun u_3 => ⟨rfl, (show List.Perm [0, 1, 2] (List.range 3) from by decide)⟩
  have hj_6 : ∀ u_4 : Unit, gpick ([] ++ [[(cw, .inr (1, [.ref (o 0), .ref (oa 0), .ref osA, iv hsn, .ref hdA, .ref spA, .ref bfA, .ref lnA, .ref prA, iv ep, va_rf lt]))], SW E o sc ar, SW E oa sa aa]) [[(cw, .inr (1, [.ref (o 0), .ref (oa 0), .ref osA, iv hsn, .ref hdA, .ref spA, .ref bfA, .ref lnA, .ref prA, iv ep, va_rf lt]))], SW E o sc ar, SW E oa sa aa] [0, 1, 2] := fun u_4 => ⟨rfl, (show List.Perm [0, 1, 2] (List.range 3) from by decide)⟩
  refine n_txB (x := fun u_3 => t - 97) (w2 := fun u_3 => ([(cw, .inr (1, [.ref (o 0), .ref (oa 0), .ref osA, iv hsn, .ref hdA, .ref spA, .ref bfA, .ref lnA, .ref prA, iv ep, va_rf lt]))] : va_W) ++ (SW E o sc ar) ++ (SW E oa sa aa)) (w3 := fun u_4 => ([(cw, .inr (1, [.ref (o 0), .ref (oa 0), .ref osA, iv hsn, .ref hdA, .ref spA, .ref bfA, .ref lnA, .ref prA, iv ep, va_rf lt]))] : va_W) ++ (SW E o sc ar) ++ (SW E oa sa aa)) (vx_runS (As := [iv t]) (rest := []) ⟨hx, hb, hml, hown, hts⟩ (mt_X1_indexOf l E t (by exact hst) (by omega) _) (va_cwS 1 hts (lw_S q1052 q963 q94 q964) rfl rfl rfl (by decide +kernel) ⟨Nat.le_of_ble_eq_true rfl, Nat.le_of_ble_eq_true rfl⟩) (UX_S hg_1P hK (hg_1D) hE hS hg_1F) rfl rfl hl.1 rfl (lv_room (Nat.le_of_ble_eq_true rfl)) dX1_wouldMake_1 ⟨Nat.le_of_ble_eq_true rfl, Nat.le_of_ble_eq_true rfl⟩) hS hg_1F ?_ ?_ ?_ ?_
  · exact (fun u_3 _ hk9 hp9 hd9 => g_back hg_1 (hj_5 u_3) hP hD hg_1F hk9 hp9 hd9)
  · exact (fun u_4 _ hk9 hp9 hd9 => g_back hg_1 (hj_6 u_4) hP hD hg_1F hk9 hp9 hd9)
  · intro En ce q9 u_4 H locs hCx hP hD hS hxf hq9 hce hcv hcl
    have hCx : En = "java/lang/IllegalArgumentException" ∧ ¬ (97 ≤ t ∧ t ≤ 104) := hCx
    have hP : va_P E.1 CL (([(cw, .inr (1, [.ref (o 0), .ref (oa 0), .ref osA, iv hsn, .ref hdA, .ref spA, .ref bfA, .ref lnA, .ref prA, iv ep, va_rf lt]))] : va_W) ++ (SW E o sc ar) ++ (SW E oa sa aa)) H := hP
    have hD : va_D A (([(cw, .inr (1, [.ref (o 0), .ref (oa 0), .ref osA, iv hsn, .ref hdA, .ref spA, .ref bfA, .ref lnA, .ref prA, iv ep, va_rf lt]))] : va_W) ++ (SW E o sc ar) ++ (SW E oa sa aa)) := hD
    exact n_out (sa, aa) (by exact cx_k (k := 1) (by exact (c_wd_1 (by rw [c_op_1 hCx.2]; decide)).trans (c_op_1 hCx.2)) (by decide) hCx.1) hP hD hS hxf (Nat.le_trans hz_2 hq9) hce hcv hcl (fun x hx9 => (htb x hx9).elim) hlocks (Nat.le_of_ble_eq_true rfl) (Nat.le_of_ble_eq_true rfl)
  · intro u_3 H locs hC hP hD hS
    have hu_3 : 97 ≤ t ∧ t ≤ 104 := hC
    have hP : va_P E.1 CL (([(cw, .inr (1, [.ref (o 0), .ref (oa 0), .ref osA, iv hsn, .ref hdA, .ref spA, .ref bfA, .ref lnA, .ref prA, iv ep, va_rf lt]))] : va_W) ++ (SW E o sc ar) ++ (SW E oa sa aa)) H := hP
    have hD : va_D A (([(cw, .inr (1, [.ref (o 0), .ref (oa 0), .ref osA, iv hsn, .ref hdA, .ref spA, .ref bfA, .ref lnA, .ref prA, iv ep, va_rf lt]))] : va_W) ++ (SW E o sc ar) ++ (SW E oa sa aa)) := hD
    have hti := hu_3
    refine lv_istore_n (lv' := [(3, iv (t - 97)), (0, .ref cw), (1, iv t), (2, iv th)]) hx hb dX1_wouldMake_4 rfl hl (by decide) rfl (fun ls hl => ?_)
    refine lv_aload_n hx hb dX1_wouldMake_5 rfl (lv_at hl 1 rfl) ?_
    refine va_get (D := E.1) (ci := 1) (v := .ref (o 0)) (C := RX1) (T := TX1) (N := 11) hx hb hts in_X1 hown hK.1 hP 0 rfl rfl 0 (by decide) (hts _ q472) (fun _ h9 => h9) rfl dX1_wouldMake_6 ?_
    refine lv_iload_n hx hb dX1_wouldMake_9 rfl (lv_at hl 3 rfl) ?_
    have hg_7 : gpick [[(cw, .inr (1, [.ref (o 0), .ref (oa 0), .ref osA, iv hsn, .ref hdA, .ref spA, .ref bfA, .ref lnA, .ref prA, iv ep, va_rf lt]))], SW E o sc ar, SW E oa sa aa] ([SW E o sc ar] ++ [[(cw, .inr (1, [.ref (o 0), .ref (oa 0), .ref osA, iv hsn, .ref hdA, .ref spA, .ref bfA, .ref lnA, .ref prA, iv ep, va_rf lt]))], SW E oa sa aa]) [1, 0, 2] := ⟨rfl, (show List.Perm [1, 0, 2] (List.range 3) from by decide)⟩
    have hg_7P : va_P E.1 CL (SW E o sc ar) H := (g_out hg_7 hP hD).1
    have hg_7D : va_D A (SW E o sc ar) := (g_out hg_7 hP hD).2
    have hg_7F : ∀ q, va_A (SW E o sc ar) H.size q → A q := g_free hg_7 hP hD hS hA
    have hz_8 : s.heap.size ≤ H.size := hS.1
    have hj_11 : ∀ u_9 : Unit, gpick ([SW E o sc ar] ++ [[(cw, .inr (1, [.ref (o 0), .ref (oa 0), .ref osA, iv hsn, .ref hdA, .ref spA, .ref bfA, .ref lnA, .ref prA, iv ep, va_rf lt]))], SW E oa sa aa]) [[(cw, .inr (1, [.ref (o 0), .ref (oa 0), .ref osA, iv hsn, .ref hdA, .ref spA, .ref bfA, .ref lnA, .ref prA, iv ep, va_rf lt]))], SW E o sc ar, SW E oa sa aa] [1, 0, 2] := fun u_9 => ⟨rfl, (show List.Perm [1, 0, 2] (List.range 3) from by decide)⟩
    have hj_12 : ∀ u_10 : Unit, gpick ([SW E o sc ar] ++ [[(cw, .inr (1, [.ref (o 0), .ref (oa 0), .ref osA, iv hsn, .ref hdA, .ref spA, .ref bfA, .ref lnA, .ref prA, iv ep, va_rf lt]))], SW E oa sa aa]) [[(cw, .inr (1, [.ref (o 0), .ref (oa 0), .ref osA, iv hsn, .ref hdA, .ref spA, .ref bfA, .ref lnA, .ref prA, iv ep, va_rf lt]))], SW E o sc ar, SW E oa sa aa] [1, 0, 2] := fun u_10 => ⟨rfl, (show List.Perm [1, 0, 2] (List.range 3) from by decide)⟩
    refine n_txvB (w2 := fun u_9 => ([(cw, .inr (1, [.ref (o 0), .ref (oa 0), .ref osA, iv hsn, .ref hdA, .ref spA, .ref bfA, .ref lnA, .ref prA, iv ep, va_rf lt]))] : va_W) ++ (SW E o sc ar) ++ (SW E oa sa aa)) (w3 := fun u_10 => ([(cw, .inr (1, [.ref (o 0), .ref (oa 0), .ref osA, iv hsn, .ref hdA, .ref spA, .ref bfA, .ref lnA, .ref prA, iv ep, va_rf lt]))] : va_W) ++ (SW E o sc ar) ++ (SW E oa sa aa)) (vx_runV (As := [iv th]) (rest := []) ⟨hx, hb, hml, hown, hts⟩ (mt_X2_checkThread l E o sc ar th g (by exact hst) (by omega) (by assumption) _) (cwV 1 hts (lw_V q1300 q1240 q1241 q95 q1242) rfl rfl rfl (by decide +kernel) ⟨Nat.le_of_ble_eq_true rfl, Nat.le_of_ble_eq_true rfl⟩) (UX_V hg_7P hK (hg_7D) hE hS hg_7F (va_recv hK.1 hP (ci := 2) (q0 := 1) rfl rfl)) rfl rfl hl.1 rfl (lv_room (Nat.le_of_ble_eq_true rfl)) dX1_wouldMake_10 ⟨Nat.le_of_ble_eq_true rfl, Nat.le_of_ble_eq_true rfl⟩) hS hg_7F ?_ ?_ ?_ ?_
    · exact (fun u_9 _ hk9 hp9 hd9 => g_back hg_7 (hj_11 u_9) hP hD hg_7F hk9 hp9 hd9)
    · exact (fun u_10 _ hk9 hp9 hd9 => g_back hg_7 (hj_12 u_10) hP hD hg_7F hk9 hp9 hd9)
    · intro En ce q9 u_10 H locs hCx hP hD hS hxf hq9 hce hcv hcl
      have hCx : En = "java/lang/IndexOutOfBoundsException" ∧ m_opened g th = false := hCx
      have hP : va_P E.1 CL (([(cw, .inr (1, [.ref (o 0), .ref (oa 0), .ref osA, iv hsn, .ref hdA, .ref spA, .ref bfA, .ref lnA, .ref prA, iv ep, va_rf lt]))] : va_W) ++ (SW E o sc ar) ++ (SW E oa sa aa)) H := hP
      have hD : va_D A (([(cw, .inr (1, [.ref (o 0), .ref (oa 0), .ref osA, iv hsn, .ref hdA, .ref spA, .ref bfA, .ref lnA, .ref prA, iv ep, va_rf lt]))] : va_W) ++ (SW E o sc ar) ++ (SW E oa sa aa)) := hD
      exact n_out (sa, aa) (by exact cx_k (k := 2) (by exact (c_wd_1 (by rw [c_op_2 hti hCx.2]; decide)).trans (c_op_2 hti hCx.2)) (by decide) hCx.1) hP hD hS hxf (Nat.le_trans hz_8 hq9) hce hcv hcl (fun x hx9 => (htb x hx9).elim) hlocks (Nat.le_of_ble_eq_true rfl) (Nat.le_of_ble_eq_true rfl)
    · intro u_9 H locs hC hP hD hS
      have hu_9 : m_opened g th = true := hC
      have hP : va_P E.1 CL (([(cw, .inr (1, [.ref (o 0), .ref (oa 0), .ref osA, iv hsn, .ref hdA, .ref spA, .ref bfA, .ref lnA, .ref prA, iv ep, va_rf lt]))] : va_W) ++ (SW E o sc ar) ++ (SW E oa sa aa)) H := hP
      have hD : va_D A (([(cw, .inr (1, [.ref (o 0), .ref (oa 0), .ref osA, iv hsn, .ref hdA, .ref spA, .ref bfA, .ref lnA, .ref prA, iv ep, va_rf lt]))] : va_W) ++ (SW E o sc ar) ++ (SW E oa sa aa)) := hD
      have hth9 := m_op_r hu_9
      have hop := c_op_0 hti hu_9
      have hdr := m_dues_r (th := th) htw hsw (t := t - 97) (by omega)
      refine lv_aload_n hx hb dX1_wouldMake_13 rfl (lv_at hl 1 rfl) ?_
      refine lv_iload_n hx hb dX1_wouldMake_14 rfl (lv_at hl 0 rfl) ?_
      refine lv_iload_n hx hb dX1_wouldMake_15 rfl (lv_at hl 3 rfl) ?_
      have hg_13 : gpick [[(cw, .inr (1, [.ref (o 0), .ref (oa 0), .ref osA, iv hsn, .ref hdA, .ref spA, .ref bfA, .ref lnA, .ref prA, iv ep, va_rf lt]))], SW E o sc ar, SW E oa sa aa] ([[(cw, .inr (1, [.ref (o 0), .ref (oa 0), .ref osA, iv hsn, .ref hdA, .ref spA, .ref bfA, .ref lnA, .ref prA, iv ep, va_rf lt]))], SW E o sc ar, SW E oa sa aa] ++ []) [0, 1, 2] := ⟨rfl, (show List.Perm [0, 1, 2] (List.range 3) from by decide)⟩
      have hg_13P : va_P E.1 CL (([(cw, .inr (1, [.ref (o 0), .ref (oa 0), .ref osA, iv hsn, .ref hdA, .ref spA, .ref bfA, .ref lnA, .ref prA, iv ep, va_rf lt]))] : va_W) ++ (SW E o sc ar) ++ (SW E oa sa aa)) H := (g_out hg_13 hP hD).1
      have hg_13D : va_D A (([(cw, .inr (1, [.ref (o 0), .ref (oa 0), .ref osA, iv hsn, .ref hdA, .ref spA, .ref bfA, .ref lnA, .ref prA, iv ep, va_rf lt]))] : va_W) ++ (SW E o sc ar) ++ (SW E oa sa aa)) := (g_out hg_13 hP hD).2
      have hg_13F : ∀ q, va_A (([(cw, .inr (1, [.ref (o 0), .ref (oa 0), .ref osA, iv hsn, .ref hdA, .ref spA, .ref bfA, .ref lnA, .ref prA, iv ep, va_rf lt]))] : va_W) ++ (SW E o sc ar) ++ (SW E oa sa aa)) H.size q → A q := g_free hg_13 hP hD hS hA
      have hz_14 : s.heap.size ≤ H.size := hS.1
      have hj_17 : ∀ u_15 : SU, gpick ([[(cw, .inr (1, [.ref (o 0), .ref (oa 0), .ref osA, iv hsn, .ref hdA, .ref spA, .ref bfA, .ref lnA, .ref prA, iv ep, va_rf lt]))], SW E o sc ar, SW E oa u_15.1 u_15.2] ++ []) [[(cw, .inr (1, [.ref (o 0), .ref (oa 0), .ref osA, iv hsn, .ref hdA, .ref spA, .ref bfA, .ref lnA, .ref prA, iv ep, va_rf lt]))], SW E o sc ar, SW E oa u_15.1 u_15.2] [0, 1, 2] := fun u_15 => ⟨rfl, (show List.Perm [0, 1, 2] (List.range 3) from by decide)⟩
      have hj_18 : ∀ u_16 : Unit, gpick ([[(cw, .inr (1, [.ref (o 0), .ref (oa 0), .ref osA, iv hsn, .ref hdA, .ref spA, .ref bfA, .ref lnA, .ref prA, iv ep, va_rf lt]))], SW E o sc ar, SW E oa sa aa] ++ []) [[(cw, .inr (1, [.ref (o 0), .ref (oa 0), .ref osA, iv hsn, .ref hdA, .ref spA, .ref bfA, .ref lnA, .ref prA, iv ep, va_rf lt]))], SW E o sc ar, SW E oa sa aa] [0, 1, 2] := fun u_16 => ⟨rfl, (show List.Perm [0, 1, 2] (List.range 3) from by decide)⟩
      refine n_txB (x := fun u_15 => (if (m_dues g (t - 97) th).2.2 < 0 then (m_dues g (t - 97) th).1 else -1)) (w2 := fun u_15 => ([(cw, .inr (1, [.ref (o 0), .ref (oa 0), .ref osA, iv hsn, .ref hdA, .ref spA, .ref bfA, .ref lnA, .ref prA, iv ep, va_rf lt]))] : va_W) ++ (SW E o sc ar) ++ (SW E oa u_15.1 u_15.2)) (w3 := fun u_16 => ([(cw, .inr (1, [.ref (o 0), .ref (oa 0), .ref osA, iv hsn, .ref hdA, .ref spA, .ref bfA, .ref lnA, .ref prA, iv ep, va_rf lt]))] : va_W) ++ (SW E o sc ar) ++ (SW E oa sa aa)) (vx_runV (As := [iv (t - 97), iv th]) (rest := []) ⟨hx, hb, hml, hown, hts⟩ (mt_X1_tried l E cw osA hsn hdA spA bfA lnA prA ep lt o sc ar oa sa aa (t - 97) th g r (by exact hst) (by assumption) (by omega) (by omega) (by assumption) (by assumption) (by assumption) (by assumption) (by assumption) (by assumption) (by assumption) (by assumption) (by exact hfit _ (by omega) (by omega) _) _) (cwV 2 hts (lw_V q756 q758 qs12 q94 q759) rfl rfl rfl (by decide +kernel) ⟨Nat.le_of_ble_eq_true rfl, Nat.le_of_ble_eq_true rfl⟩) (UX_V hg_13P hK (hg_13D) hE hS hg_13F (va_recv hK.1 hP (ci := 1) (q0 := 0) rfl rfl)) rfl rfl hl.1 rfl (lv_room (Nat.le_of_ble_eq_true rfl)) dX1_wouldMake_16 ⟨Nat.le_of_ble_eq_true rfl, Nat.le_of_ble_eq_true rfl⟩) hS hg_13F ?_ ?_ ?_ ?_
      · exact (fun u_15 _ hk9 hp9 hd9 => g_back hg_13 (hj_17 u_15) hP hD hg_13F hk9 hp9 hd9)
      · exact (fun u_16 _ hk9 hp9 hd9 => g_back hg_13 (hj_18 u_16) hP hD hg_13F hk9 hp9 hd9)
      · intro En ce q9 u_16 H locs hCx hP hD hS hxf hq9 hce hcv hcl
        have hCx : False := hCx
        have hP : va_P E.1 CL (([(cw, .inr (1, [.ref (o 0), .ref (oa 0), .ref osA, iv hsn, .ref hdA, .ref spA, .ref bfA, .ref lnA, .ref prA, iv ep, va_rf lt]))] : va_W) ++ (SW E o sc ar) ++ (SW E oa sa aa)) H := hP
        have hD : va_D A (([(cw, .inr (1, [.ref (o 0), .ref (oa 0), .ref osA, iv hsn, .ref hdA, .ref spA, .ref bfA, .ref lnA, .ref prA, iv ep, va_rf lt]))] : va_W) ++ (SW E o sc ar) ++ (SW E oa sa aa)) := hD
        exact (show False from hCx).elim
      · intro u_15 H locs hC hP hD hS
        have hu_15 : True := hC
        have hP : va_P E.1 CL (([(cw, .inr (1, [.ref (o 0), .ref (oa 0), .ref osA, iv hsn, .ref hdA, .ref spA, .ref bfA, .ref lnA, .ref prA, iv ep, va_rf lt]))] : va_W) ++ (SW E o sc ar) ++ (SW E oa u_15.1 u_15.2)) H := hP
        have hD : va_D A (([(cw, .inr (1, [.ref (o 0), .ref (oa 0), .ref osA, iv hsn, .ref hdA, .ref spA, .ref bfA, .ref lnA, .ref prA, iv ep, va_rf lt]))] : va_W) ++ (SW E o sc ar) ++ (SW E oa u_15.1 u_15.2)) := hD
        by_cases hnd : (m_dues g (t - 97) th).2.2 < 0
        · refine n_top (y := (m_dues g (t - 97) th).1) (by exact if_pos hnd) ?_
          have hg_19 : gpick [[(cw, .inr (1, [.ref (o 0), .ref (oa 0), .ref osA, iv hsn, .ref hdA, .ref spA, .ref bfA, .ref lnA, .ref prA, iv ep, va_rf lt]))], SW E o sc ar, SW E oa u_15.1 u_15.2] ([] ++ [[(cw, .inr (1, [.ref (o 0), .ref (oa 0), .ref osA, iv hsn, .ref hdA, .ref spA, .ref bfA, .ref lnA, .ref prA, iv ep, va_rf lt]))], SW E o sc ar, SW E oa u_15.1 u_15.2]) [0, 1, 2] := ⟨rfl, (show List.Perm [0, 1, 2] (List.range 3) from by decide)⟩
          have hg_19P : va_P E.1 CL ([]) H := (g_out hg_19 hP hD).1
          have hg_19D : va_D A ([]) := (g_out hg_19 hP hD).2
          have hg_19F : ∀ q, va_A ([]) H.size q → A q := g_free hg_19 hP hD hS hA
          have hz_20 : s.heap.size ≤ H.size := hS.1
          have hj_23 : ∀ u_21 : Unit, gpick ([] ++ [[(cw, .inr (1, [.ref (o 0), .ref (oa 0), .ref osA, iv hsn, .ref hdA, .ref spA, .ref bfA, .ref lnA, .ref prA, iv ep, va_rf lt]))], SW E o sc ar, SW E oa u_15.1 u_15.2]) [[(cw, .inr (1, [.ref (o 0), .ref (oa 0), .ref osA, iv hsn, .ref hdA, .ref spA, .ref bfA, .ref lnA, .ref prA, iv ep, va_rf lt]))], SW E o sc ar, SW E oa u_15.1 u_15.2] [0, 1, 2] := fun u_21 => ⟨rfl, (show List.Perm [0, 1, 2] (List.range 3) from by decide)⟩
          have hj_24 : ∀ u_22 : Unit, gpick ([] ++ [[(cw, .inr (1, [.ref (o 0), .ref (oa 0), .ref osA, iv hsn, .ref hdA, .ref spA, .ref bfA, .ref lnA, .ref prA, iv ep, va_rf lt]))], SW E o sc ar, SW E oa u_15.1 u_15.2]) [[(cw, .inr (1, [.ref (o 0), .ref (oa 0), .ref osA, iv hsn, .ref hdA, .ref spA, .ref bfA, .ref lnA, .ref prA, iv ep, va_rf lt]))], SW E o sc ar, SW E oa u_15.1 u_15.2] [0, 1, 2] := fun u_22 => ⟨rfl, (show List.Perm [0, 1, 2] (List.range 3) from by decide)⟩
          refine n_txB (x := fun u_21 => (m_dues g (t - 97) th).1) (w2 := fun u_21 => ([(cw, .inr (1, [.ref (o 0), .ref (oa 0), .ref osA, iv hsn, .ref hdA, .ref spA, .ref bfA, .ref lnA, .ref prA, iv ep, va_rf lt]))] : va_W) ++ (SW E o sc ar) ++ (SW E oa u_15.1 u_15.2)) (w3 := fun u_22 => ([(cw, .inr (1, [.ref (o 0), .ref (oa 0), .ref osA, iv hsn, .ref hdA, .ref spA, .ref bfA, .ref lnA, .ref prA, iv ep, va_rf lt]))] : va_W) ++ (SW E o sc ar) ++ (SW E oa u_15.1 u_15.2)) (vx_runS (As := [iv ((m_dues g (t - 97) th).1)]) (rest := []) ⟨hx, hb, hml, hown, hts⟩ (mt_X1_found l E ((m_dues g (t - 97) th).1) (by exact hst) (by omega) _) (va_cwS 1 hts (lw_S q1204 q1038 q94 q1039) rfl rfl rfl (by decide +kernel) ⟨Nat.le_of_ble_eq_true rfl, Nat.le_of_ble_eq_true rfl⟩) (UX_S hg_19P hK (hg_19D) hE hS hg_19F) rfl rfl hl.1 rfl (lv_room (Nat.le_of_ble_eq_true rfl)) dX1_wouldMake_19 ⟨Nat.le_of_ble_eq_true rfl, Nat.le_of_ble_eq_true rfl⟩) hS hg_19F ?_ ?_ ?_ ?_
          · exact (fun u_21 _ hk9 hp9 hd9 => g_back hg_19 (hj_23 u_21) hP hD hg_19F hk9 hp9 hd9)
          · exact (fun u_22 _ hk9 hp9 hd9 => g_back hg_19 (hj_24 u_22) hP hD hg_19F hk9 hp9 hd9)
          · intro En ce q9 u_22 H locs hCx hP hD hS hxf hq9 hce hcv hcl
            have hCx : En = "java/util/NoSuchElementException" ∧ ((m_dues g (t - 97) th).1) = -1 := hCx
            have hP : va_P E.1 CL (([(cw, .inr (1, [.ref (o 0), .ref (oa 0), .ref osA, iv hsn, .ref hdA, .ref spA, .ref bfA, .ref lnA, .ref prA, iv ep, va_rf lt]))] : va_W) ++ (SW E o sc ar) ++ (SW E oa u_15.1 u_15.2)) H := hP
            have hD : va_D A (([(cw, .inr (1, [.ref (o 0), .ref (oa 0), .ref osA, iv hsn, .ref hdA, .ref spA, .ref bfA, .ref lnA, .ref prA, iv ep, va_rf lt]))] : va_W) ++ (SW E o sc ar) ++ (SW E oa u_15.1 u_15.2)) := hD
            exact n_out (u_15.1, u_15.2) (by exact absurd hCx.2 (by omega)) hP hD hS hxf (Nat.le_trans hz_20 hq9) hce hcv hcl (fun x hx9 => (htb x hx9).elim) hlocks (Nat.le_of_ble_eq_true rfl) (Nat.le_of_ble_eq_true rfl)
          · intro u_21 H locs hC hP hD hS
            have hu_21 : ¬ ((m_dues g (t - 97) th).1) = -1 := hC
            have hP : va_P E.1 CL (([(cw, .inr (1, [.ref (o 0), .ref (oa 0), .ref osA, iv hsn, .ref hdA, .ref spA, .ref bfA, .ref lnA, .ref prA, iv ep, va_rf lt]))] : va_W) ++ (SW E o sc ar) ++ (SW E oa u_15.1 u_15.2)) H := hP
            have hD : va_D A (([(cw, .inr (1, [.ref (o 0), .ref (oa 0), .ref osA, iv hsn, .ref hdA, .ref spA, .ref bfA, .ref lnA, .ref prA, iv ep, va_rf lt]))] : va_W) ++ (SW E o sc ar) ++ (SW E oa u_15.1 u_15.2)) := hD
            refine vx_ret ?_
            refine W.widen (k := 4) (n := 22) (Nat.le_of_ble_eq_true rfl) (Nat.le_of_ble_eq_true rfl) ?_
            exact W.iret (v := iI ((m_dues g (t - 97) th).1)) hx hb hr (fun tt_ ht_ hW_ => ⟨⟨iI ((m_dues g (t - 97) th).1), (u_15.1, u_15.2), rfl, ⟨by exact c_wd_0 hop hnd, rfl⟩, by rw [ht_]; exact hP, hD⟩, hS.F ht_⟩) hS.2.2 dX1_wouldMake_22
        · refine n_top (y := -1) (by exact if_neg hnd) ?_
          have hg_25 : gpick [[(cw, .inr (1, [.ref (o 0), .ref (oa 0), .ref osA, iv hsn, .ref hdA, .ref spA, .ref bfA, .ref lnA, .ref prA, iv ep, va_rf lt]))], SW E o sc ar, SW E oa u_15.1 u_15.2] ([] ++ [[(cw, .inr (1, [.ref (o 0), .ref (oa 0), .ref osA, iv hsn, .ref hdA, .ref spA, .ref bfA, .ref lnA, .ref prA, iv ep, va_rf lt]))], SW E o sc ar, SW E oa u_15.1 u_15.2]) [0, 1, 2] := ⟨rfl, (show List.Perm [0, 1, 2] (List.range 3) from by decide)⟩
          have hg_25P : va_P E.1 CL ([]) H := (g_out hg_25 hP hD).1
          have hg_25D : va_D A ([]) := (g_out hg_25 hP hD).2
          have hg_25F : ∀ q, va_A ([]) H.size q → A q := g_free hg_25 hP hD hS hA
          have hz_26 : s.heap.size ≤ H.size := hS.1
          have hj_29 : ∀ u_27 : Unit, gpick ([] ++ [[(cw, .inr (1, [.ref (o 0), .ref (oa 0), .ref osA, iv hsn, .ref hdA, .ref spA, .ref bfA, .ref lnA, .ref prA, iv ep, va_rf lt]))], SW E o sc ar, SW E oa u_15.1 u_15.2]) [[(cw, .inr (1, [.ref (o 0), .ref (oa 0), .ref osA, iv hsn, .ref hdA, .ref spA, .ref bfA, .ref lnA, .ref prA, iv ep, va_rf lt]))], SW E o sc ar, SW E oa u_15.1 u_15.2] [0, 1, 2] := fun u_27 => ⟨rfl, (show List.Perm [0, 1, 2] (List.range 3) from by decide)⟩
          have hj_30 : ∀ u_28 : Unit, gpick ([] ++ [[(cw, .inr (1, [.ref (o 0), .ref (oa 0), .ref osA, iv hsn, .ref hdA, .ref spA, .ref bfA, .ref lnA, .ref prA, iv ep, va_rf lt]))], SW E o sc ar, SW E oa u_15.1 u_15.2]) [[(cw, .inr (1, [.ref (o 0), .ref (oa 0), .ref osA, iv hsn, .ref hdA, .ref spA, .ref bfA, .ref lnA, .ref prA, iv ep, va_rf lt]))], SW E o sc ar, SW E oa u_15.1 u_15.2] [0, 1, 2] := fun u_28 => ⟨rfl, (show List.Perm [0, 1, 2] (List.range 3) from by decide)⟩
          refine n_txB (x := fun u_27 => -1) (w2 := fun u_27 => ([(cw, .inr (1, [.ref (o 0), .ref (oa 0), .ref osA, iv hsn, .ref hdA, .ref spA, .ref bfA, .ref lnA, .ref prA, iv ep, va_rf lt]))] : va_W) ++ (SW E o sc ar) ++ (SW E oa u_15.1 u_15.2)) (w3 := fun u_28 => ([(cw, .inr (1, [.ref (o 0), .ref (oa 0), .ref osA, iv hsn, .ref hdA, .ref spA, .ref bfA, .ref lnA, .ref prA, iv ep, va_rf lt]))] : va_W) ++ (SW E o sc ar) ++ (SW E oa u_15.1 u_15.2)) (vx_runS (As := [iv (-1)]) (rest := []) ⟨hx, hb, hml, hown, hts⟩ (mt_X1_found l E (-1) (by exact hst) (by omega) _) (va_cwS 1 hts (lw_S q1204 q1038 q94 q1039) rfl rfl rfl (by decide +kernel) ⟨Nat.le_of_ble_eq_true rfl, Nat.le_of_ble_eq_true rfl⟩) (UX_S hg_25P hK (hg_25D) hE hS hg_25F) rfl rfl hl.1 rfl (lv_room (Nat.le_of_ble_eq_true rfl)) dX1_wouldMake_19 ⟨Nat.le_of_ble_eq_true rfl, Nat.le_of_ble_eq_true rfl⟩) hS hg_25F ?_ ?_ ?_ ?_
          · exact (fun u_27 _ hk9 hp9 hd9 => g_back hg_25 (hj_29 u_27) hP hD hg_25F hk9 hp9 hd9)
          · exact (fun u_28 _ hk9 hp9 hd9 => g_back hg_25 (hj_30 u_28) hP hD hg_25F hk9 hp9 hd9)
          · intro En ce q9 u_28 H locs hCx hP hD hS hxf hq9 hce hcv hcl
            have hCx : En = "java/util/NoSuchElementException" ∧ (-1) = -1 := hCx
            have hP : va_P E.1 CL (([(cw, .inr (1, [.ref (o 0), .ref (oa 0), .ref osA, iv hsn, .ref hdA, .ref spA, .ref bfA, .ref lnA, .ref prA, iv ep, va_rf lt]))] : va_W) ++ (SW E o sc ar) ++ (SW E oa u_15.1 u_15.2)) H := hP
            have hD : va_D A (([(cw, .inr (1, [.ref (o 0), .ref (oa 0), .ref osA, iv hsn, .ref hdA, .ref spA, .ref bfA, .ref lnA, .ref prA, iv ep, va_rf lt]))] : va_W) ++ (SW E o sc ar) ++ (SW E oa u_15.1 u_15.2)) := hD
            exact n_out (u_15.1, u_15.2) (by exact cx_k (k := 3) (by exact c_wd_3 hop hnd) (by decide) hCx.1) hP hD hS hxf (Nat.le_trans hz_26 hq9) hce hcv hcl (fun x hx9 => (htb x hx9).elim) hlocks (Nat.le_of_ble_eq_true rfl) (Nat.le_of_ble_eq_true rfl)
          · intro u_27 H locs hC hP hD hS
            have hu_27 : ¬ (-1) = -1 := hC
            have hP : va_P E.1 CL (([(cw, .inr (1, [.ref (o 0), .ref (oa 0), .ref osA, iv hsn, .ref hdA, .ref spA, .ref bfA, .ref lnA, .ref prA, iv ep, va_rf lt]))] : va_W) ++ (SW E o sc ar) ++ (SW E oa u_15.1 u_15.2)) H := hP
            have hD : va_D A (([(cw, .inr (1, [.ref (o 0), .ref (oa 0), .ref osA, iv hsn, .ref hdA, .ref spA, .ref bfA, .ref lnA, .ref prA, iv ep, va_rf lt]))] : va_W) ++ (SW E o sc ar) ++ (SW E oa u_15.1 u_15.2)) := hD
            exact absurd rfl hu_27
