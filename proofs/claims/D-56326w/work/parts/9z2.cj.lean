set_option maxHeartbeats 1000000 in
set_option maxRecDepth 100000 in
theorem mt_X1_meanMinutes (l : Launch) (E : EE) (cw : Nat) (oaA : Nat) (osA : Nat) (hsn : Int) (hdA : Nat) (spA : Nat) (bfA : Nat) (lnA : Nat) (prA : Nat) (ep : Int) (lt : Option Nat) (o : Nat → Nat) (sc : Nat → Int) (ar : Nat → Int → Int)  (g : Int → Int) (hst : l.stackTraces = false) (hsr : SR g sc ar) (hhm : HM g) (htm : TM g) (sz : Nat) : vx_Met l yX1_meanMinutes (ws_ yX1_meanMinutes cX1_meanMinutes 1 (some .double)) { frames := 7, cells := 1, slots := 6, locals := 112 } (va_Pc [.ref cw] (UX E (([(cw, .inr (1, [.ref (o 0), .ref oaA, .ref osA, iv hsn, .ref hdA, .ref spA, .ref bfA, .ref lnA, .ref prA, iv ep, va_rf lt]))] : va_W) ++ (SW E o sc ar)) sz)) (UQxy E (fun u : Unit => c_nul (m_recipes g) = 0) (fun u : Unit => .double (m_mean g)) (fun u : Unit => ([(cw, .inr (1, [.ref (o 0), .ref oaA, .ref osA, iv hsn, .ref hdA, .ref spA, .ref bfA, .ref lnA, .ref prA, iv ep, va_rf lt]))] : va_W) ++ (SW E o sc ar)) (va_A (([(cw, .inr (1, [.ref (o 0), .ref oaA, .ref osA, iv hsn, .ref hdA, .ref spA, .ref bfA, .ref lnA, .ref prA, iv ep, va_rf lt]))] : va_W) ++ (SW E o sc ar)) sz)) (UXx E (fun (En : String) (u : Unit) => 0 < c_nul (m_recipes g) ∧ En = nmX "java/lang/ArithmeticException" "" "" (c_nul (m_recipes g))) (fun u : Unit => ([(cw, .inr (1, [.ref (o 0), .ref oaA, .ref osA, iv hsn, .ref hdA, .ref spA, .ref bfA, .ref lnA, .ref prA, iv ep, va_rf lt]))] : va_W) ++ (SW E o sc ar)) (fun u : Unit => none) (va_A (([(cw, .inr (1, [.ref (o 0), .ref oaA, .ref osA, iv hsn, .ref hdA, .ref spA, .ref bfA, .ref lnA, .ref prA, iv ep, va_rf lt]))] : va_W) ++ (SW E o sc ar)) sz)) 1 6 (va_A (([(cw, .inr (1, [.ref (o 0), .ref oaA, .ref osA, iv hsn, .ref hdA, .ref spA, .ref bfA, .ref lnA, .ref prA, iv ep, va_rf lt]))] : va_W) ++ (SW E o sc ar)) sz) := by
  refine vx_ofW (cc := cX1_meanMinutes) (maxL := 1) (ret := (some .double)) (by decide) rfl ?_
  intro p e s m args below meth c s₁ B hml htb hv
  obtain ⟨rfl, hsz, hP, hK, hD0, hE⟩ := hv
  have hx := B.exec
  have hb := B.bytes
  have hr := B.returns
  have hts := atoms_spec (ws := (ws_ yX1_meanMinutes cX1_meanMinutes 1 (some .double))) B.pre
  have hts : ∀ w ∈ lw_all, w.before _ s = true := fun w h => hts w (List.mem_cons_of_mem _ h)
  have hown : s.vm.findClass RX1 = some m.cls := findClass_of_methodNamed B.named
  have hlocks := B.notSynchronized
  subst hsz
  have hD := hD0.self (sz := s.heap.size)
  generalize hAe : va_A (([(cw, .inr (1, [.ref (o 0), .ref oaA, .ref osA, iv hsn, .ref hdA, .ref spA, .ref bfA, .ref lnA, .ref prA, iv ep, va_rf lt]))] : va_W) ++ (SW E o sc ar)) s.heap.size = A at hD hE ⊢
  have hA : ∀ q : Nat, s.heap.size ≤ q → A q := fun q h => by rw [← hAe]; exact Or.inr h
  have hS : va_S A s.heap s.heap [] := va_S.rf
  have hl := lv_entry ([.ref cw]) (n := 1) (Nat.le_of_ble_eq_true rfl)
  rw [lg_entry_eq]
  generalize (lg_sl ([.ref cw]) ++ List.replicate (1 - (lg_sl ([.ref cw])).length) Slot.unset).toArray = ls at hl ⊢
  have hl : lv_has ls 1 [(0, .ref cw)] := hl
  have hbr := hsr.br
  have hmr := m_recipes_r g
  refine lv_aload_n hx hb dX1_meanMinutes_0 rfl (lv_at hl 0 rfl) ?_
  refine n_csr (x := o 1) (va_runV (As := []) (rest := []) ⟨hx, hb, hml, hown, hts⟩ (mt_X1_book l E cw oaA osA hsn hdA spA bfA lnA prA ep lt o sc ar ) (cwV 0 hts (lw_V q510 q512 qs3 q94 q513) rfl rfl rfl (by decide +kernel) ⟨Nat.le_of_ble_eq_true rfl, Nat.le_of_ble_eq_true rfl⟩) (PW_V hP hK (va_recv hK.1 hP (ci := 1) (q0 := 0) rfl rfl)) rfl rfl hl.1 rfl (lv_room (Nat.le_of_ble_eq_true rfl)) dX1_meanMinutes_1 ⟨Nat.le_of_ble_eq_true rfl, Nat.le_of_ble_eq_true rfl⟩) ?_
  refine n_csi (x := m_recipes g) (va_runV (As := []) (rest := []) ⟨hx, hb, hml, hown, hts⟩ (mt_X3_count l E o sc ar  g (by assumption)) (cwV 0 hts (lw_V q514 q515 q516 q96 q517) rfl rfl rfl (by decide +kernel) ⟨Nat.le_of_ble_eq_true rfl, Nat.le_of_ble_eq_true rfl⟩) (PW_V (hP.sub (ws' := BW E o sc ar) [2, 3, 4, 5, 6, 7, 8, 9] rfl) hK (va_recv hK.1 hP (ci := 3) (q0 := 2) rfl rfl)) rfl rfl hl.1 rfl (lv_room (Nat.le_of_ble_eq_true rfl)) dX1_meanMinutes_4 ⟨Nat.le_of_ble_eq_true rfl, Nat.le_of_ble_eq_true rfl⟩) ?_
  have b_1 := m_recipes_r g
  have hz_2 : s.heap.size ≤ s.heap.size := hS.1
  refine n_txvS (w2 := fun u_3 => ([(cw, .inr (1, [.ref (o 0), .ref oaA, .ref osA, iv hsn, .ref hdA, .ref spA, .ref bfA, .ref lnA, .ref prA, iv ep, va_rf lt]))] : va_W) ++ (SW E o sc ar)) (w3 := fun u_4 => ([(cw, .inr (1, [.ref (o 0), .ref oaA, .ref osA, iv hsn, .ref hdA, .ref spA, .ref bfA, .ref lnA, .ref prA, iv ep, va_rf lt]))] : va_W) ++ (SW E o sc ar)) (vx_runS (As := [iv (m_recipes g)]) (rest := []) ⟨hx, hb, hml, hown, hts⟩ (mt_X1_checkAny l E (m_recipes g) (by exact hst) (by omega) _) (va_cwS 1 hts (lw_S q1359 q1360 q94 q1361) rfl rfl rfl (by decide +kernel) ⟨Nat.le_of_ble_eq_true rfl, Nat.le_of_ble_eq_true rfl⟩) (UX_S (hP.sub (ws' := []) [] rfl) hK (hD.sub (ws' := []) [] rfl rfl) hE hS (va_sub_free hD hS hA [] rfl)) rfl rfl hl.1 rfl (lv_room (Nat.le_of_ble_eq_true rfl)) dX1_meanMinutes_7 ⟨Nat.le_of_ble_eq_true rfl, Nat.le_of_ble_eq_true rfl⟩) hP hD hS hA [] [0, 1, 2, 3, 4, 5, 6, 7, 8, 9, 10, 11, 12, 13, 14, 15, 16, 17] [0, 1, 2, 3, 4, 5, 6, 7, 8, 9, 10, 11, 12, 13, 14, 15, 16, 17] [0, 1, 2, 3, 4, 5, 6, 7, 8, 9, 10, 11, 12, 13, 14, 15, 16, 17] rfl rfl rfl rfl rfl (fun _ => rfl) rfl (fun _ => rfl) ?_ ?_
  · intro En ce q9 u_4 H locs hCx hP hD hS hxf hq9 hce hcv hcl
    have hCx : En = "java/lang/ArithmeticException" ∧ (m_recipes g) = 0 := hCx
    have hP : va_P E.1 CL (([(cw, .inr (1, [.ref (o 0), .ref oaA, .ref osA, iv hsn, .ref hdA, .ref spA, .ref bfA, .ref lnA, .ref prA, iv ep, va_rf lt]))] : va_W) ++ (SW E o sc ar)) H := hP
    have hD : va_D A (([(cw, .inr (1, [.ref (o 0), .ref oaA, .ref osA, iv hsn, .ref hdA, .ref spA, .ref bfA, .ref lnA, .ref prA, iv ep, va_rf lt]))] : va_W) ++ (SW E o sc ar)) := hD
    exact n_out () (by exact cx_k (k := 1) (by rw [hCx.2]; rfl) (by decide) hCx.1) hP hD hS hxf (Nat.le_trans hz_2 hq9) hce hcv hcl (fun x hx9 => (htb x hx9).elim) hlocks (Nat.le_of_ble_eq_true rfl) (Nat.le_of_ble_eq_true rfl)
  · intro u_3 H locs hC hP hD hS
    have hu_3 : ¬ (m_recipes g) = 0 := hC
    have hP : va_P E.1 CL (([(cw, .inr (1, [.ref (o 0), .ref oaA, .ref osA, iv hsn, .ref hdA, .ref spA, .ref bfA, .ref lnA, .ref prA, iv ep, va_rf lt]))] : va_W) ++ (SW E o sc ar)) H := hP
    have hD : va_D A (([(cw, .inr (1, [.ref (o 0), .ref oaA, .ref osA, iv hsn, .ref hdA, .ref spA, .ref bfA, .ref lnA, .ref prA, iv ep, va_rf lt]))] : va_W) ++ (SW E o sc ar)) := hD
    have hnz := hu_3
    refine lv_aload_n hx hb dX1_meanMinutes_10 rfl (lv_at hl 0 rfl) ?_
    refine n_csr (x := o 1) (va_runV (As := []) (rest := []) ⟨hx, hb, hml, hown, hts⟩ (mt_X1_book l E cw oaA osA hsn hdA spA bfA lnA prA ep lt o sc ar ) (cwV 0 hts (lw_V q510 q512 qs3 q94 q513) rfl rfl rfl (by decide +kernel) ⟨Nat.le_of_ble_eq_true rfl, Nat.le_of_ble_eq_true rfl⟩) (PW_V hP hK (va_recv hK.1 hP (ci := 1) (q0 := 0) rfl rfl)) rfl rfl hl.1 rfl (lv_room (Nat.le_of_ble_eq_true rfl)) dX1_meanMinutes_11 ⟨Nat.le_of_ble_eq_true rfl, Nat.le_of_ble_eq_true rfl⟩) ?_
    refine n_csi (x := sumI (fun k => m_of g k 1) 8) (va_runV (As := []) (rest := []) ⟨hx, hb, hml, hown, hts⟩ (mt_X3_sumOfMinutes l E o sc ar  g (by assumption) (by assumption) (by assumption)) (cwV 0 hts (lw_V q1367 q1368 q1369 q96 q1370) rfl rfl rfl (by decide +kernel) ⟨Nat.le_of_ble_eq_true rfl, Nat.le_of_ble_eq_true rfl⟩) (PW_V (hP.sub (ws' := BW E o sc ar) [2, 3, 4, 5, 6, 7, 8, 9] rfl) hK (va_recv hK.1 hP (ci := 3) (q0 := 2) rfl rfl)) rfl rfl hl.1 rfl (lv_room (Nat.le_of_ble_eq_true rfl)) dX1_meanMinutes_14 ⟨Nat.le_of_ble_eq_true rfl, Nat.le_of_ble_eq_true rfl⟩) ?_
    refine lv_i2d hx hb dX1_meanMinutes_17 ?_
    refine lv_aload_n hx hb dX1_meanMinutes_18 rfl (lv_at hl 0 rfl) ?_
    refine n_csr (x := o 1) (va_runV (As := []) (rest := [.double (FP.i2d (iI (sumI (fun k => m_of g k 1) 8)))]) ⟨hx, hb, hml, hown, hts⟩ (mt_X1_book l E cw oaA osA hsn hdA spA bfA lnA prA ep lt o sc ar ) (cwV 0 hts (lw_V q510 q512 qs3 q94 q513) rfl rfl rfl (by decide +kernel) ⟨Nat.le_of_ble_eq_true rfl, Nat.le_of_ble_eq_true rfl⟩) (PW_V hP hK (va_recv hK.1 hP (ci := 1) (q0 := 0) rfl rfl)) rfl rfl hl.1 rfl (lv_room (Nat.le_of_ble_eq_true rfl)) dX1_meanMinutes_19 ⟨Nat.le_of_ble_eq_true rfl, Nat.le_of_ble_eq_true rfl⟩) ?_
    refine n_csi (x := m_recipes g) (va_runV (As := []) (rest := [.double (FP.i2d (iI (sumI (fun k => m_of g k 1) 8)))]) ⟨hx, hb, hml, hown, hts⟩ (mt_X3_count l E o sc ar  g (by assumption)) (cwV 0 hts (lw_V q514 q515 q516 q96 q517) rfl rfl rfl (by decide +kernel) ⟨Nat.le_of_ble_eq_true rfl, Nat.le_of_ble_eq_true rfl⟩) (PW_V (hP.sub (ws' := BW E o sc ar) [2, 3, 4, 5, 6, 7, 8, 9] rfl) hK (va_recv hK.1 hP (ci := 3) (q0 := 2) rfl rfl)) rfl rfl hl.1 rfl (lv_room (Nat.le_of_ble_eq_true rfl)) dX1_meanMinutes_22 ⟨Nat.le_of_ble_eq_true rfl, Nat.le_of_ble_eq_true rfl⟩) ?_
    refine lv_i2d hx hb dX1_meanMinutes_25 ?_
    refine lv_ddiv hx hb dX1_meanMinutes_26 (vf_d (b := m_recipes g) (by omega) (by omega)) ?_
    have hfin : (FP.ddiv (FP.i2d (iI (sumI (fun k => m_of g k 1) 8))) (FP.i2d (iI (m_recipes g))) : UInt64) = m_mean g := by
      rfl
    refine vx_ret ?_
    refine W.widen (k := 1) (n := 6) (Nat.le_of_ble_eq_true rfl) (Nat.le_of_ble_eq_true rfl) ?_
    exact W.dret (v := FP.ddiv (FP.i2d (iI (sumI (fun k => m_of g k 1) 8))) (FP.i2d (iI (m_recipes g)))) hx hb hr (fun tt_ ht_ hW_ => ⟨⟨(), by rw [hfin], by exact c_nul_0 hnz, by rw [ht_]; exact hP, hD⟩, hS.F ht_⟩) hS.2.2 dX1_meanMinutes_27
set_option maxHeartbeats 1000000 in
set_option maxRecDepth 100000 in
theorem mt_X1_reuseShare (l : Launch) (E : EE) (cw : Nat) (oaA : Nat) (osA : Nat) (hsn : Int) (hdA : Nat) (spA : Nat) (bfA : Nat) (lnA : Nat) (prA : Nat) (ep : Int) (lt : Option Nat) (o : Nat → Nat) (sc : Nat → Int) (ar : Nat → Int → Int)  (g : Int → Int) (hst : l.stackTraces = false) (hsr : SR g sc ar) (hgb : 0 ≤ g 2 ∧ g 2 < 2147483648 ∧ 0 ≤ g 3 ∧ g 3 < 2147483648) (sz : Nat) : vx_Met l yX1_reuseShare (ws_ yX1_reuseShare cX1_reuseShare 1 (some .float)) { frames := 7, cells := 1, slots := 6, locals := 112 } (va_Pc [.ref cw] (UX E (([(cw, .inr (1, [.ref (o 0), .ref oaA, .ref osA, iv hsn, .ref hdA, .ref spA, .ref bfA, .ref lnA, .ref prA, iv ep, va_rf lt]))] : va_W) ++ (SW E o sc ar)) sz)) (UQxy E (fun u : Unit => c_nul (g 2) = 0) (fun u : Unit => .float (m_share g)) (fun u : Unit => ([(cw, .inr (1, [.ref (o 0), .ref oaA, .ref osA, iv hsn, .ref hdA, .ref spA, .ref bfA, .ref lnA, .ref prA, iv ep, va_rf lt]))] : va_W) ++ (SW E o sc ar)) (va_A (([(cw, .inr (1, [.ref (o 0), .ref oaA, .ref osA, iv hsn, .ref hdA, .ref spA, .ref bfA, .ref lnA, .ref prA, iv ep, va_rf lt]))] : va_W) ++ (SW E o sc ar)) sz)) (UXx E (fun (En : String) (u : Unit) => 0 < c_nul (g 2) ∧ En = nmX "java/lang/ArithmeticException" "" "" (c_nul (g 2))) (fun u : Unit => ([(cw, .inr (1, [.ref (o 0), .ref oaA, .ref osA, iv hsn, .ref hdA, .ref spA, .ref bfA, .ref lnA, .ref prA, iv ep, va_rf lt]))] : va_W) ++ (SW E o sc ar)) (fun u : Unit => none) (va_A (([(cw, .inr (1, [.ref (o 0), .ref oaA, .ref osA, iv hsn, .ref hdA, .ref spA, .ref bfA, .ref lnA, .ref prA, iv ep, va_rf lt]))] : va_W) ++ (SW E o sc ar)) sz)) 1 6 (va_A (([(cw, .inr (1, [.ref (o 0), .ref oaA, .ref osA, iv hsn, .ref hdA, .ref spA, .ref bfA, .ref lnA, .ref prA, iv ep, va_rf lt]))] : va_W) ++ (SW E o sc ar)) sz) := by
  refine vx_ofW (cc := cX1_reuseShare) (maxL := 1) (ret := (some .float)) (by decide) rfl ?_
  intro p e s m args below meth c s₁ B hml htb hv
  obtain ⟨rfl, hsz, hP, hK, hD0, hE⟩ := hv
  have hx := B.exec
  have hb := B.bytes
  have hr := B.returns
  have hts := atoms_spec (ws := (ws_ yX1_reuseShare cX1_reuseShare 1 (some .float))) B.pre
  have hts : ∀ w ∈ lw_all, w.before _ s = true := fun w h => hts w (List.mem_cons_of_mem _ h)
  have hown : s.vm.findClass RX1 = some m.cls := findClass_of_methodNamed B.named
  have hlocks := B.notSynchronized
  subst hsz
  have hD := hD0.self (sz := s.heap.size)
  generalize hAe : va_A (([(cw, .inr (1, [.ref (o 0), .ref oaA, .ref osA, iv hsn, .ref hdA, .ref spA, .ref bfA, .ref lnA, .ref prA, iv ep, va_rf lt]))] : va_W) ++ (SW E o sc ar)) s.heap.size = A at hD hE ⊢
  have hA : ∀ q : Nat, s.heap.size ≤ q → A q := fun q h => by rw [← hAe]; exact Or.inr h
  have hS : va_S A s.heap s.heap [] := va_S.rf
  have hl := lv_entry ([.ref cw]) (n := 1) (Nat.le_of_ble_eq_true rfl)
  rw [lg_entry_eq]
  generalize (lg_sl ([.ref cw]) ++ List.replicate (1 - (lg_sl ([.ref cw])).length) Slot.unset).toArray = ls at hl ⊢
  have hl : lv_has ls 1 [(0, .ref cw)] := hl
  have hn1 := hsr.n1
  refine lv_aload_n hx hb dX1_reuseShare_0 rfl (lv_at hl 0 rfl) ?_
  refine va_get (D := E.1) (ci := 1) (v := .ref (o 0)) (C := RX1) (T := TX1) (N := 11) hx hb hts in_X1 hown hK.1 hP 0 rfl rfl 0 (by decide) (hts _ q472) (fun _ h9 => h9) rfl dX1_reuseShare_1 ?_
  refine va_getN (D := E.1) (ci := 2) (v := iv (sc 9)) (C := RX2) (T := TX2) (N := 14) hx hb hts in_X2 hown hK.1 hP 1 rfl rfl 9 (by decide) (hK.nw q206) (fun _ h9 => h9) rfl dX1_reuseShare_4 ?_
  refine n_top (y := g 2) (by exact hn1.2.1) ?_
  have hz_1 : s.heap.size ≤ s.heap.size := hS.1
  refine n_txvS (w2 := fun u_2 => ([(cw, .inr (1, [.ref (o 0), .ref oaA, .ref osA, iv hsn, .ref hdA, .ref spA, .ref bfA, .ref lnA, .ref prA, iv ep, va_rf lt]))] : va_W) ++ (SW E o sc ar)) (w3 := fun u_3 => ([(cw, .inr (1, [.ref (o 0), .ref oaA, .ref osA, iv hsn, .ref hdA, .ref spA, .ref bfA, .ref lnA, .ref prA, iv ep, va_rf lt]))] : va_W) ++ (SW E o sc ar)) (vx_runS (As := [iv (g 2)]) (rest := []) ⟨hx, hb, hml, hown, hts⟩ (mt_X1_checkAny l E (g 2) (by exact hst) (by omega) _) (va_cwS 1 hts (lw_S q1359 q1360 q94 q1361) rfl rfl rfl (by decide +kernel) ⟨Nat.le_of_ble_eq_true rfl, Nat.le_of_ble_eq_true rfl⟩) (UX_S (hP.sub (ws' := []) [] rfl) hK (hD.sub (ws' := []) [] rfl rfl) hE hS (va_sub_free hD hS hA [] rfl)) rfl rfl hl.1 rfl (lv_room (Nat.le_of_ble_eq_true rfl)) dX1_reuseShare_7 ⟨Nat.le_of_ble_eq_true rfl, Nat.le_of_ble_eq_true rfl⟩) hP hD hS hA [] [0, 1, 2, 3, 4, 5, 6, 7, 8, 9, 10, 11, 12, 13, 14, 15, 16, 17] [0, 1, 2, 3, 4, 5, 6, 7, 8, 9, 10, 11, 12, 13, 14, 15, 16, 17] [0, 1, 2, 3, 4, 5, 6, 7, 8, 9, 10, 11, 12, 13, 14, 15, 16, 17] rfl rfl rfl rfl rfl (fun _ => rfl) rfl (fun _ => rfl) ?_ ?_
  · intro En ce q9 u_3 H locs hCx hP hD hS hxf hq9 hce hcv hcl
    have hCx : En = "java/lang/ArithmeticException" ∧ (g 2) = 0 := hCx
    have hP : va_P E.1 CL (([(cw, .inr (1, [.ref (o 0), .ref oaA, .ref osA, iv hsn, .ref hdA, .ref spA, .ref bfA, .ref lnA, .ref prA, iv ep, va_rf lt]))] : va_W) ++ (SW E o sc ar)) H := hP
    have hD : va_D A (([(cw, .inr (1, [.ref (o 0), .ref oaA, .ref osA, iv hsn, .ref hdA, .ref spA, .ref bfA, .ref lnA, .ref prA, iv ep, va_rf lt]))] : va_W) ++ (SW E o sc ar)) := hD
    exact n_out () (by exact cx_k (k := 1) (by rw [hCx.2]; rfl) (by decide) hCx.1) hP hD hS hxf (Nat.le_trans hz_1 hq9) hce hcv hcl (fun x hx9 => (htb x hx9).elim) hlocks (Nat.le_of_ble_eq_true rfl) (Nat.le_of_ble_eq_true rfl)
  · intro u_2 H locs hC hP hD hS
    have hu_2 : ¬ (g 2) = 0 := hC
    have hP : va_P E.1 CL (([(cw, .inr (1, [.ref (o 0), .ref oaA, .ref osA, iv hsn, .ref hdA, .ref spA, .ref bfA, .ref lnA, .ref prA, iv ep, va_rf lt]))] : va_W) ++ (SW E o sc ar)) H := hP
    have hD : va_D A (([(cw, .inr (1, [.ref (o 0), .ref oaA, .ref osA, iv hsn, .ref hdA, .ref spA, .ref bfA, .ref lnA, .ref prA, iv ep, va_rf lt]))] : va_W) ++ (SW E o sc ar)) := hD
    have hnz := hu_2
    refine lv_aload_n hx hb dX1_reuseShare_10 rfl (lv_at hl 0 rfl) ?_
    refine va_get (D := E.1) (ci := 1) (v := .ref (o 0)) (C := RX1) (T := TX1) (N := 11) hx hb hts in_X1 hown hK.1 hP 0 rfl rfl 0 (by decide) (hts _ q472) (fun _ h9 => h9) rfl dX1_reuseShare_11 ?_
    refine va_getN (D := E.1) (ci := 2) (v := iv (sc 10)) (C := RX2) (T := TX2) (N := 14) hx hb hts in_X2 hown hK.1 hP 1 rfl rfl 10 (by decide) (hK.nw q208) (fun _ h9 => h9) rfl dX1_reuseShare_14 ?_
    refine n_top (y := g 3) (by exact hn1.2.2.1) ?_
    refine lv_i2f hx hb dX1_reuseShare_17 ?_
    refine lv_aload_n hx hb dX1_reuseShare_18 rfl (lv_at hl 0 rfl) ?_
    refine va_get (D := E.1) (ci := 1) (v := .ref (o 0)) (C := RX1) (T := TX1) (N := 11) hx hb hts in_X1 hown hK.1 hP 0 rfl rfl 0 (by decide) (hts _ q472) (fun _ h9 => h9) rfl dX1_reuseShare_19 ?_
    refine va_getN (D := E.1) (ci := 2) (v := iv (sc 9)) (C := RX2) (T := TX2) (N := 14) hx hb hts in_X2 hown hK.1 hP 1 rfl rfl 9 (by decide) (hK.nw q206) (fun _ h9 => h9) rfl dX1_reuseShare_22 ?_
    refine n_top (y := g 2) (by exact hn1.2.1) ?_
    refine lv_i2f hx hb dX1_reuseShare_25 ?_
    refine lv_fdiv hx hb dX1_reuseShare_26 (vf_f (b := g 2) (by omega) (by omega)) ?_
    have hfin : (FP.fdiv (FP.i2f (iI (g 3))) (FP.i2f (iI (g 2))) : UInt32) = m_share g := by
      rfl
    refine vx_ret ?_
    refine W.widen (k := 1) (n := 6) (Nat.le_of_ble_eq_true rfl) (Nat.le_of_ble_eq_true rfl) ?_
    exact W.fret (v := FP.fdiv (FP.i2f (iI (g 3))) (FP.i2f (iI (g 2)))) hx hb hr (fun tt_ ht_ hW_ => ⟨⟨(), by rw [hfin], by exact c_nul_0 hnz, by rw [ht_]; exact hP, hD⟩, hS.F ht_⟩) hS.2.2 dX1_reuseShare_27
set_option maxHeartbeats 1000000 in
set_option maxRecDepth 100000 in
theorem mt_X1_refusal (l : Launch) (E : EE) (cw : Nat) (stA : Nat) (oaA : Nat) (osA : Nat) (hsn : Int) (hdA : Nat) (spA : Nat) (bfA : Nat) (lnA : Nat) (prA : Nat) (ep : Int) (lt : Option Nat) (hst : l.stackTraces = false) (sz : Nat) : vx_Met l yX1_refusal (ws_ yX1_refusal cX1_refusal 1 (some (.object "ClockworkTailor$Refusal"))) { frames := 7, cells := 1, slots := 6, locals := 112 } (va_Pc [.ref cw] (UX E ([(cw, .inr (1, [.ref stA, .ref oaA, .ref osA, iv hsn, .ref hdA, .ref spA, .ref bfA, .ref lnA, .ref prA, iv ep, va_rf lt]))]) sz)) (UQxy E (fun u : Nat => lt = some u) (fun u : Nat => .ref u) (fun u : Nat => [(cw, .inr (1, [.ref stA, .ref oaA, .ref osA, iv hsn, .ref hdA, .ref spA, .ref bfA, .ref lnA, .ref prA, iv ep, va_rf lt]))]) (va_A ([(cw, .inr (1, [.ref stA, .ref oaA, .ref osA, iv hsn, .ref hdA, .ref spA, .ref bfA, .ref lnA, .ref prA, iv ep, va_rf lt]))]) sz)) (UXx E (fun (En : String) (u : Unit) => En = "java/util/NoSuchElementException" ∧ lt = none) (fun u : Unit => [(cw, .inr (1, [.ref stA, .ref oaA, .ref osA, iv hsn, .ref hdA, .ref spA, .ref bfA, .ref lnA, .ref prA, iv ep, va_rf lt]))]) (fun u : Unit => none) (va_A ([(cw, .inr (1, [.ref stA, .ref oaA, .ref osA, iv hsn, .ref hdA, .ref spA, .ref bfA, .ref lnA, .ref prA, iv ep, va_rf lt]))]) sz)) 1 6 (va_A ([(cw, .inr (1, [.ref stA, .ref oaA, .ref osA, iv hsn, .ref hdA, .ref spA, .ref bfA, .ref lnA, .ref prA, iv ep, va_rf lt]))]) sz) := by
  refine vx_ofW (cc := cX1_refusal) (maxL := 1) (ret := (some (.object "ClockworkTailor$Refusal"))) (by decide) rfl ?_
  intro p e s m args below meth c s₁ B hml htb hv
  obtain ⟨rfl, hsz, hP, hK, hD0, hE⟩ := hv
  have hx := B.exec
  have hb := B.bytes
  have hr := B.returns
  have hts := atoms_spec (ws := (ws_ yX1_refusal cX1_refusal 1 (some (.object "ClockworkTailor$Refusal")))) B.pre
  have hts : ∀ w ∈ lw_all, w.before _ s = true := fun w h => hts w (List.mem_cons_of_mem _ h)
  have hown : s.vm.findClass RX1 = some m.cls := findClass_of_methodNamed B.named
  have hlocks := B.notSynchronized
  subst hsz
  have hD := hD0.self (sz := s.heap.size)
  generalize hAe : va_A ([(cw, .inr (1, [.ref stA, .ref oaA, .ref osA, iv hsn, .ref hdA, .ref spA, .ref bfA, .ref lnA, .ref prA, iv ep, va_rf lt]))]) s.heap.size = A at hD hE ⊢
  have hA : ∀ q : Nat, s.heap.size ≤ q → A q := fun q h => by rw [← hAe]; exact Or.inr h
  have hS : va_S A s.heap s.heap [] := va_S.rf
  have hl := lv_entry ([.ref cw]) (n := 1) (Nat.le_of_ble_eq_true rfl)
  rw [lg_entry_eq]
  generalize (lg_sl ([.ref cw]) ++ List.replicate (1 - (lg_sl ([.ref cw])).length) Slot.unset).toArray = ls at hl ⊢
  have hl : lv_has ls 1 [(0, .ref cw)] := hl
  rcases lt with _ | q8
  · have hP : va_P E.1 CL ([(cw, .inr (1, [.ref stA, .ref oaA, .ref osA, iv hsn, .ref hdA, .ref spA, .ref bfA, .ref lnA, .ref prA, iv ep, .null]))]) s.heap := hP
    have hD : va_D A ([(cw, .inr (1, [.ref stA, .ref oaA, .ref osA, iv hsn, .ref hdA, .ref spA, .ref bfA, .ref lnA, .ref prA, iv ep, .null]))]) := hD
    refine lv_aload_n hx hb dX1_refusal_0 rfl (lv_at hl 0 rfl) ?_
    refine va_get (D := E.1) (ci := 1) (v := .null) (C := RX1) (T := TX1) (N := 11) hx hb hts in_X1 hown hK.1 hP 0 rfl rfl 10 (by decide) (hts _ q482) (fun _ h9 => h9) rfl dX1_refusal_1 ?_
    refine lv_ifnullN (tgt := 11) hx hb dX1_refusal_4 (by decide) ?_
    refine lv_iconst (v := iI 0) hx hb dX1_refusal_11 rfl ?_
    have hz_1 : s.heap.size ≤ s.heap.size := hS.1
    refine n_txvS (w2 := fun u_2 => [(cw, .inr (1, [.ref stA, .ref oaA, .ref osA, iv hsn, .ref hdA, .ref spA, .ref bfA, .ref lnA, .ref prA, iv ep, .null]))]) (w3 := fun u_3 => [(cw, .inr (1, [.ref stA, .ref oaA, .ref osA, iv hsn, .ref hdA, .ref spA, .ref bfA, .ref lnA, .ref prA, iv ep, .null]))]) (vx_runS (As := [iv 0]) (rest := []) ⟨hx, hb, hml, hown, hts⟩ (mt_X1_checkElement l E false (by exact hst) _) (va_cwS 1 hts (lw_S q1040 q972 q94 q973) rfl rfl rfl (by decide +kernel) ⟨Nat.le_of_ble_eq_true rfl, Nat.le_of_ble_eq_true rfl⟩) (UX_S (hP.sub (ws' := []) [] rfl) hK (hD.sub (ws' := []) [] rfl rfl) hE hS (va_sub_free hD hS hA [] rfl)) rfl rfl hl.1 rfl (lv_room (Nat.le_of_ble_eq_true rfl)) dX1_refusal_12 ⟨Nat.le_of_ble_eq_true rfl, Nat.le_of_ble_eq_true rfl⟩) hP hD hS hA [] [0] [0] [0] rfl rfl rfl rfl rfl (fun _ => rfl) rfl (fun _ => rfl) ?_ ?_
    · intro En ce q9 u_3 H locs hCx hP hD hS hxf hq9 hce hcv hcl
      have hCx : En = "java/util/NoSuchElementException" ∧ false = false := hCx
      have hP : va_P E.1 CL ([(cw, .inr (1, [.ref stA, .ref oaA, .ref osA, iv hsn, .ref hdA, .ref spA, .ref bfA, .ref lnA, .ref prA, iv ep, .null]))]) H := hP
      have hD : va_D A ([(cw, .inr (1, [.ref stA, .ref oaA, .ref osA, iv hsn, .ref hdA, .ref spA, .ref bfA, .ref lnA, .ref prA, iv ep, .null]))]) := hD
      exact n_out () (by exact ⟨hCx.1, rfl⟩) hP hD hS hxf (Nat.le_trans hz_1 hq9) hce hcv hcl (fun x hx9 => (htb x hx9).elim) hlocks (Nat.le_of_ble_eq_true rfl) (Nat.le_of_ble_eq_true rfl)
    · intro u_2 H locs hC hP hD hS
      exact absurd hC (by decide)
  · have hP : va_P E.1 CL ([(cw, .inr (1, [.ref stA, .ref oaA, .ref osA, iv hsn, .ref hdA, .ref spA, .ref bfA, .ref lnA, .ref prA, iv ep, .ref q8]))]) s.heap := hP
    have hD : va_D A ([(cw, .inr (1, [.ref stA, .ref oaA, .ref osA, iv hsn, .ref hdA, .ref spA, .ref bfA, .ref lnA, .ref prA, iv ep, .ref q8]))]) := hD
    refine lv_aload_n hx hb dX1_refusal_0 rfl (lv_at hl 0 rfl) ?_
    refine va_get (D := E.1) (ci := 1) (v := .ref q8) (C := RX1) (T := TX1) (N := 11) hx hb hts in_X1 hown hK.1 hP 0 rfl rfl 10 (by decide) (hts _ q482) (fun _ h9 => h9) rfl dX1_refusal_1 ?_
    refine lv_ifnull hx hb dX1_refusal_4 ?_
    refine lv_iconst (v := iI 1) hx hb dX1_refusal_7 rfl ?_
    refine lv_goto (tgt := 12) hx hb dX1_refusal_8 (by decide) ?_
    have hz_4 : s.heap.size ≤ s.heap.size := hS.1
    refine n_txvS (w2 := fun u_5 => [(cw, .inr (1, [.ref stA, .ref oaA, .ref osA, iv hsn, .ref hdA, .ref spA, .ref bfA, .ref lnA, .ref prA, iv ep, .ref q8]))]) (w3 := fun u_6 => [(cw, .inr (1, [.ref stA, .ref oaA, .ref osA, iv hsn, .ref hdA, .ref spA, .ref bfA, .ref lnA, .ref prA, iv ep, .ref q8]))]) (vx_runS (As := [iv 1]) (rest := []) ⟨hx, hb, hml, hown, hts⟩ (mt_X1_checkElement l E true (by exact hst) _) (va_cwS 1 hts (lw_S q1040 q972 q94 q973) rfl rfl rfl (by decide +kernel) ⟨Nat.le_of_ble_eq_true rfl, Nat.le_of_ble_eq_true rfl⟩) (UX_S (hP.sub (ws' := []) [] rfl) hK (hD.sub (ws' := []) [] rfl rfl) hE hS (va_sub_free hD hS hA [] rfl)) rfl rfl hl.1 rfl (lv_room (Nat.le_of_ble_eq_true rfl)) dX1_refusal_12 ⟨Nat.le_of_ble_eq_true rfl, Nat.le_of_ble_eq_true rfl⟩) hP hD hS hA [] [0] [0] [0] rfl rfl rfl rfl rfl (fun _ => rfl) rfl (fun _ => rfl) ?_ ?_
    · intro En ce q9 u_6 H locs hCx hP hD hS hxf hq9 hce hcv hcl
      have hCx : En = "java/util/NoSuchElementException" ∧ true = false := hCx
      have hP : va_P E.1 CL ([(cw, .inr (1, [.ref stA, .ref oaA, .ref osA, iv hsn, .ref hdA, .ref spA, .ref bfA, .ref lnA, .ref prA, iv ep, .ref q8]))]) H := hP
      have hD : va_D A ([(cw, .inr (1, [.ref stA, .ref oaA, .ref osA, iv hsn, .ref hdA, .ref spA, .ref bfA, .ref lnA, .ref prA, iv ep, .ref q8]))]) := hD
      exact absurd hCx.2 (by decide)
    · intro u_5 H locs hC hP hD hS
      have hu_5 : true = true := hC
      have hP : va_P E.1 CL ([(cw, .inr (1, [.ref stA, .ref oaA, .ref osA, iv hsn, .ref hdA, .ref spA, .ref bfA, .ref lnA, .ref prA, iv ep, .ref q8]))]) H := hP
      have hD : va_D A ([(cw, .inr (1, [.ref stA, .ref oaA, .ref osA, iv hsn, .ref hdA, .ref spA, .ref bfA, .ref lnA, .ref prA, iv ep, .ref q8]))]) := hD
      refine lv_aload_n hx hb dX1_refusal_15 rfl (lv_at hl 0 rfl) ?_
      refine va_get (D := E.1) (ci := 1) (v := .ref q8) (C := RX1) (T := TX1) (N := 11) hx hb hts in_X1 hown hK.1 hP 0 rfl rfl 10 (by decide) (hts _ q482) (fun _ h9 => h9) rfl dX1_refusal_16 ?_
      refine vx_ret ?_
      refine W.widen (k := 1) (n := 6) (Nat.le_of_ble_eq_true rfl) (Nat.le_of_ble_eq_true rfl) ?_
      exact W.aret hx hb hr (Or.inl ⟨_, rfl⟩) (Or.inr ⟨_, rfl⟩) (fun tt_ ht_ hW_ => ⟨⟨q8, rfl, rfl, by rw [ht_]; exact hP, hD⟩, hS.F ht_⟩) hS.2.2 dX1_refusal_19
set_option maxHeartbeats 1000000 in
set_option maxRecDepth 100000 in
theorem mt_X6_originReasonn (l : Launch) (E : EE) (rq : Nat) (pv0 : Value) (pv1 : Value) (pv2 : Value) (pv3 : Value) (pv4 : Value) (pv5 : Value) (wr : Int) (wd : Int) : Met l yX6_originReason (ws_ yX6_originReason cX6_originReason 1 (some .int)) { frames := 1, cells := 0, slots := 0, locals := 22 } (va_Pc [.ref rq] (PW E ([(rq, .inr (5, [pv0, pv1, pv2, pv3, pv4, pv5, iv wr, iv wd, .null]))]))) (NP (-1)) 0 0 (fun _ => False) := by
  refine Met.ofW (cc := cX6_originReason) (maxL := 1) (ret := (some .int)) (by decide) rfl ?_
  intro p e s m args below meth c s₁ B hml hv
  obtain ⟨rfl, hP, hK⟩ := hv
  have hx := B.exec
  have hb := B.bytes
  have hr := B.returns
  have hts := atoms_spec (ws := (ws_ yX6_originReason cX6_originReason 1 (some .int))) B.pre
  have hts : ∀ w ∈ lw_all, w.before _ s = true := fun w h => hts w (List.mem_cons_of_mem _ h)
  have hown : s.vm.findClass RX6 = some m.cls := findClass_of_methodNamed B.named
  have hlocks := B.notSynchronized
  have hl := lv_entry ([.ref rq]) (n := 1) (Nat.le_of_ble_eq_true rfl)
  rw [lg_entry_eq]
  generalize (lg_sl ([.ref rq]) ++ List.replicate (1 - (lg_sl ([.ref rq])).length) Slot.unset).toArray = ls at hl ⊢
  have hl : lv_has ls 1 [(0, .ref rq)] := hl
  refine lv_aload_n hx hb dX6_originReason_0 rfl (lv_at hl 0 rfl) ?_
  refine va_get (D := E.1) (ci := 5) (v := .null) (C := RX6) (T := TX6) (N := 9) hx hb hts in_X6 hown hK.1 hP 0 rfl rfl 8 (by decide) (hts _ q838) (fun _ h9 => h9) rfl dX6_originReason_1 ?_
  refine lv_ifnonnullN hx hb dX6_originReason_4 ?_
  refine lv_iconst (v := iI (-1)) hx hb dX6_originReason_7 rfl ?_
  refine lv_goto (tgt := 18) hx hb dX6_originReason_8 (by decide) ?_
  have hfin : (-1) = -1 := by
    first | rfl | omega
  exact W.iret (v := iI (-1)) hx hb hr (fun tt_ ht_ hW_ => ⟨iI (-1), rfl, (congrArg iI hfin), ht_⟩) (fun q h => by cases h) dX6_originReason_18
set_option maxHeartbeats 1000000 in
set_option maxRecDepth 100000 in
theorem mt_X6_originReasonr (l : Launch) (E : EE) (rq : Nat) (pv0 : Value) (pv1 : Value) (pv2 : Value) (pv3 : Value) (pv4 : Value) (pv5 : Value) (wr : Int) (wd : Int) (rq2 : Nat) (pw0 : Value) (pw1 : Value) (pw2 : Value) (pw3 : Value) (pw4 : Value) (pw5 : Value) (ws : Int) (wt : Int) : Met l yX6_originReason (ws_ yX6_originReason cX6_originReason 1 (some .int)) { frames := 1, cells := 0, slots := 0, locals := 22 } (va_Pc [.ref rq] (PW E (([(rq, .inr (5, [pv0, pv1, pv2, pv3, pv4, pv5, iv wr, iv wd, .ref rq2]))] : va_W) ++ ([(rq2, .inr (5, [pw0, pw1, pw2, pw3, pw4, pw5, iv ws, iv wt, .null]))] : va_W)))) (NP ws) 0 0 (fun _ => False) := by
  refine Met.ofW (cc := cX6_originReason) (maxL := 1) (ret := (some .int)) (by decide) rfl ?_
  intro p e s m args below meth c s₁ B hml hv
  obtain ⟨rfl, hP, hK⟩ := hv
  have hx := B.exec
  have hb := B.bytes
  have hr := B.returns
  have hts := atoms_spec (ws := (ws_ yX6_originReason cX6_originReason 1 (some .int))) B.pre
  have hts : ∀ w ∈ lw_all, w.before _ s = true := fun w h => hts w (List.mem_cons_of_mem _ h)
  have hown : s.vm.findClass RX6 = some m.cls := findClass_of_methodNamed B.named
  have hlocks := B.notSynchronized
  have hl := lv_entry ([.ref rq]) (n := 1) (Nat.le_of_ble_eq_true rfl)
  rw [lg_entry_eq]
  generalize (lg_sl ([.ref rq]) ++ List.replicate (1 - (lg_sl ([.ref rq])).length) Slot.unset).toArray = ls at hl ⊢
  have hl : lv_has ls 1 [(0, .ref rq)] := hl
  refine lv_aload_n hx hb dX6_originReason_0 rfl (lv_at hl 0 rfl) ?_
  refine va_get (D := E.1) (ci := 5) (v := .ref rq2) (C := RX6) (T := TX6) (N := 9) hx hb hts in_X6 hown hK.1 hP 0 rfl rfl 8 (by decide) (hts _ q838) (fun _ h9 => h9) rfl dX6_originReason_1 ?_
  refine lv_ifnonnull (tgt := 11) hx hb dX6_originReason_4 (by decide) ?_
  refine lv_aload_n hx hb dX6_originReason_11 rfl (lv_at hl 0 rfl) ?_
  refine va_get (D := E.1) (ci := 5) (v := .ref rq2) (C := RX6) (T := TX6) (N := 9) hx hb hts in_X6 hown hK.1 hP 0 rfl rfl 8 (by decide) (hts _ q838) (fun _ h9 => h9) rfl dX6_originReason_12 ?_
  refine va_get (D := E.1) (ci := 5) (v := iv ws) (C := RX6) (T := TX6) (N := 9) hx hb hts in_X6 hown hK.1 hP 1 rfl rfl 6 (by decide) (hts _ q834) (fun _ h9 => h9) rfl dX6_originReason_15 ?_
  exact W.iret (v := iI ws) hx hb hr (fun tt_ ht_ hW_ => ⟨iI ws, rfl, rfl, ht_⟩) (fun q h => by cases h) dX6_originReason_18
set_option maxHeartbeats 1000000 in
set_option maxRecDepth 100000 in
theorem mt_X1_refusalReason_a (l : Launch) (E : EE) (cw : Nat) (stA : Nat) (oaA : Nat) (osA : Nat) (hsn : Int) (hdA : Nat) (spA : Nat) (bfA : Nat) (lnA : Nat) (prA : Nat) (ep : Int) (hst : l.stackTraces = false) (sz : Nat) : vx_Met l yX1_refusalReason (ws_ yX1_refusalReason cX1_refusalReason 1 (some .int)) { frames := 9, cells := 1, slots := 6, locals := 200 } (va_Pc [.ref cw] (UX E ([(cw, .inr (1, [.ref stA, .ref oaA, .ref osA, iv hsn, .ref hdA, .ref spA, .ref bfA, .ref lnA, .ref prA, iv ep, .null]))]) sz)) (UQx E (fun u : Unit => c_zero (0 : Int) = 0) (fun u : Unit => (0 : Int)) (fun u : Unit => [(cw, .inr (1, [.ref stA, .ref oaA, .ref osA, iv hsn, .ref hdA, .ref spA, .ref bfA, .ref lnA, .ref prA, iv ep, .null]))]) (va_A ([(cw, .inr (1, [.ref stA, .ref oaA, .ref osA, iv hsn, .ref hdA, .ref spA, .ref bfA, .ref lnA, .ref prA, iv ep, .null]))]) sz)) (UXx E (fun (En : String) (u : Unit) => En = "java/util/NoSuchElementException" ∧ c_zero (0 : Int) = 1) (fun u : Unit => [(cw, .inr (1, [.ref stA, .ref oaA, .ref osA, iv hsn, .ref hdA, .ref spA, .ref bfA, .ref lnA, .ref prA, iv ep, .null]))]) (fun u : Unit => none) (va_A ([(cw, .inr (1, [.ref stA, .ref oaA, .ref osA, iv hsn, .ref hdA, .ref spA, .ref bfA, .ref lnA, .ref prA, iv ep, .null]))]) sz)) 1 6 (va_A ([(cw, .inr (1, [.ref stA, .ref oaA, .ref osA, iv hsn, .ref hdA, .ref spA, .ref bfA, .ref lnA, .ref prA, iv ep, .null]))]) sz) := by
  refine vx_ofW (cc := cX1_refusalReason) (maxL := 1) (ret := (some .int)) (by decide) rfl ?_
  intro p e s m args below meth c s₁ B hml htb hv
  obtain ⟨rfl, hsz, hP, hK, hD0, hE⟩ := hv
  have hx := B.exec
  have hb := B.bytes
  have hr := B.returns
  have hts := atoms_spec (ws := (ws_ yX1_refusalReason cX1_refusalReason 1 (some .int))) B.pre
  have hts : ∀ w ∈ lw_all, w.before _ s = true := fun w h => hts w (List.mem_cons_of_mem _ h)
  have hown : s.vm.findClass RX1 = some m.cls := findClass_of_methodNamed B.named
  have hlocks := B.notSynchronized
  subst hsz
  have hD := hD0.self (sz := s.heap.size)
  generalize hAe : va_A ([(cw, .inr (1, [.ref stA, .ref oaA, .ref osA, iv hsn, .ref hdA, .ref spA, .ref bfA, .ref lnA, .ref prA, iv ep, .null]))]) s.heap.size = A at hD hE ⊢
  have hA : ∀ q : Nat, s.heap.size ≤ q → A q := fun q h => by rw [← hAe]; exact Or.inr h
  have hS : va_S A s.heap s.heap [] := va_S.rf
  have hl := lv_entry ([.ref cw]) (n := 1) (Nat.le_of_ble_eq_true rfl)
  rw [lg_entry_eq]
  generalize (lg_sl ([.ref cw]) ++ List.replicate (1 - (lg_sl ([.ref cw])).length) Slot.unset).toArray = ls at hl ⊢
  have hl : lv_has ls 1 [(0, .ref cw)] := hl
  refine lv_aload_n hx hb dX1_refusalReason_0 rfl (lv_at hl 0 rfl) ?_
  have hg_1 : gpick [[(cw, .inr (1, [.ref stA, .ref oaA, .ref osA, iv hsn, .ref hdA, .ref spA, .ref bfA, .ref lnA, .ref prA, iv ep, .null]))]] ([[(cw, .inr (1, [.ref stA, .ref oaA, .ref osA, iv hsn, .ref hdA, .ref spA, .ref bfA, .ref lnA, .ref prA, iv ep, .null]))]] ++ []) [0] := ⟨rfl, (show List.Perm [0] (List.range 1) from by decide)⟩
  have hg_1P : va_P E.1 CL ([(cw, .inr (1, [.ref stA, .ref oaA, .ref osA, iv hsn, .ref hdA, .ref spA, .ref bfA, .ref lnA, .ref prA, iv ep, .null]))]) s.heap := (g_out hg_1 hP hD).1
  have hg_1D : va_D A ([(cw, .inr (1, [.ref stA, .ref oaA, .ref osA, iv hsn, .ref hdA, .ref spA, .ref bfA, .ref lnA, .ref prA, iv ep, .null]))]) := (g_out hg_1 hP hD).2
  have hg_1F : ∀ q, va_A ([(cw, .inr (1, [.ref stA, .ref oaA, .ref osA, iv hsn, .ref hdA, .ref spA, .ref bfA, .ref lnA, .ref prA, iv ep, .null]))]) s.heap.size q → A q := g_free hg_1 hP hD hS hA
  have hz_2 : s.heap.size ≤ s.heap.size := hS.1
  have hj_5 : ∀ u_3 : Nat, gpick ([[(cw, .inr (1, [.ref stA, .ref oaA, .ref osA, iv hsn, .ref hdA, .ref spA, .ref bfA, .ref lnA, .ref prA, iv ep, .null]))]] ++ []) [[(cw, .inr (1, [.ref stA, .ref oaA, .ref osA, iv hsn, .ref hdA, .ref spA, .ref bfA, .ref lnA, .ref prA, iv ep, .null]))]] [0] := fun u_3 => ⟨rfl, (show List.Perm [0] (List.range 1) from by decide)⟩
  have hj_6 : ∀ u_4 : Unit, gpick ([[(cw, .inr (1, [.ref stA, .ref oaA, .ref osA, iv hsn, .ref hdA, .ref spA, .ref bfA, .ref lnA, .ref prA, iv ep, .null]))]] ++ []) [[(cw, .inr (1, [.ref stA, .ref oaA, .ref osA, iv hsn, .ref hdA, .ref spA, .ref bfA, .ref lnA, .ref prA, iv ep, .null]))]] [0] := fun u_4 => ⟨rfl, (show List.Perm [0] (List.range 1) from by decide)⟩
  refine n_txyB (y := fun u_3 => .ref u_3) (w2 := fun u_3 => [(cw, .inr (1, [.ref stA, .ref oaA, .ref osA, iv hsn, .ref hdA, .ref spA, .ref bfA, .ref lnA, .ref prA, iv ep, .null]))]) (w3 := fun u_4 => [(cw, .inr (1, [.ref stA, .ref oaA, .ref osA, iv hsn, .ref hdA, .ref spA, .ref bfA, .ref lnA, .ref prA, iv ep, .null]))]) (vx_runV (As := []) (rest := []) ⟨hx, hb, hml, hown, hts⟩ (mt_X1_refusal l E cw stA oaA osA hsn hdA spA bfA lnA prA ep none  (by exact hst) _) (cwV 0 hts (lw_V q1385 q1387 qs22 q94 q1388) rfl rfl rfl (by decide +kernel) ⟨Nat.le_of_ble_eq_true rfl, Nat.le_of_ble_eq_true rfl⟩) (UX_V hg_1P hK (hg_1D) hE hS hg_1F (va_recv hK.1 hP (ci := 1) (q0 := 0) rfl rfl)) rfl rfl hl.1 rfl (lv_room (Nat.le_of_ble_eq_true rfl)) dX1_refusalReason_1 ⟨Nat.le_of_ble_eq_true rfl, Nat.le_of_ble_eq_true rfl⟩) hS hg_1F ?_ ?_ ?_ ?_
  · exact (fun u_3 _ hk9 hp9 hd9 => g_back hg_1 (hj_5 u_3) hP hD hg_1F hk9 hp9 hd9)
  · exact (fun u_4 _ hk9 hp9 hd9 => g_back hg_1 (hj_6 u_4) hP hD hg_1F hk9 hp9 hd9)
  · intro En ce q9 u_4 H locs hCx hP hD hS hxf hq9 hce hcv hcl
    have hCx : En = "java/util/NoSuchElementException" ∧ none = none := hCx
    have hP : va_P E.1 CL ([(cw, .inr (1, [.ref stA, .ref oaA, .ref osA, iv hsn, .ref hdA, .ref spA, .ref bfA, .ref lnA, .ref prA, iv ep, .null]))]) H := hP
    have hD : va_D A ([(cw, .inr (1, [.ref stA, .ref oaA, .ref osA, iv hsn, .ref hdA, .ref spA, .ref bfA, .ref lnA, .ref prA, iv ep, .null]))]) := hD
    exact n_out () (by exact ⟨hCx.1, rfl⟩) hP hD hS hxf (Nat.le_trans hz_2 hq9) hce hcv hcl (fun x hx9 => (htb x hx9).elim) hlocks (Nat.le_of_ble_eq_true rfl) (Nat.le_of_ble_eq_true rfl)
  · intro u_3 H locs hC hP hD hS
    have hu_3 : none = some u_3 := hC
    have hP : va_P E.1 CL ([(cw, .inr (1, [.ref stA, .ref oaA, .ref osA, iv hsn, .ref hdA, .ref spA, .ref bfA, .ref lnA, .ref prA, iv ep, .null]))]) H := hP
    have hD : va_D A ([(cw, .inr (1, [.ref stA, .ref oaA, .ref osA, iv hsn, .ref hdA, .ref spA, .ref bfA, .ref lnA, .ref prA, iv ep, .null]))]) := hD
    exact absurd hu_3 (by intro h9; cases h9)
set_option maxHeartbeats 1000000 in
set_option maxRecDepth 100000 in
theorem mt_X1_refusalReason_b (l : Launch) (E : EE) (cw : Nat) (stA : Nat) (oaA : Nat) (osA : Nat) (hsn : Int) (hdA : Nat) (spA : Nat) (bfA : Nat) (lnA : Nat) (prA : Nat) (ep : Int) (rq : Nat) (pv0 : Value) (pv1 : Value) (pv2 : Value) (pv3 : Value) (pv4 : Value) (pv5 : Value) (wr : Int) (wd : Int) (hst : l.stackTraces = false) (hwr : 0 < wr ∧ wr < 100) (hwd : -2147483648 ≤ wd ∧ wd < 2147483648) (sz : Nat) : vx_Met l yX1_refusalReason (ws_ yX1_refusalReason cX1_refusalReason 1 (some .int)) { frames := 9, cells := 1, slots := 6, locals := 200 } (va_Pc [.ref cw] (UX E (([(cw, .inr (1, [.ref stA, .ref oaA, .ref osA, iv hsn, .ref hdA, .ref spA, .ref bfA, .ref lnA, .ref prA, iv ep, .ref rq]))] : va_W) ++ ([(rq, .inr (5, [pv0, pv1, pv2, pv3, pv4, pv5, iv wr, iv wd, .null]))] : va_W)) sz)) (UQx E (fun u : Unit => c_zero wr = 0) (fun u : Unit => wr) (fun u : Unit => ([(cw, .inr (1, [.ref stA, .ref oaA, .ref osA, iv hsn, .ref hdA, .ref spA, .ref bfA, .ref lnA, .ref prA, iv ep, .ref rq]))] : va_W) ++ ([(rq, .inr (5, [pv0, pv1, pv2, pv3, pv4, pv5, iv wr, iv wd, .null]))] : va_W)) (va_A (([(cw, .inr (1, [.ref stA, .ref oaA, .ref osA, iv hsn, .ref hdA, .ref spA, .ref bfA, .ref lnA, .ref prA, iv ep, .ref rq]))] : va_W) ++ ([(rq, .inr (5, [pv0, pv1, pv2, pv3, pv4, pv5, iv wr, iv wd, .null]))] : va_W)) sz)) (UXx E (fun (En : String) (u : Unit) => En = "java/util/NoSuchElementException" ∧ c_zero wr = 1) (fun u : Unit => ([(cw, .inr (1, [.ref stA, .ref oaA, .ref osA, iv hsn, .ref hdA, .ref spA, .ref bfA, .ref lnA, .ref prA, iv ep, .ref rq]))] : va_W) ++ ([(rq, .inr (5, [pv0, pv1, pv2, pv3, pv4, pv5, iv wr, iv wd, .null]))] : va_W)) (fun u : Unit => none) (va_A (([(cw, .inr (1, [.ref stA, .ref oaA, .ref osA, iv hsn, .ref hdA, .ref spA, .ref bfA, .ref lnA, .ref prA, iv ep, .ref rq]))] : va_W) ++ ([(rq, .inr (5, [pv0, pv1, pv2, pv3, pv4, pv5, iv wr, iv wd, .null]))] : va_W)) sz)) 1 6 (va_A (([(cw, .inr (1, [.ref stA, .ref oaA, .ref osA, iv hsn, .ref hdA, .ref spA, .ref bfA, .ref lnA, .ref prA, iv ep, .ref rq]))] : va_W) ++ ([(rq, .inr (5, [pv0, pv1, pv2, pv3, pv4, pv5, iv wr, iv wd, .null]))] : va_W)) sz) := by
  refine vx_ofW (cc := cX1_refusalReason) (maxL := 1) (ret := (some .int)) (by decide) rfl ?_
  intro p e s m args below meth c s₁ B hml htb hv
  obtain ⟨rfl, hsz, hP, hK, hD0, hE⟩ := hv
  have hx := B.exec
  have hb := B.bytes
  have hr := B.returns
  have hts := atoms_spec (ws := (ws_ yX1_refusalReason cX1_refusalReason 1 (some .int))) B.pre
  have hts : ∀ w ∈ lw_all, w.before _ s = true := fun w h => hts w (List.mem_cons_of_mem _ h)
  have hown : s.vm.findClass RX1 = some m.cls := findClass_of_methodNamed B.named
  have hlocks := B.notSynchronized
  subst hsz
  have hD := hD0.self (sz := s.heap.size)
  generalize hAe : va_A (([(cw, .inr (1, [.ref stA, .ref oaA, .ref osA, iv hsn, .ref hdA, .ref spA, .ref bfA, .ref lnA, .ref prA, iv ep, .ref rq]))] : va_W) ++ ([(rq, .inr (5, [pv0, pv1, pv2, pv3, pv4, pv5, iv wr, iv wd, .null]))] : va_W)) s.heap.size = A at hD hE ⊢
  have hA : ∀ q : Nat, s.heap.size ≤ q → A q := fun q h => by rw [← hAe]; exact Or.inr h
  have hS : va_S A s.heap s.heap [] := va_S.rf
  have hl := lv_entry ([.ref cw]) (n := 1) (Nat.le_of_ble_eq_true rfl)
  rw [lg_entry_eq]
  generalize (lg_sl ([.ref cw]) ++ List.replicate (1 - (lg_sl ([.ref cw])).length) Slot.unset).toArray = ls at hl ⊢
  have hl : lv_has ls 1 [(0, .ref cw)] := hl
  refine lv_aload_n hx hb dX1_refusalReason_0 rfl (lv_at hl 0 rfl) ?_
  have hg_1 : gpick [[(cw, .inr (1, [.ref stA, .ref oaA, .ref osA, iv hsn, .ref hdA, .ref spA, .ref bfA, .ref lnA, .ref prA, iv ep, .ref rq]))], [(rq, .inr (5, [pv0, pv1, pv2, pv3, pv4, pv5, iv wr, iv wd, .null]))]] ([[(cw, .inr (1, [.ref stA, .ref oaA, .ref osA, iv hsn, .ref hdA, .ref spA, .ref bfA, .ref lnA, .ref prA, iv ep, .ref rq]))]] ++ [[(rq, .inr (5, [pv0, pv1, pv2, pv3, pv4, pv5, iv wr, iv wd, .null]))]]) [0, 1] := ⟨rfl, (show List.Perm [0, 1] (List.range 2) from by decide)⟩
  have hg_1P : va_P E.1 CL ([(cw, .inr (1, [.ref stA, .ref oaA, .ref osA, iv hsn, .ref hdA, .ref spA, .ref bfA, .ref lnA, .ref prA, iv ep, .ref rq]))]) s.heap := (g_out hg_1 hP hD).1
  have hg_1D : va_D A ([(cw, .inr (1, [.ref stA, .ref oaA, .ref osA, iv hsn, .ref hdA, .ref spA, .ref bfA, .ref lnA, .ref prA, iv ep, .ref rq]))]) := (g_out hg_1 hP hD).2
  have hg_1F : ∀ q, va_A ([(cw, .inr (1, [.ref stA, .ref oaA, .ref osA, iv hsn, .ref hdA, .ref spA, .ref bfA, .ref lnA, .ref prA, iv ep, .ref rq]))]) s.heap.size q → A q := g_free hg_1 hP hD hS hA
  have hz_2 : s.heap.size ≤ s.heap.size := hS.1
  have hj_5 : ∀ u_3 : Nat, gpick ([[(cw, .inr (1, [.ref stA, .ref oaA, .ref osA, iv hsn, .ref hdA, .ref spA, .ref bfA, .ref lnA, .ref prA, iv ep, .ref rq]))]] ++ [[(rq, .inr (5, [pv0, pv1, pv2, pv3, pv4, pv5, iv wr, iv wd, .null]))]]) [[(cw, .inr (1, [.ref stA, .ref oaA, .ref osA, iv hsn, .ref hdA, .ref spA, .ref bfA, .ref lnA, .ref prA, iv ep, .ref rq]))], [(rq, .inr (5, [pv0, pv1, pv2, pv3, pv4, pv5, iv wr, iv wd, .null]))]] [0, 1] := fun u_3 => ⟨rfl, (show List.Perm [0, 1] (List.range 2) from by decide)⟩
  have hj_6 : ∀ u_4 : Unit, gpick ([[(cw, .inr (1, [.ref stA, .ref oaA, .ref osA, iv hsn, .ref hdA, .ref spA, .ref bfA, .ref lnA, .ref prA, iv ep, .ref rq]))]] ++ [[(rq, .inr (5, [pv0, pv1, pv2, pv3, pv4, pv5, iv wr, iv wd, .null]))]]) [[(cw, .inr (1, [.ref stA, .ref oaA, .ref osA, iv hsn, .ref hdA, .ref spA, .ref bfA, .ref lnA, .ref prA, iv ep, .ref rq]))], [(rq, .inr (5, [pv0, pv1, pv2, pv3, pv4, pv5, iv wr, iv wd, .null]))]] [0, 1] := fun u_4 => ⟨rfl, (show List.Perm [0, 1] (List.range 2) from by decide)⟩
  refine n_txyB (y := fun u_3 => .ref u_3) (w2 := fun u_3 => ([(cw, .inr (1, [.ref stA, .ref oaA, .ref osA, iv hsn, .ref hdA, .ref spA, .ref bfA, .ref lnA, .ref prA, iv ep, .ref rq]))] : va_W) ++ ([(rq, .inr (5, [pv0, pv1, pv2, pv3, pv4, pv5, iv wr, iv wd, .null]))] : va_W)) (w3 := fun u_4 => ([(cw, .inr (1, [.ref stA, .ref oaA, .ref osA, iv hsn, .ref hdA, .ref spA, .ref bfA, .ref lnA, .ref prA, iv ep, .ref rq]))] : va_W) ++ ([(rq, .inr (5, [pv0, pv1, pv2, pv3, pv4, pv5, iv wr, iv wd, .null]))] : va_W)) (vx_runV (As := []) (rest := []) ⟨hx, hb, hml, hown, hts⟩ (mt_X1_refusal l E cw stA oaA osA hsn hdA spA bfA lnA prA ep (some rq)  (by exact hst) _) (cwV 0 hts (lw_V q1385 q1387 qs22 q94 q1388) rfl rfl rfl (by decide +kernel) ⟨Nat.le_of_ble_eq_true rfl, Nat.le_of_ble_eq_true rfl⟩) (UX_V hg_1P hK (hg_1D) hE hS hg_1F (va_recv hK.1 hP (ci := 1) (q0 := 0) rfl rfl)) rfl rfl hl.1 rfl (lv_room (Nat.le_of_ble_eq_true rfl)) dX1_refusalReason_1 ⟨Nat.le_of_ble_eq_true rfl, Nat.le_of_ble_eq_true rfl⟩) hS hg_1F ?_ ?_ ?_ ?_
  · exact (fun u_3 _ hk9 hp9 hd9 => g_back hg_1 (hj_5 u_3) hP hD hg_1F hk9 hp9 hd9)
  · exact (fun u_4 _ hk9 hp9 hd9 => g_back hg_1 (hj_6 u_4) hP hD hg_1F hk9 hp9 hd9)
  · intro En ce q9 u_4 H locs hCx hP hD hS hxf hq9 hce hcv hcl
    have hCx : En = "java/util/NoSuchElementException" ∧ (some rq) = none := hCx
    have hP : va_P E.1 CL (([(cw, .inr (1, [.ref stA, .ref oaA, .ref osA, iv hsn, .ref hdA, .ref spA, .ref bfA, .ref lnA, .ref prA, iv ep, .ref rq]))] : va_W) ++ ([(rq, .inr (5, [pv0, pv1, pv2, pv3, pv4, pv5, iv wr, iv wd, .null]))] : va_W)) H := hP
    have hD : va_D A (([(cw, .inr (1, [.ref stA, .ref oaA, .ref osA, iv hsn, .ref hdA, .ref spA, .ref bfA, .ref lnA, .ref prA, iv ep, .ref rq]))] : va_W) ++ ([(rq, .inr (5, [pv0, pv1, pv2, pv3, pv4, pv5, iv wr, iv wd, .null]))] : va_W)) := hD
    exact n_out () (by exact absurd hCx.2 (by intro h9; cases h9)) hP hD hS hxf (Nat.le_trans hz_2 hq9) hce hcv hcl (fun x hx9 => (htb x hx9).elim) hlocks (Nat.le_of_ble_eq_true rfl) (Nat.le_of_ble_eq_true rfl)
  · intro u_3 H locs hC hP hD hS
    have hu_3 : (some rq) = some u_3 := hC
    have hP : va_P E.1 CL (([(cw, .inr (1, [.ref stA, .ref oaA, .ref osA, iv hsn, .ref hdA, .ref spA, .ref bfA, .ref lnA, .ref prA, iv ep, .ref rq]))] : va_W) ++ ([(rq, .inr (5, [pv0, pv1, pv2, pv3, pv4, pv5, iv wr, iv wd, .null]))] : va_W)) H := hP
    have hD : va_D A (([(cw, .inr (1, [.ref stA, .ref oaA, .ref osA, iv hsn, .ref hdA, .ref spA, .ref bfA, .ref lnA, .ref prA, iv ep, .ref rq]))] : va_W) ++ ([(rq, .inr (5, [pv0, pv1, pv2, pv3, pv4, pv5, iv wr, iv wd, .null]))] : va_W)) := hD
    obtain rfl := Option.some.inj hu_3
    skip
    refine va_getN (D := E.1) (ci := 5) (v := iv wr) (C := RX6) (T := TX6) (N := 9) hx hb hts in_X6 hown hK.1 hP 1 rfl rfl 6 (by decide) (hK.nw q835) (fun _ h9 => h9) rfl dX1_refusalReason_4 ?_
    refine vx_ret ?_
    refine W.widen (k := 1) (n := 6) (Nat.le_of_ble_eq_true rfl) (Nat.le_of_ble_eq_true rfl) ?_
    exact W.iret (v := iI wr) hx hb hr (fun tt_ ht_ hW_ => ⟨⟨iI wr, (), rfl, ⟨by unfold c_zero; rw [if_neg (by omega)], rfl⟩, by rw [ht_]; exact hP, hD⟩, hS.F ht_⟩) hS.2.2 dX1_refusalReason_7
set_option maxHeartbeats 1000000 in
set_option maxRecDepth 100000 in
theorem mt_X1_refusalReason_c (l : Launch) (E : EE) (cw : Nat) (stA : Nat) (oaA : Nat) (osA : Nat) (hsn : Int) (hdA : Nat) (spA : Nat) (bfA : Nat) (lnA : Nat) (prA : Nat) (ep : Int) (rq : Nat) (pv0 : Value) (pv1 : Value) (pv2 : Value) (pv3 : Value) (pv4 : Value) (pv5 : Value) (wr : Int) (wd : Int) (rq2 : Nat) (pw0 : Value) (pw1 : Value) (pw2 : Value) (pw3 : Value) (pw4 : Value) (pw5 : Value) (ws : Int) (wt : Int) (hst : l.stackTraces = false) (hwr : 0 < wr ∧ wr < 100) (hwd : -2147483648 ≤ wd ∧ wd < 2147483648) (hws : 0 < ws ∧ ws < 100) (sz : Nat) : vx_Met l yX1_refusalReason (ws_ yX1_refusalReason cX1_refusalReason 1 (some .int)) { frames := 9, cells := 1, slots := 6, locals := 200 } (va_Pc [.ref cw] (UX E (([(cw, .inr (1, [.ref stA, .ref oaA, .ref osA, iv hsn, .ref hdA, .ref spA, .ref bfA, .ref lnA, .ref prA, iv ep, .ref rq]))] : va_W) ++ ([(rq, .inr (5, [pv0, pv1, pv2, pv3, pv4, pv5, iv wr, iv wd, .ref rq2]))] : va_W) ++ ([(rq2, .inr (5, [pw0, pw1, pw2, pw3, pw4, pw5, iv ws, iv wt, .null]))] : va_W)) sz)) (UQx E (fun u : Unit => c_zero wr = 0) (fun u : Unit => wr) (fun u : Unit => ([(cw, .inr (1, [.ref stA, .ref oaA, .ref osA, iv hsn, .ref hdA, .ref spA, .ref bfA, .ref lnA, .ref prA, iv ep, .ref rq]))] : va_W) ++ ([(rq, .inr (5, [pv0, pv1, pv2, pv3, pv4, pv5, iv wr, iv wd, .ref rq2]))] : va_W) ++ ([(rq2, .inr (5, [pw0, pw1, pw2, pw3, pw4, pw5, iv ws, iv wt, .null]))] : va_W)) (va_A (([(cw, .inr (1, [.ref stA, .ref oaA, .ref osA, iv hsn, .ref hdA, .ref spA, .ref bfA, .ref lnA, .ref prA, iv ep, .ref rq]))] : va_W) ++ ([(rq, .inr (5, [pv0, pv1, pv2, pv3, pv4, pv5, iv wr, iv wd, .ref rq2]))] : va_W) ++ ([(rq2, .inr (5, [pw0, pw1, pw2, pw3, pw4, pw5, iv ws, iv wt, .null]))] : va_W)) sz)) (UXx E (fun (En : String) (u : Unit) => En = "java/util/NoSuchElementException" ∧ c_zero wr = 1) (fun u : Unit => ([(cw, .inr (1, [.ref stA, .ref oaA, .ref osA, iv hsn, .ref hdA, .ref spA, .ref bfA, .ref lnA, .ref prA, iv ep, .ref rq]))] : va_W) ++ ([(rq, .inr (5, [pv0, pv1, pv2, pv3, pv4, pv5, iv wr, iv wd, .ref rq2]))] : va_W) ++ ([(rq2, .inr (5, [pw0, pw1, pw2, pw3, pw4, pw5, iv ws, iv wt, .null]))] : va_W)) (fun u : Unit => none) (va_A (([(cw, .inr (1, [.ref stA, .ref oaA, .ref osA, iv hsn, .ref hdA, .ref spA, .ref bfA, .ref lnA, .ref prA, iv ep, .ref rq]))] : va_W) ++ ([(rq, .inr (5, [pv0, pv1, pv2, pv3, pv4, pv5, iv wr, iv wd, .ref rq2]))] : va_W) ++ ([(rq2, .inr (5, [pw0, pw1, pw2, pw3, pw4, pw5, iv ws, iv wt, .null]))] : va_W)) sz)) 1 6 (va_A (([(cw, .inr (1, [.ref stA, .ref oaA, .ref osA, iv hsn, .ref hdA, .ref spA, .ref bfA, .ref lnA, .ref prA, iv ep, .ref rq]))] : va_W) ++ ([(rq, .inr (5, [pv0, pv1, pv2, pv3, pv4, pv5, iv wr, iv wd, .ref rq2]))] : va_W) ++ ([(rq2, .inr (5, [pw0, pw1, pw2, pw3, pw4, pw5, iv ws, iv wt, .null]))] : va_W)) sz) := by
  refine vx_ofW (cc := cX1_refusalReason) (maxL := 1) (ret := (some .int)) (by decide) rfl ?_
  intro p e s m args below meth c s₁ B hml htb hv
  obtain ⟨rfl, hsz, hP, hK, hD0, hE⟩ := hv
  have hx := B.exec
  have hb := B.bytes
  have hr := B.returns
  have hts := atoms_spec (ws := (ws_ yX1_refusalReason cX1_refusalReason 1 (some .int))) B.pre
  have hts : ∀ w ∈ lw_all, w.before _ s = true := fun w h => hts w (List.mem_cons_of_mem _ h)
  have hown : s.vm.findClass RX1 = some m.cls := findClass_of_methodNamed B.named
  have hlocks := B.notSynchronized
  subst hsz
  have hD := hD0.self (sz := s.heap.size)
  generalize hAe : va_A (([(cw, .inr (1, [.ref stA, .ref oaA, .ref osA, iv hsn, .ref hdA, .ref spA, .ref bfA, .ref lnA, .ref prA, iv ep, .ref rq]))] : va_W) ++ ([(rq, .inr (5, [pv0, pv1, pv2, pv3, pv4, pv5, iv wr, iv wd, .ref rq2]))] : va_W) ++ ([(rq2, .inr (5, [pw0, pw1, pw2, pw3, pw4, pw5, iv ws, iv wt, .null]))] : va_W)) s.heap.size = A at hD hE ⊢
  have hA : ∀ q : Nat, s.heap.size ≤ q → A q := fun q h => by rw [← hAe]; exact Or.inr h
  have hS : va_S A s.heap s.heap [] := va_S.rf
  have hl := lv_entry ([.ref cw]) (n := 1) (Nat.le_of_ble_eq_true rfl)
  rw [lg_entry_eq]
  generalize (lg_sl ([.ref cw]) ++ List.replicate (1 - (lg_sl ([.ref cw])).length) Slot.unset).toArray = ls at hl ⊢
  have hl : lv_has ls 1 [(0, .ref cw)] := hl
  refine lv_aload_n hx hb dX1_refusalReason_0 rfl (lv_at hl 0 rfl) ?_
  have hg_1 : gpick [[(cw, .inr (1, [.ref stA, .ref oaA, .ref osA, iv hsn, .ref hdA, .ref spA, .ref bfA, .ref lnA, .ref prA, iv ep, .ref rq]))], [(rq, .inr (5, [pv0, pv1, pv2, pv3, pv4, pv5, iv wr, iv wd, .ref rq2]))], [(rq2, .inr (5, [pw0, pw1, pw2, pw3, pw4, pw5, iv ws, iv wt, .null]))]] ([[(cw, .inr (1, [.ref stA, .ref oaA, .ref osA, iv hsn, .ref hdA, .ref spA, .ref bfA, .ref lnA, .ref prA, iv ep, .ref rq]))]] ++ [[(rq, .inr (5, [pv0, pv1, pv2, pv3, pv4, pv5, iv wr, iv wd, .ref rq2]))], [(rq2, .inr (5, [pw0, pw1, pw2, pw3, pw4, pw5, iv ws, iv wt, .null]))]]) [0, 1, 2] := ⟨rfl, (show List.Perm [0, 1, 2] (List.range 3) from by decide)⟩
  have hg_1P : va_P E.1 CL ([(cw, .inr (1, [.ref stA, .ref oaA, .ref osA, iv hsn, .ref hdA, .ref spA, .ref bfA, .ref lnA, .ref prA, iv ep, .ref rq]))]) s.heap := (g_out hg_1 hP hD).1
  have hg_1D : va_D A ([(cw, .inr (1, [.ref stA, .ref oaA, .ref osA, iv hsn, .ref hdA, .ref spA, .ref bfA, .ref lnA, .ref prA, iv ep, .ref rq]))]) := (g_out hg_1 hP hD).2
  have hg_1F : ∀ q, va_A ([(cw, .inr (1, [.ref stA, .ref oaA, .ref osA, iv hsn, .ref hdA, .ref spA, .ref bfA, .ref lnA, .ref prA, iv ep, .ref rq]))]) s.heap.size q → A q := g_free hg_1 hP hD hS hA
  have hz_2 : s.heap.size ≤ s.heap.size := hS.1
  have hj_5 : ∀ u_3 : Nat, gpick ([[(cw, .inr (1, [.ref stA, .ref oaA, .ref osA, iv hsn, .ref hdA, .ref spA, .ref bfA, .ref lnA, .ref prA, iv ep, .ref rq]))]] ++ [[(rq, .inr (5, [pv0, pv1, pv2, pv3, pv4, pv5, iv wr, iv wd, .ref rq2]))], [(rq2, .inr (5, [pw0, pw1, pw2, pw3, pw4, pw5, iv ws, iv wt, .null]))]]) [[(cw, .inr (1, [.ref stA, .ref oaA, .ref osA, iv hsn, .ref hdA, .ref spA, .ref bfA, .ref lnA, .ref prA, iv ep, .ref rq]))], [(rq, .inr (5, [pv0, pv1, pv2, pv3, pv4, pv5, iv wr, iv wd, .ref rq2]))], [(rq2, .inr (5, [pw0, pw1, pw2, pw3, pw4, pw5, iv ws, iv wt, .null]))]] [0, 1, 2] := fun u_3 => ⟨rfl, (show List.Perm [0, 1, 2] (List.range 3) from by decide)⟩
  have hj_6 : ∀ u_4 : Unit, gpick ([[(cw, .inr (1, [.ref stA, .ref oaA, .ref osA, iv hsn, .ref hdA, .ref spA, .ref bfA, .ref lnA, .ref prA, iv ep, .ref rq]))]] ++ [[(rq, .inr (5, [pv0, pv1, pv2, pv3, pv4, pv5, iv wr, iv wd, .ref rq2]))], [(rq2, .inr (5, [pw0, pw1, pw2, pw3, pw4, pw5, iv ws, iv wt, .null]))]]) [[(cw, .inr (1, [.ref stA, .ref oaA, .ref osA, iv hsn, .ref hdA, .ref spA, .ref bfA, .ref lnA, .ref prA, iv ep, .ref rq]))], [(rq, .inr (5, [pv0, pv1, pv2, pv3, pv4, pv5, iv wr, iv wd, .ref rq2]))], [(rq2, .inr (5, [pw0, pw1, pw2, pw3, pw4, pw5, iv ws, iv wt, .null]))]] [0, 1, 2] := fun u_4 => ⟨rfl, (show List.Perm [0, 1, 2] (List.range 3) from by decide)⟩
  refine n_txyB (y := fun u_3 => .ref u_3) (w2 := fun u_3 => ([(cw, .inr (1, [.ref stA, .ref oaA, .ref osA, iv hsn, .ref hdA, .ref spA, .ref bfA, .ref lnA, .ref prA, iv ep, .ref rq]))] : va_W) ++ ([(rq, .inr (5, [pv0, pv1, pv2, pv3, pv4, pv5, iv wr, iv wd, .ref rq2]))] : va_W) ++ ([(rq2, .inr (5, [pw0, pw1, pw2, pw3, pw4, pw5, iv ws, iv wt, .null]))] : va_W)) (w3 := fun u_4 => ([(cw, .inr (1, [.ref stA, .ref oaA, .ref osA, iv hsn, .ref hdA, .ref spA, .ref bfA, .ref lnA, .ref prA, iv ep, .ref rq]))] : va_W) ++ ([(rq, .inr (5, [pv0, pv1, pv2, pv3, pv4, pv5, iv wr, iv wd, .ref rq2]))] : va_W) ++ ([(rq2, .inr (5, [pw0, pw1, pw2, pw3, pw4, pw5, iv ws, iv wt, .null]))] : va_W)) (vx_runV (As := []) (rest := []) ⟨hx, hb, hml, hown, hts⟩ (mt_X1_refusal l E cw stA oaA osA hsn hdA spA bfA lnA prA ep (some rq)  (by exact hst) _) (cwV 0 hts (lw_V q1385 q1387 qs22 q94 q1388) rfl rfl rfl (by decide +kernel) ⟨Nat.le_of_ble_eq_true rfl, Nat.le_of_ble_eq_true rfl⟩) (UX_V hg_1P hK (hg_1D) hE hS hg_1F (va_recv hK.1 hP (ci := 1) (q0 := 0) rfl rfl)) rfl rfl hl.1 rfl (lv_room (Nat.le_of_ble_eq_true rfl)) dX1_refusalReason_1 ⟨Nat.le_of_ble_eq_true rfl, Nat.le_of_ble_eq_true rfl⟩) hS hg_1F ?_ ?_ ?_ ?_
  · exact (fun u_3 _ hk9 hp9 hd9 => g_back hg_1 (hj_5 u_3) hP hD hg_1F hk9 hp9 hd9)
  · exact (fun u_4 _ hk9 hp9 hd9 => g_back hg_1 (hj_6 u_4) hP hD hg_1F hk9 hp9 hd9)
  · intro En ce q9 u_4 H locs hCx hP hD hS hxf hq9 hce hcv hcl
    have hCx : En = "java/util/NoSuchElementException" ∧ (some rq) = none := hCx
    have hP : va_P E.1 CL (([(cw, .inr (1, [.ref stA, .ref oaA, .ref osA, iv hsn, .ref hdA, .ref spA, .ref bfA, .ref lnA, .ref prA, iv ep, .ref rq]))] : va_W) ++ ([(rq, .inr (5, [pv0, pv1, pv2, pv3, pv4, pv5, iv wr, iv wd, .ref rq2]))] : va_W) ++ ([(rq2, .inr (5, [pw0, pw1, pw2, pw3, pw4, pw5, iv ws, iv wt, .null]))] : va_W)) H := hP
    have hD : va_D A (([(cw, .inr (1, [.ref stA, .ref oaA, .ref osA, iv hsn, .ref hdA, .ref spA, .ref bfA, .ref lnA, .ref prA, iv ep, .ref rq]))] : va_W) ++ ([(rq, .inr (5, [pv0, pv1, pv2, pv3, pv4, pv5, iv wr, iv wd, .ref rq2]))] : va_W) ++ ([(rq2, .inr (5, [pw0, pw1, pw2, pw3, pw4, pw5, iv ws, iv wt, .null]))] : va_W)) := hD
    exact n_out () (by exact absurd hCx.2 (by intro h9; cases h9)) hP hD hS hxf (Nat.le_trans hz_2 hq9) hce hcv hcl (fun x hx9 => (htb x hx9).elim) hlocks (Nat.le_of_ble_eq_true rfl) (Nat.le_of_ble_eq_true rfl)
  · intro u_3 H locs hC hP hD hS
    have hu_3 : (some rq) = some u_3 := hC
    have hP : va_P E.1 CL (([(cw, .inr (1, [.ref stA, .ref oaA, .ref osA, iv hsn, .ref hdA, .ref spA, .ref bfA, .ref lnA, .ref prA, iv ep, .ref rq]))] : va_W) ++ ([(rq, .inr (5, [pv0, pv1, pv2, pv3, pv4, pv5, iv wr, iv wd, .ref rq2]))] : va_W) ++ ([(rq2, .inr (5, [pw0, pw1, pw2, pw3, pw4, pw5, iv ws, iv wt, .null]))] : va_W)) H := hP
    have hD : va_D A (([(cw, .inr (1, [.ref stA, .ref oaA, .ref osA, iv hsn, .ref hdA, .ref spA, .ref bfA, .ref lnA, .ref prA, iv ep, .ref rq]))] : va_W) ++ ([(rq, .inr (5, [pv0, pv1, pv2, pv3, pv4, pv5, iv wr, iv wd, .ref rq2]))] : va_W) ++ ([(rq2, .inr (5, [pw0, pw1, pw2, pw3, pw4, pw5, iv ws, iv wt, .null]))] : va_W)) := hD
    obtain rfl := Option.some.inj hu_3
    skip
    refine va_getN (D := E.1) (ci := 5) (v := iv wr) (C := RX6) (T := TX6) (N := 9) hx hb hts in_X6 hown hK.1 hP 1 rfl rfl 6 (by decide) (hK.nw q835) (fun _ h9 => h9) rfl dX1_refusalReason_4 ?_
    refine vx_ret ?_
    refine W.widen (k := 1) (n := 6) (Nat.le_of_ble_eq_true rfl) (Nat.le_of_ble_eq_true rfl) ?_
    exact W.iret (v := iI wr) hx hb hr (fun tt_ ht_ hW_ => ⟨⟨iI wr, (), rfl, ⟨by unfold c_zero; rw [if_neg (by omega)], rfl⟩, by rw [ht_]; exact hP, hD⟩, hS.F ht_⟩) hS.2.2 dX1_refusalReason_7
set_option maxHeartbeats 1000000 in
set_option maxRecDepth 100000 in
theorem mt_X1_refusalDetail_a (l : Launch) (E : EE) (cw : Nat) (stA : Nat) (oaA : Nat) (osA : Nat) (hsn : Int) (hdA : Nat) (spA : Nat) (bfA : Nat) (lnA : Nat) (prA : Nat) (ep : Int) (hst : l.stackTraces = false) (sz : Nat) : vx_Met l yX1_refusalDetail (ws_ yX1_refusalDetail cX1_refusalDetail 1 (some .int)) { frames := 9, cells := 1, slots := 6, locals := 200 } (va_Pc [.ref cw] (UX E ([(cw, .inr (1, [.ref stA, .ref oaA, .ref osA, iv hsn, .ref hdA, .ref spA, .ref bfA, .ref lnA, .ref prA, iv ep, .null]))]) sz)) (UQx E (fun u : Unit => c_zero (0 : Int) = 0) (fun u : Unit => (0 : Int)) (fun u : Unit => [(cw, .inr (1, [.ref stA, .ref oaA, .ref osA, iv hsn, .ref hdA, .ref spA, .ref bfA, .ref lnA, .ref prA, iv ep, .null]))]) (va_A ([(cw, .inr (1, [.ref stA, .ref oaA, .ref osA, iv hsn, .ref hdA, .ref spA, .ref bfA, .ref lnA, .ref prA, iv ep, .null]))]) sz)) (UXx E (fun (En : String) (u : Unit) => En = "java/util/NoSuchElementException" ∧ c_zero (0 : Int) = 1) (fun u : Unit => [(cw, .inr (1, [.ref stA, .ref oaA, .ref osA, iv hsn, .ref hdA, .ref spA, .ref bfA, .ref lnA, .ref prA, iv ep, .null]))]) (fun u : Unit => none) (va_A ([(cw, .inr (1, [.ref stA, .ref oaA, .ref osA, iv hsn, .ref hdA, .ref spA, .ref bfA, .ref lnA, .ref prA, iv ep, .null]))]) sz)) 1 6 (va_A ([(cw, .inr (1, [.ref stA, .ref oaA, .ref osA, iv hsn, .ref hdA, .ref spA, .ref bfA, .ref lnA, .ref prA, iv ep, .null]))]) sz) := by
  refine vx_ofW (cc := cX1_refusalDetail) (maxL := 1) (ret := (some .int)) (by decide) rfl ?_
  intro p e s m args below meth c s₁ B hml htb hv
  obtain ⟨rfl, hsz, hP, hK, hD0, hE⟩ := hv
  have hx := B.exec
  have hb := B.bytes
  have hr := B.returns
  have hts := atoms_spec (ws := (ws_ yX1_refusalDetail cX1_refusalDetail 1 (some .int))) B.pre
  have hts : ∀ w ∈ lw_all, w.before _ s = true := fun w h => hts w (List.mem_cons_of_mem _ h)
  have hown : s.vm.findClass RX1 = some m.cls := findClass_of_methodNamed B.named
  have hlocks := B.notSynchronized
  subst hsz
  have hD := hD0.self (sz := s.heap.size)
  generalize hAe : va_A ([(cw, .inr (1, [.ref stA, .ref oaA, .ref osA, iv hsn, .ref hdA, .ref spA, .ref bfA, .ref lnA, .ref prA, iv ep, .null]))]) s.heap.size = A at hD hE ⊢
  have hA : ∀ q : Nat, s.heap.size ≤ q → A q := fun q h => by rw [← hAe]; exact Or.inr h
  have hS : va_S A s.heap s.heap [] := va_S.rf
  have hl := lv_entry ([.ref cw]) (n := 1) (Nat.le_of_ble_eq_true rfl)
  rw [lg_entry_eq]
  generalize (lg_sl ([.ref cw]) ++ List.replicate (1 - (lg_sl ([.ref cw])).length) Slot.unset).toArray = ls at hl ⊢
  have hl : lv_has ls 1 [(0, .ref cw)] := hl
  refine lv_aload_n hx hb dX1_refusalDetail_0 rfl (lv_at hl 0 rfl) ?_
  have hg_1 : gpick [[(cw, .inr (1, [.ref stA, .ref oaA, .ref osA, iv hsn, .ref hdA, .ref spA, .ref bfA, .ref lnA, .ref prA, iv ep, .null]))]] ([[(cw, .inr (1, [.ref stA, .ref oaA, .ref osA, iv hsn, .ref hdA, .ref spA, .ref bfA, .ref lnA, .ref prA, iv ep, .null]))]] ++ []) [0] := ⟨rfl, (show List.Perm [0] (List.range 1) from by decide)⟩
  have hg_1P : va_P E.1 CL ([(cw, .inr (1, [.ref stA, .ref oaA, .ref osA, iv hsn, .ref hdA, .ref spA, .ref bfA, .ref lnA, .ref prA, iv ep, .null]))]) s.heap := (g_out hg_1 hP hD).1
  have hg_1D : va_D A ([(cw, .inr (1, [.ref stA, .ref oaA, .ref osA, iv hsn, .ref hdA, .ref spA, .ref bfA, .ref lnA, .ref prA, iv ep, .null]))]) := (g_out hg_1 hP hD).2
  have hg_1F : ∀ q, va_A ([(cw, .inr (1, [.ref stA, .ref oaA, .ref osA, iv hsn, .ref hdA, .ref spA, .ref bfA, .ref lnA, .ref prA, iv ep, .null]))]) s.heap.size q → A q := g_free hg_1 hP hD hS hA
  have hz_2 : s.heap.size ≤ s.heap.size := hS.1
  have hj_5 : ∀ u_3 : Nat, gpick ([[(cw, .inr (1, [.ref stA, .ref oaA, .ref osA, iv hsn, .ref hdA, .ref spA, .ref bfA, .ref lnA, .ref prA, iv ep, .null]))]] ++ []) [[(cw, .inr (1, [.ref stA, .ref oaA, .ref osA, iv hsn, .ref hdA, .ref spA, .ref bfA, .ref lnA, .ref prA, iv ep, .null]))]] [0] := fun u_3 => ⟨rfl, (show List.Perm [0] (List.range 1) from by decide)⟩
  have hj_6 : ∀ u_4 : Unit, gpick ([[(cw, .inr (1, [.ref stA, .ref oaA, .ref osA, iv hsn, .ref hdA, .ref spA, .ref bfA, .ref lnA, .ref prA, iv ep, .null]))]] ++ []) [[(cw, .inr (1, [.ref stA, .ref oaA, .ref osA, iv hsn, .ref hdA, .ref spA, .ref bfA, .ref lnA, .ref prA, iv ep, .null]))]] [0] := fun u_4 => ⟨rfl, (show List.Perm [0] (List.range 1) from by decide)⟩
  refine n_txyB (y := fun u_3 => .ref u_3) (w2 := fun u_3 => [(cw, .inr (1, [.ref stA, .ref oaA, .ref osA, iv hsn, .ref hdA, .ref spA, .ref bfA, .ref lnA, .ref prA, iv ep, .null]))]) (w3 := fun u_4 => [(cw, .inr (1, [.ref stA, .ref oaA, .ref osA, iv hsn, .ref hdA, .ref spA, .ref bfA, .ref lnA, .ref prA, iv ep, .null]))]) (vx_runV (As := []) (rest := []) ⟨hx, hb, hml, hown, hts⟩ (mt_X1_refusal l E cw stA oaA osA hsn hdA spA bfA lnA prA ep none  (by exact hst) _) (cwV 0 hts (lw_V q1385 q1387 qs22 q94 q1388) rfl rfl rfl (by decide +kernel) ⟨Nat.le_of_ble_eq_true rfl, Nat.le_of_ble_eq_true rfl⟩) (UX_V hg_1P hK (hg_1D) hE hS hg_1F (va_recv hK.1 hP (ci := 1) (q0 := 0) rfl rfl)) rfl rfl hl.1 rfl (lv_room (Nat.le_of_ble_eq_true rfl)) dX1_refusalDetail_1 ⟨Nat.le_of_ble_eq_true rfl, Nat.le_of_ble_eq_true rfl⟩) hS hg_1F ?_ ?_ ?_ ?_
  · exact (fun u_3 _ hk9 hp9 hd9 => g_back hg_1 (hj_5 u_3) hP hD hg_1F hk9 hp9 hd9)
  · exact (fun u_4 _ hk9 hp9 hd9 => g_back hg_1 (hj_6 u_4) hP hD hg_1F hk9 hp9 hd9)
  · intro En ce q9 u_4 H locs hCx hP hD hS hxf hq9 hce hcv hcl
    have hCx : En = "java/util/NoSuchElementException" ∧ none = none := hCx
    have hP : va_P E.1 CL ([(cw, .inr (1, [.ref stA, .ref oaA, .ref osA, iv hsn, .ref hdA, .ref spA, .ref bfA, .ref lnA, .ref prA, iv ep, .null]))]) H := hP
    have hD : va_D A ([(cw, .inr (1, [.ref stA, .ref oaA, .ref osA, iv hsn, .ref hdA, .ref spA, .ref bfA, .ref lnA, .ref prA, iv ep, .null]))]) := hD
    exact n_out () (by exact ⟨hCx.1, rfl⟩) hP hD hS hxf (Nat.le_trans hz_2 hq9) hce hcv hcl (fun x hx9 => (htb x hx9).elim) hlocks (Nat.le_of_ble_eq_true rfl) (Nat.le_of_ble_eq_true rfl)
  · intro u_3 H locs hC hP hD hS
    have hu_3 : none = some u_3 := hC
    have hP : va_P E.1 CL ([(cw, .inr (1, [.ref stA, .ref oaA, .ref osA, iv hsn, .ref hdA, .ref spA, .ref bfA, .ref lnA, .ref prA, iv ep, .null]))]) H := hP
    have hD : va_D A ([(cw, .inr (1, [.ref stA, .ref oaA, .ref osA, iv hsn, .ref hdA, .ref spA, .ref bfA, .ref lnA, .ref prA, iv ep, .null]))]) := hD
    exact absurd hu_3 (by intro h9; cases h9)
set_option maxHeartbeats 1000000 in
set_option maxRecDepth 100000 in
theorem mt_X1_refusalDetail_b (l : Launch) (E : EE) (cw : Nat) (stA : Nat) (oaA : Nat) (osA : Nat) (hsn : Int) (hdA : Nat) (spA : Nat) (bfA : Nat) (lnA : Nat) (prA : Nat) (ep : Int) (rq : Nat) (pv0 : Value) (pv1 : Value) (pv2 : Value) (pv3 : Value) (pv4 : Value) (pv5 : Value) (wr : Int) (wd : Int) (hst : l.stackTraces = false) (hwr : 0 < wr ∧ wr < 100) (hwd : -2147483648 ≤ wd ∧ wd < 2147483648) (sz : Nat) : vx_Met l yX1_refusalDetail (ws_ yX1_refusalDetail cX1_refusalDetail 1 (some .int)) { frames := 9, cells := 1, slots := 6, locals := 200 } (va_Pc [.ref cw] (UX E (([(cw, .inr (1, [.ref stA, .ref oaA, .ref osA, iv hsn, .ref hdA, .ref spA, .ref bfA, .ref lnA, .ref prA, iv ep, .ref rq]))] : va_W) ++ ([(rq, .inr (5, [pv0, pv1, pv2, pv3, pv4, pv5, iv wr, iv wd, .null]))] : va_W)) sz)) (UQx E (fun u : Unit => c_zero wr = 0) (fun u : Unit => wd) (fun u : Unit => ([(cw, .inr (1, [.ref stA, .ref oaA, .ref osA, iv hsn, .ref hdA, .ref spA, .ref bfA, .ref lnA, .ref prA, iv ep, .ref rq]))] : va_W) ++ ([(rq, .inr (5, [pv0, pv1, pv2, pv3, pv4, pv5, iv wr, iv wd, .null]))] : va_W)) (va_A (([(cw, .inr (1, [.ref stA, .ref oaA, .ref osA, iv hsn, .ref hdA, .ref spA, .ref bfA, .ref lnA, .ref prA, iv ep, .ref rq]))] : va_W) ++ ([(rq, .inr (5, [pv0, pv1, pv2, pv3, pv4, pv5, iv wr, iv wd, .null]))] : va_W)) sz)) (UXx E (fun (En : String) (u : Unit) => En = "java/util/NoSuchElementException" ∧ c_zero wr = 1) (fun u : Unit => ([(cw, .inr (1, [.ref stA, .ref oaA, .ref osA, iv hsn, .ref hdA, .ref spA, .ref bfA, .ref lnA, .ref prA, iv ep, .ref rq]))] : va_W) ++ ([(rq, .inr (5, [pv0, pv1, pv2, pv3, pv4, pv5, iv wr, iv wd, .null]))] : va_W)) (fun u : Unit => none) (va_A (([(cw, .inr (1, [.ref stA, .ref oaA, .ref osA, iv hsn, .ref hdA, .ref spA, .ref bfA, .ref lnA, .ref prA, iv ep, .ref rq]))] : va_W) ++ ([(rq, .inr (5, [pv0, pv1, pv2, pv3, pv4, pv5, iv wr, iv wd, .null]))] : va_W)) sz)) 1 6 (va_A (([(cw, .inr (1, [.ref stA, .ref oaA, .ref osA, iv hsn, .ref hdA, .ref spA, .ref bfA, .ref lnA, .ref prA, iv ep, .ref rq]))] : va_W) ++ ([(rq, .inr (5, [pv0, pv1, pv2, pv3, pv4, pv5, iv wr, iv wd, .null]))] : va_W)) sz) := by
  refine vx_ofW (cc := cX1_refusalDetail) (maxL := 1) (ret := (some .int)) (by decide) rfl ?_
  intro p e s m args below meth c s₁ B hml htb hv
  obtain ⟨rfl, hsz, hP, hK, hD0, hE⟩ := hv
  have hx := B.exec
  have hb := B.bytes
  have hr := B.returns
  have hts := atoms_spec (ws := (ws_ yX1_refusalDetail cX1_refusalDetail 1 (some .int))) B.pre
  have hts : ∀ w ∈ lw_all, w.before _ s = true := fun w h => hts w (List.mem_cons_of_mem _ h)
  have hown : s.vm.findClass RX1 = some m.cls := findClass_of_methodNamed B.named
  have hlocks := B.notSynchronized
  subst hsz
  have hD := hD0.self (sz := s.heap.size)
  generalize hAe : va_A (([(cw, .inr (1, [.ref stA, .ref oaA, .ref osA, iv hsn, .ref hdA, .ref spA, .ref bfA, .ref lnA, .ref prA, iv ep, .ref rq]))] : va_W) ++ ([(rq, .inr (5, [pv0, pv1, pv2, pv3, pv4, pv5, iv wr, iv wd, .null]))] : va_W)) s.heap.size = A at hD hE ⊢
  have hA : ∀ q : Nat, s.heap.size ≤ q → A q := fun q h => by rw [← hAe]; exact Or.inr h
  have hS : va_S A s.heap s.heap [] := va_S.rf
  have hl := lv_entry ([.ref cw]) (n := 1) (Nat.le_of_ble_eq_true rfl)
  rw [lg_entry_eq]
  generalize (lg_sl ([.ref cw]) ++ List.replicate (1 - (lg_sl ([.ref cw])).length) Slot.unset).toArray = ls at hl ⊢
  have hl : lv_has ls 1 [(0, .ref cw)] := hl
  refine lv_aload_n hx hb dX1_refusalDetail_0 rfl (lv_at hl 0 rfl) ?_
  have hg_1 : gpick [[(cw, .inr (1, [.ref stA, .ref oaA, .ref osA, iv hsn, .ref hdA, .ref spA, .ref bfA, .ref lnA, .ref prA, iv ep, .ref rq]))], [(rq, .inr (5, [pv0, pv1, pv2, pv3, pv4, pv5, iv wr, iv wd, .null]))]] ([[(cw, .inr (1, [.ref stA, .ref oaA, .ref osA, iv hsn, .ref hdA, .ref spA, .ref bfA, .ref lnA, .ref prA, iv ep, .ref rq]))]] ++ [[(rq, .inr (5, [pv0, pv1, pv2, pv3, pv4, pv5, iv wr, iv wd, .null]))]]) [0, 1] := ⟨rfl, (show List.Perm [0, 1] (List.range 2) from by decide)⟩
  have hg_1P : va_P E.1 CL ([(cw, .inr (1, [.ref stA, .ref oaA, .ref osA, iv hsn, .ref hdA, .ref spA, .ref bfA, .ref lnA, .ref prA, iv ep, .ref rq]))]) s.heap := (g_out hg_1 hP hD).1
  have hg_1D : va_D A ([(cw, .inr (1, [.ref stA, .ref oaA, .ref osA, iv hsn, .ref hdA, .ref spA, .ref bfA, .ref lnA, .ref prA, iv ep, .ref rq]))]) := (g_out hg_1 hP hD).2
  have hg_1F : ∀ q, va_A ([(cw, .inr (1, [.ref stA, .ref oaA, .ref osA, iv hsn, .ref hdA, .ref spA, .ref bfA, .ref lnA, .ref prA, iv ep, .ref rq]))]) s.heap.size q → A q := g_free hg_1 hP hD hS hA
  have hz_2 : s.heap.size ≤ s.heap.size := hS.1
  have hj_5 : ∀ u_3 : Nat, gpick ([[(cw, .inr (1, [.ref stA, .ref oaA, .ref osA, iv hsn, .ref hdA, .ref spA, .ref bfA, .ref lnA, .ref prA, iv ep, .ref rq]))]] ++ [[(rq, .inr (5, [pv0, pv1, pv2, pv3, pv4, pv5, iv wr, iv wd, .null]))]]) [[(cw, .inr (1, [.ref stA, .ref oaA, .ref osA, iv hsn, .ref hdA, .ref spA, .ref bfA, .ref lnA, .ref prA, iv ep, .ref rq]))], [(rq, .inr (5, [pv0, pv1, pv2, pv3, pv4, pv5, iv wr, iv wd, .null]))]] [0, 1] := fun u_3 => ⟨rfl, (show List.Perm [0, 1] (List.range 2) from by decide)⟩
  have hj_6 : ∀ u_4 : Unit, gpick ([[(cw, .inr (1, [.ref stA, .ref oaA, .ref osA, iv hsn, .ref hdA, .ref spA, .ref bfA, .ref lnA, .ref prA, iv ep, .ref rq]))]] ++ [[(rq, .inr (5, [pv0, pv1, pv2, pv3, pv4, pv5, iv wr, iv wd, .null]))]]) [[(cw, .inr (1, [.ref stA, .ref oaA, .ref osA, iv hsn, .ref hdA, .ref spA, .ref bfA, .ref lnA, .ref prA, iv ep, .ref rq]))], [(rq, .inr (5, [pv0, pv1, pv2, pv3, pv4, pv5, iv wr, iv wd, .null]))]] [0, 1] := fun u_4 => ⟨rfl, (show List.Perm [0, 1] (List.range 2) from by decide)⟩
  refine n_txyB (y := fun u_3 => .ref u_3) (w2 := fun u_3 => ([(cw, .inr (1, [.ref stA, .ref oaA, .ref osA, iv hsn, .ref hdA, .ref spA, .ref bfA, .ref lnA, .ref prA, iv ep, .ref rq]))] : va_W) ++ ([(rq, .inr (5, [pv0, pv1, pv2, pv3, pv4, pv5, iv wr, iv wd, .null]))] : va_W)) (w3 := fun u_4 => ([(cw, .inr (1, [.ref stA, .ref oaA, .ref osA, iv hsn, .ref hdA, .ref spA, .ref bfA, .ref lnA, .ref prA, iv ep, .ref rq]))] : va_W) ++ ([(rq, .inr (5, [pv0, pv1, pv2, pv3, pv4, pv5, iv wr, iv wd, .null]))] : va_W)) (vx_runV (As := []) (rest := []) ⟨hx, hb, hml, hown, hts⟩ (mt_X1_refusal l E cw stA oaA osA hsn hdA spA bfA lnA prA ep (some rq)  (by exact hst) _) (cwV 0 hts (lw_V q1385 q1387 qs22 q94 q1388) rfl rfl rfl (by decide +kernel) ⟨Nat.le_of_ble_eq_true rfl, Nat.le_of_ble_eq_true rfl⟩) (UX_V hg_1P hK (hg_1D) hE hS hg_1F (va_recv hK.1 hP (ci := 1) (q0 := 0) rfl rfl)) rfl rfl hl.1 rfl (lv_room (Nat.le_of_ble_eq_true rfl)) dX1_refusalDetail_1 ⟨Nat.le_of_ble_eq_true rfl, Nat.le_of_ble_eq_true rfl⟩) hS hg_1F ?_ ?_ ?_ ?_
  · exact (fun u_3 _ hk9 hp9 hd9 => g_back hg_1 (hj_5 u_3) hP hD hg_1F hk9 hp9 hd9)
  · exact (fun u_4 _ hk9 hp9 hd9 => g_back hg_1 (hj_6 u_4) hP hD hg_1F hk9 hp9 hd9)
  · intro En ce q9 u_4 H locs hCx hP hD hS hxf hq9 hce hcv hcl
    have hCx : En = "java/util/NoSuchElementException" ∧ (some rq) = none := hCx
    have hP : va_P E.1 CL (([(cw, .inr (1, [.ref stA, .ref oaA, .ref osA, iv hsn, .ref hdA, .ref spA, .ref bfA, .ref lnA, .ref prA, iv ep, .ref rq]))] : va_W) ++ ([(rq, .inr (5, [pv0, pv1, pv2, pv3, pv4, pv5, iv wr, iv wd, .null]))] : va_W)) H := hP
    have hD : va_D A (([(cw, .inr (1, [.ref stA, .ref oaA, .ref osA, iv hsn, .ref hdA, .ref spA, .ref bfA, .ref lnA, .ref prA, iv ep, .ref rq]))] : va_W) ++ ([(rq, .inr (5, [pv0, pv1, pv2, pv3, pv4, pv5, iv wr, iv wd, .null]))] : va_W)) := hD
    exact n_out () (by exact absurd hCx.2 (by intro h9; cases h9)) hP hD hS hxf (Nat.le_trans hz_2 hq9) hce hcv hcl (fun x hx9 => (htb x hx9).elim) hlocks (Nat.le_of_ble_eq_true rfl) (Nat.le_of_ble_eq_true rfl)
  · intro u_3 H locs hC hP hD hS
    have hu_3 : (some rq) = some u_3 := hC
    have hP : va_P E.1 CL (([(cw, .inr (1, [.ref stA, .ref oaA, .ref osA, iv hsn, .ref hdA, .ref spA, .ref bfA, .ref lnA, .ref prA, iv ep, .ref rq]))] : va_W) ++ ([(rq, .inr (5, [pv0, pv1, pv2, pv3, pv4, pv5, iv wr, iv wd, .null]))] : va_W)) H := hP
    have hD : va_D A (([(cw, .inr (1, [.ref stA, .ref oaA, .ref osA, iv hsn, .ref hdA, .ref spA, .ref bfA, .ref lnA, .ref prA, iv ep, .ref rq]))] : va_W) ++ ([(rq, .inr (5, [pv0, pv1, pv2, pv3, pv4, pv5, iv wr, iv wd, .null]))] : va_W)) := hD
    obtain rfl := Option.some.inj hu_3
    skip
    refine va_getN (D := E.1) (ci := 5) (v := iv wd) (C := RX6) (T := TX6) (N := 9) hx hb hts in_X6 hown hK.1 hP 1 rfl rfl 7 (by decide) (hK.nw q837) (fun _ h9 => h9) rfl dX1_refusalDetail_4 ?_
    refine vx_ret ?_
    refine W.widen (k := 1) (n := 6) (Nat.le_of_ble_eq_true rfl) (Nat.le_of_ble_eq_true rfl) ?_
    exact W.iret (v := iI wd) hx hb hr (fun tt_ ht_ hW_ => ⟨⟨iI wd, (), rfl, ⟨by unfold c_zero; rw [if_neg (by omega)], rfl⟩, by rw [ht_]; exact hP, hD⟩, hS.F ht_⟩) hS.2.2 dX1_refusalDetail_7
set_option maxHeartbeats 1000000 in
set_option maxRecDepth 100000 in
theorem mt_X1_refusalDetail_c (l : Launch) (E : EE) (cw : Nat) (stA : Nat) (oaA : Nat) (osA : Nat) (hsn : Int) (hdA : Nat) (spA : Nat) (bfA : Nat) (lnA : Nat) (prA : Nat) (ep : Int) (rq : Nat) (pv0 : Value) (pv1 : Value) (pv2 : Value) (pv3 : Value) (pv4 : Value) (pv5 : Value) (wr : Int) (wd : Int) (rq2 : Nat) (pw0 : Value) (pw1 : Value) (pw2 : Value) (pw3 : Value) (pw4 : Value) (pw5 : Value) (ws : Int) (wt : Int) (hst : l.stackTraces = false) (hwr : 0 < wr ∧ wr < 100) (hwd : -2147483648 ≤ wd ∧ wd < 2147483648) (hws : 0 < ws ∧ ws < 100) (sz : Nat) : vx_Met l yX1_refusalDetail (ws_ yX1_refusalDetail cX1_refusalDetail 1 (some .int)) { frames := 9, cells := 1, slots := 6, locals := 200 } (va_Pc [.ref cw] (UX E (([(cw, .inr (1, [.ref stA, .ref oaA, .ref osA, iv hsn, .ref hdA, .ref spA, .ref bfA, .ref lnA, .ref prA, iv ep, .ref rq]))] : va_W) ++ ([(rq, .inr (5, [pv0, pv1, pv2, pv3, pv4, pv5, iv wr, iv wd, .ref rq2]))] : va_W) ++ ([(rq2, .inr (5, [pw0, pw1, pw2, pw3, pw4, pw5, iv ws, iv wt, .null]))] : va_W)) sz)) (UQx E (fun u : Unit => c_zero wr = 0) (fun u : Unit => wd) (fun u : Unit => ([(cw, .inr (1, [.ref stA, .ref oaA, .ref osA, iv hsn, .ref hdA, .ref spA, .ref bfA, .ref lnA, .ref prA, iv ep, .ref rq]))] : va_W) ++ ([(rq, .inr (5, [pv0, pv1, pv2, pv3, pv4, pv5, iv wr, iv wd, .ref rq2]))] : va_W) ++ ([(rq2, .inr (5, [pw0, pw1, pw2, pw3, pw4, pw5, iv ws, iv wt, .null]))] : va_W)) (va_A (([(cw, .inr (1, [.ref stA, .ref oaA, .ref osA, iv hsn, .ref hdA, .ref spA, .ref bfA, .ref lnA, .ref prA, iv ep, .ref rq]))] : va_W) ++ ([(rq, .inr (5, [pv0, pv1, pv2, pv3, pv4, pv5, iv wr, iv wd, .ref rq2]))] : va_W) ++ ([(rq2, .inr (5, [pw0, pw1, pw2, pw3, pw4, pw5, iv ws, iv wt, .null]))] : va_W)) sz)) (UXx E (fun (En : String) (u : Unit) => En = "java/util/NoSuchElementException" ∧ c_zero wr = 1) (fun u : Unit => ([(cw, .inr (1, [.ref stA, .ref oaA, .ref osA, iv hsn, .ref hdA, .ref spA, .ref bfA, .ref lnA, .ref prA, iv ep, .ref rq]))] : va_W) ++ ([(rq, .inr (5, [pv0, pv1, pv2, pv3, pv4, pv5, iv wr, iv wd, .ref rq2]))] : va_W) ++ ([(rq2, .inr (5, [pw0, pw1, pw2, pw3, pw4, pw5, iv ws, iv wt, .null]))] : va_W)) (fun u : Unit => none) (va_A (([(cw, .inr (1, [.ref stA, .ref oaA, .ref osA, iv hsn, .ref hdA, .ref spA, .ref bfA, .ref lnA, .ref prA, iv ep, .ref rq]))] : va_W) ++ ([(rq, .inr (5, [pv0, pv1, pv2, pv3, pv4, pv5, iv wr, iv wd, .ref rq2]))] : va_W) ++ ([(rq2, .inr (5, [pw0, pw1, pw2, pw3, pw4, pw5, iv ws, iv wt, .null]))] : va_W)) sz)) 1 6 (va_A (([(cw, .inr (1, [.ref stA, .ref oaA, .ref osA, iv hsn, .ref hdA, .ref spA, .ref bfA, .ref lnA, .ref prA, iv ep, .ref rq]))] : va_W) ++ ([(rq, .inr (5, [pv0, pv1, pv2, pv3, pv4, pv5, iv wr, iv wd, .ref rq2]))] : va_W) ++ ([(rq2, .inr (5, [pw0, pw1, pw2, pw3, pw4, pw5, iv ws, iv wt, .null]))] : va_W)) sz) := by
  refine vx_ofW (cc := cX1_refusalDetail) (maxL := 1) (ret := (some .int)) (by decide) rfl ?_
  intro p e s m args below meth c s₁ B hml htb hv
  obtain ⟨rfl, hsz, hP, hK, hD0, hE⟩ := hv
  have hx := B.exec
  have hb := B.bytes
  have hr := B.returns
  have hts := atoms_spec (ws := (ws_ yX1_refusalDetail cX1_refusalDetail 1 (some .int))) B.pre
  have hts : ∀ w ∈ lw_all, w.before _ s = true := fun w h => hts w (List.mem_cons_of_mem _ h)
  have hown : s.vm.findClass RX1 = some m.cls := findClass_of_methodNamed B.named
  have hlocks := B.notSynchronized
  subst hsz
  have hD := hD0.self (sz := s.heap.size)
  generalize hAe : va_A (([(cw, .inr (1, [.ref stA, .ref oaA, .ref osA, iv hsn, .ref hdA, .ref spA, .ref bfA, .ref lnA, .ref prA, iv ep, .ref rq]))] : va_W) ++ ([(rq, .inr (5, [pv0, pv1, pv2, pv3, pv4, pv5, iv wr, iv wd, .ref rq2]))] : va_W) ++ ([(rq2, .inr (5, [pw0, pw1, pw2, pw3, pw4, pw5, iv ws, iv wt, .null]))] : va_W)) s.heap.size = A at hD hE ⊢
  have hA : ∀ q : Nat, s.heap.size ≤ q → A q := fun q h => by rw [← hAe]; exact Or.inr h
  have hS : va_S A s.heap s.heap [] := va_S.rf
  have hl := lv_entry ([.ref cw]) (n := 1) (Nat.le_of_ble_eq_true rfl)
  rw [lg_entry_eq]
  generalize (lg_sl ([.ref cw]) ++ List.replicate (1 - (lg_sl ([.ref cw])).length) Slot.unset).toArray = ls at hl ⊢
  have hl : lv_has ls 1 [(0, .ref cw)] := hl
  refine lv_aload_n hx hb dX1_refusalDetail_0 rfl (lv_at hl 0 rfl) ?_
  have hg_1 : gpick [[(cw, .inr (1, [.ref stA, .ref oaA, .ref osA, iv hsn, .ref hdA, .ref spA, .ref bfA, .ref lnA, .ref prA, iv ep, .ref rq]))], [(rq, .inr (5, [pv0, pv1, pv2, pv3, pv4, pv5, iv wr, iv wd, .ref rq2]))], [(rq2, .inr (5, [pw0, pw1, pw2, pw3, pw4, pw5, iv ws, iv wt, .null]))]] ([[(cw, .inr (1, [.ref stA, .ref oaA, .ref osA, iv hsn, .ref hdA, .ref spA, .ref bfA, .ref lnA, .ref prA, iv ep, .ref rq]))]] ++ [[(rq, .inr (5, [pv0, pv1, pv2, pv3, pv4, pv5, iv wr, iv wd, .ref rq2]))], [(rq2, .inr (5, [pw0, pw1, pw2, pw3, pw4, pw5, iv ws, iv wt, .null]))]]) [0, 1, 2] := ⟨rfl, (show List.Perm [0, 1, 2] (List.range 3) from by decide)⟩
  have hg_1P : va_P E.1 CL ([(cw, .inr (1, [.ref stA, .ref oaA, .ref osA, iv hsn, .ref hdA, .ref spA, .ref bfA, .ref lnA, .ref prA, iv ep, .ref rq]))]) s.heap := (g_out hg_1 hP hD).1
  have hg_1D : va_D A ([(cw, .inr (1, [.ref stA, .ref oaA, .ref osA, iv hsn, .ref hdA, .ref spA, .ref bfA, .ref lnA, .ref prA, iv ep, .ref rq]))]) := (g_out hg_1 hP hD).2
  have hg_1F : ∀ q, va_A ([(cw, .inr (1, [.ref stA, .ref oaA, .ref osA, iv hsn, .ref hdA, .ref spA, .ref bfA, .ref lnA, .ref prA, iv ep, .ref rq]))]) s.heap.size q → A q := g_free hg_1 hP hD hS hA
  have hz_2 : s.heap.size ≤ s.heap.size := hS.1
  have hj_5 : ∀ u_3 : Nat, gpick ([[(cw, .inr (1, [.ref stA, .ref oaA, .ref osA, iv hsn, .ref hdA, .ref spA, .ref bfA, .ref lnA, .ref prA, iv ep, .ref rq]))]] ++ [[(rq, .inr (5, [pv0, pv1, pv2, pv3, pv4, pv5, iv wr, iv wd, .ref rq2]))], [(rq2, .inr (5, [pw0, pw1, pw2, pw3, pw4, pw5, iv ws, iv wt, .null]))]]) [[(cw, .inr (1, [.ref stA, .ref oaA, .ref osA, iv hsn, .ref hdA, .ref spA, .ref bfA, .ref lnA, .ref prA, iv ep, .ref rq]))], [(rq, .inr (5, [pv0, pv1, pv2, pv3, pv4, pv5, iv wr, iv wd, .ref rq2]))], [(rq2, .inr (5, [pw0, pw1, pw2, pw3, pw4, pw5, iv ws, iv wt, .null]))]] [0, 1, 2] := fun u_3 => ⟨rfl, (show List.Perm [0, 1, 2] (List.range 3) from by decide)⟩
  have hj_6 : ∀ u_4 : Unit, gpick ([[(cw, .inr (1, [.ref stA, .ref oaA, .ref osA, iv hsn, .ref hdA, .ref spA, .ref bfA, .ref lnA, .ref prA, iv ep, .ref rq]))]] ++ [[(rq, .inr (5, [pv0, pv1, pv2, pv3, pv4, pv5, iv wr, iv wd, .ref rq2]))], [(rq2, .inr (5, [pw0, pw1, pw2, pw3, pw4, pw5, iv ws, iv wt, .null]))]]) [[(cw, .inr (1, [.ref stA, .ref oaA, .ref osA, iv hsn, .ref hdA, .ref spA, .ref bfA, .ref lnA, .ref prA, iv ep, .ref rq]))], [(rq, .inr (5, [pv0, pv1, pv2, pv3, pv4, pv5, iv wr, iv wd, .ref rq2]))], [(rq2, .inr (5, [pw0, pw1, pw2, pw3, pw4, pw5, iv ws, iv wt, .null]))]] [0, 1, 2] := fun u_4 => ⟨rfl, (show List.Perm [0, 1, 2] (List.range 3) from by decide)⟩
  refine n_txyB (y := fun u_3 => .ref u_3) (w2 := fun u_3 => ([(cw, .inr (1, [.ref stA, .ref oaA, .ref osA, iv hsn, .ref hdA, .ref spA, .ref bfA, .ref lnA, .ref prA, iv ep, .ref rq]))] : va_W) ++ ([(rq, .inr (5, [pv0, pv1, pv2, pv3, pv4, pv5, iv wr, iv wd, .ref rq2]))] : va_W) ++ ([(rq2, .inr (5, [pw0, pw1, pw2, pw3, pw4, pw5, iv ws, iv wt, .null]))] : va_W)) (w3 := fun u_4 => ([(cw, .inr (1, [.ref stA, .ref oaA, .ref osA, iv hsn, .ref hdA, .ref spA, .ref bfA, .ref lnA, .ref prA, iv ep, .ref rq]))] : va_W) ++ ([(rq, .inr (5, [pv0, pv1, pv2, pv3, pv4, pv5, iv wr, iv wd, .ref rq2]))] : va_W) ++ ([(rq2, .inr (5, [pw0, pw1, pw2, pw3, pw4, pw5, iv ws, iv wt, .null]))] : va_W)) (vx_runV (As := []) (rest := []) ⟨hx, hb, hml, hown, hts⟩ (mt_X1_refusal l E cw stA oaA osA hsn hdA spA bfA lnA prA ep (some rq)  (by exact hst) _) (cwV 0 hts (lw_V q1385 q1387 qs22 q94 q1388) rfl rfl rfl (by decide +kernel) ⟨Nat.le_of_ble_eq_true rfl, Nat.le_of_ble_eq_true rfl⟩) (UX_V hg_1P hK (hg_1D) hE hS hg_1F (va_recv hK.1 hP (ci := 1) (q0 := 0) rfl rfl)) rfl rfl hl.1 rfl (lv_room (Nat.le_of_ble_eq_true rfl)) dX1_refusalDetail_1 ⟨Nat.le_of_ble_eq_true rfl, Nat.le_of_ble_eq_true rfl⟩) hS hg_1F ?_ ?_ ?_ ?_
  · exact (fun u_3 _ hk9 hp9 hd9 => g_back hg_1 (hj_5 u_3) hP hD hg_1F hk9 hp9 hd9)
  · exact (fun u_4 _ hk9 hp9 hd9 => g_back hg_1 (hj_6 u_4) hP hD hg_1F hk9 hp9 hd9)
  · intro En ce q9 u_4 H locs hCx hP hD hS hxf hq9 hce hcv hcl
    have hCx : En = "java/util/NoSuchElementException" ∧ (some rq) = none := hCx
    have hP : va_P E.1 CL (([(cw, .inr (1, [.ref stA, .ref oaA, .ref osA, iv hsn, .ref hdA, .ref spA, .ref bfA, .ref lnA, .ref prA, iv ep, .ref rq]))] : va_W) ++ ([(rq, .inr (5, [pv0, pv1, pv2, pv3, pv4, pv5, iv wr, iv wd, .ref rq2]))] : va_W) ++ ([(rq2, .inr (5, [pw0, pw1, pw2, pw3, pw4, pw5, iv ws, iv wt, .null]))] : va_W)) H := hP
    have hD : va_D A (([(cw, .inr (1, [.ref stA, .ref oaA, .ref osA, iv hsn, .ref hdA, .ref spA, .ref bfA, .ref lnA, .ref prA, iv ep, .ref rq]))] : va_W) ++ ([(rq, .inr (5, [pv0, pv1, pv2, pv3, pv4, pv5, iv wr, iv wd, .ref rq2]))] : va_W) ++ ([(rq2, .inr (5, [pw0, pw1, pw2, pw3, pw4, pw5, iv ws, iv wt, .null]))] : va_W)) := hD
    exact n_out () (by exact absurd hCx.2 (by intro h9; cases h9)) hP hD hS hxf (Nat.le_trans hz_2 hq9) hce hcv hcl (fun x hx9 => (htb x hx9).elim) hlocks (Nat.le_of_ble_eq_true rfl) (Nat.le_of_ble_eq_true rfl)
  · intro u_3 H locs hC hP hD hS
    have hu_3 : (some rq) = some u_3 := hC
    have hP : va_P E.1 CL (([(cw, .inr (1, [.ref stA, .ref oaA, .ref osA, iv hsn, .ref hdA, .ref spA, .ref bfA, .ref lnA, .ref prA, iv ep, .ref rq]))] : va_W) ++ ([(rq, .inr (5, [pv0, pv1, pv2, pv3, pv4, pv5, iv wr, iv wd, .ref rq2]))] : va_W) ++ ([(rq2, .inr (5, [pw0, pw1, pw2, pw3, pw4, pw5, iv ws, iv wt, .null]))] : va_W)) H := hP
    have hD : va_D A (([(cw, .inr (1, [.ref stA, .ref oaA, .ref osA, iv hsn, .ref hdA, .ref spA, .ref bfA, .ref lnA, .ref prA, iv ep, .ref rq]))] : va_W) ++ ([(rq, .inr (5, [pv0, pv1, pv2, pv3, pv4, pv5, iv wr, iv wd, .ref rq2]))] : va_W) ++ ([(rq2, .inr (5, [pw0, pw1, pw2, pw3, pw4, pw5, iv ws, iv wt, .null]))] : va_W)) := hD
    obtain rfl := Option.some.inj hu_3
    skip
    refine va_getN (D := E.1) (ci := 5) (v := iv wd) (C := RX6) (T := TX6) (N := 9) hx hb hts in_X6 hown hK.1 hP 1 rfl rfl 7 (by decide) (hK.nw q837) (fun _ h9 => h9) rfl dX1_refusalDetail_4 ?_
    refine vx_ret ?_
    refine W.widen (k := 1) (n := 6) (Nat.le_of_ble_eq_true rfl) (Nat.le_of_ble_eq_true rfl) ?_
    exact W.iret (v := iI wd) hx hb hr (fun tt_ ht_ hW_ => ⟨⟨iI wd, (), rfl, ⟨by unfold c_zero; rw [if_neg (by omega)], rfl⟩, by rw [ht_]; exact hP, hD⟩, hS.F ht_⟩) hS.2.2 dX1_refusalDetail_7
set_option maxHeartbeats 1000000 in
set_option maxRecDepth 100000 in
theorem mt_X1_refusalCause_a (l : Launch) (E : EE) (cw : Nat) (stA : Nat) (oaA : Nat) (osA : Nat) (hsn : Int) (hdA : Nat) (spA : Nat) (bfA : Nat) (lnA : Nat) (prA : Nat) (ep : Int) (hst : l.stackTraces = false) (sz : Nat) : vx_Met l yX1_refusalCause (ws_ yX1_refusalCause cX1_refusalCause 1 (some .int)) { frames := 9, cells := 2, slots := 12, locals := 200 } (va_Pc [.ref cw] (UX E ([(cw, .inr (1, [.ref stA, .ref oaA, .ref osA, iv hsn, .ref hdA, .ref spA, .ref bfA, .ref lnA, .ref prA, iv ep, .null]))]) sz)) (UQx E (fun u : Unit => c_zero (0 : Int) = 0) (fun u : Unit => (0 : Int)) (fun u : Unit => [(cw, .inr (1, [.ref stA, .ref oaA, .ref osA, iv hsn, .ref hdA, .ref spA, .ref bfA, .ref lnA, .ref prA, iv ep, .null]))]) (va_A ([(cw, .inr (1, [.ref stA, .ref oaA, .ref osA, iv hsn, .ref hdA, .ref spA, .ref bfA, .ref lnA, .ref prA, iv ep, .null]))]) sz)) (UXx E (fun (En : String) (u : Unit) => En = "java/util/NoSuchElementException" ∧ c_zero (0 : Int) = 1) (fun u : Unit => [(cw, .inr (1, [.ref stA, .ref oaA, .ref osA, iv hsn, .ref hdA, .ref spA, .ref bfA, .ref lnA, .ref prA, iv ep, .null]))]) (fun u : Unit => none) (va_A ([(cw, .inr (1, [.ref stA, .ref oaA, .ref osA, iv hsn, .ref hdA, .ref spA, .ref bfA, .ref lnA, .ref prA, iv ep, .null]))]) sz)) 2 12 (va_A ([(cw, .inr (1, [.ref stA, .ref oaA, .ref osA, iv hsn, .ref hdA, .ref spA, .ref bfA, .ref lnA, .ref prA, iv ep, .null]))]) sz) := by
  refine vx_ofW (cc := cX1_refusalCause) (maxL := 1) (ret := (some .int)) (by decide) rfl ?_
  intro p e s m args below meth c s₁ B hml htb hv
  obtain ⟨rfl, hsz, hP, hK, hD0, hE⟩ := hv
  have hx := B.exec
  have hb := B.bytes
  have hr := B.returns
  have hts := atoms_spec (ws := (ws_ yX1_refusalCause cX1_refusalCause 1 (some .int))) B.pre
  have hts : ∀ w ∈ lw_all, w.before _ s = true := fun w h => hts w (List.mem_cons_of_mem _ h)
  have hown : s.vm.findClass RX1 = some m.cls := findClass_of_methodNamed B.named
  have hlocks := B.notSynchronized
  subst hsz
  have hD := hD0.self (sz := s.heap.size)
  generalize hAe : va_A ([(cw, .inr (1, [.ref stA, .ref oaA, .ref osA, iv hsn, .ref hdA, .ref spA, .ref bfA, .ref lnA, .ref prA, iv ep, .null]))]) s.heap.size = A at hD hE ⊢
  have hA : ∀ q : Nat, s.heap.size ≤ q → A q := fun q h => by rw [← hAe]; exact Or.inr h
  have hS : va_S A s.heap s.heap [] := va_S.rf
  have hl := lv_entry ([.ref cw]) (n := 1) (Nat.le_of_ble_eq_true rfl)
  rw [lg_entry_eq]
  generalize (lg_sl ([.ref cw]) ++ List.replicate (1 - (lg_sl ([.ref cw])).length) Slot.unset).toArray = ls at hl ⊢
  have hl : lv_has ls 1 [(0, .ref cw)] := hl
  refine lv_aload_n hx hb dX1_refusalCause_0 rfl (lv_at hl 0 rfl) ?_
  have hg_1 : gpick [[(cw, .inr (1, [.ref stA, .ref oaA, .ref osA, iv hsn, .ref hdA, .ref spA, .ref bfA, .ref lnA, .ref prA, iv ep, .null]))]] ([[(cw, .inr (1, [.ref stA, .ref oaA, .ref osA, iv hsn, .ref hdA, .ref spA, .ref bfA, .ref lnA, .ref prA, iv ep, .null]))]] ++ []) [0] := ⟨rfl, (show List.Perm [0] (List.range 1) from by decide)⟩
  have hg_1P : va_P E.1 CL ([(cw, .inr (1, [.ref stA, .ref oaA, .ref osA, iv hsn, .ref hdA, .ref spA, .ref bfA, .ref lnA, .ref prA, iv ep, .null]))]) s.heap := (g_out hg_1 hP hD).1
  have hg_1D : va_D A ([(cw, .inr (1, [.ref stA, .ref oaA, .ref osA, iv hsn, .ref hdA, .ref spA, .ref bfA, .ref lnA, .ref prA, iv ep, .null]))]) := (g_out hg_1 hP hD).2
  have hg_1F : ∀ q, va_A ([(cw, .inr (1, [.ref stA, .ref oaA, .ref osA, iv hsn, .ref hdA, .ref spA, .ref bfA, .ref lnA, .ref prA, iv ep, .null]))]) s.heap.size q → A q := g_free hg_1 hP hD hS hA
  have hz_2 : s.heap.size ≤ s.heap.size := hS.1
  have hj_5 : ∀ u_3 : Nat, gpick ([[(cw, .inr (1, [.ref stA, .ref oaA, .ref osA, iv hsn, .ref hdA, .ref spA, .ref bfA, .ref lnA, .ref prA, iv ep, .null]))]] ++ []) [[(cw, .inr (1, [.ref stA, .ref oaA, .ref osA, iv hsn, .ref hdA, .ref spA, .ref bfA, .ref lnA, .ref prA, iv ep, .null]))]] [0] := fun u_3 => ⟨rfl, (show List.Perm [0] (List.range 1) from by decide)⟩
  have hj_6 : ∀ u_4 : Unit, gpick ([[(cw, .inr (1, [.ref stA, .ref oaA, .ref osA, iv hsn, .ref hdA, .ref spA, .ref bfA, .ref lnA, .ref prA, iv ep, .null]))]] ++ []) [[(cw, .inr (1, [.ref stA, .ref oaA, .ref osA, iv hsn, .ref hdA, .ref spA, .ref bfA, .ref lnA, .ref prA, iv ep, .null]))]] [0] := fun u_4 => ⟨rfl, (show List.Perm [0] (List.range 1) from by decide)⟩
  refine n_txyB (y := fun u_3 => .ref u_3) (w2 := fun u_3 => [(cw, .inr (1, [.ref stA, .ref oaA, .ref osA, iv hsn, .ref hdA, .ref spA, .ref bfA, .ref lnA, .ref prA, iv ep, .null]))]) (w3 := fun u_4 => [(cw, .inr (1, [.ref stA, .ref oaA, .ref osA, iv hsn, .ref hdA, .ref spA, .ref bfA, .ref lnA, .ref prA, iv ep, .null]))]) (vx_runV (As := []) (rest := []) ⟨hx, hb, hml, hown, hts⟩ (mt_X1_refusal l E cw stA oaA osA hsn hdA spA bfA lnA prA ep none  (by exact hst) _) (cwV 0 hts (lw_V q1385 q1387 qs22 q94 q1388) rfl rfl rfl (by decide +kernel) ⟨Nat.le_of_ble_eq_true rfl, Nat.le_of_ble_eq_true rfl⟩) (UX_V hg_1P hK (hg_1D) hE hS hg_1F (va_recv hK.1 hP (ci := 1) (q0 := 0) rfl rfl)) rfl rfl hl.1 rfl (lv_room (Nat.le_of_ble_eq_true rfl)) dX1_refusalCause_1 ⟨Nat.le_of_ble_eq_true rfl, Nat.le_of_ble_eq_true rfl⟩) hS hg_1F ?_ ?_ ?_ ?_
  · exact (fun u_3 _ hk9 hp9 hd9 => g_back hg_1 (hj_5 u_3) hP hD hg_1F hk9 hp9 hd9)
  · exact (fun u_4 _ hk9 hp9 hd9 => g_back hg_1 (hj_6 u_4) hP hD hg_1F hk9 hp9 hd9)
  · intro En ce q9 u_4 H locs hCx hP hD hS hxf hq9 hce hcv hcl
    have hCx : En = "java/util/NoSuchElementException" ∧ none = none := hCx
    have hP : va_P E.1 CL ([(cw, .inr (1, [.ref stA, .ref oaA, .ref osA, iv hsn, .ref hdA, .ref spA, .ref bfA, .ref lnA, .ref prA, iv ep, .null]))]) H := hP
    have hD : va_D A ([(cw, .inr (1, [.ref stA, .ref oaA, .ref osA, iv hsn, .ref hdA, .ref spA, .ref bfA, .ref lnA, .ref prA, iv ep, .null]))]) := hD
    exact n_out () (by exact ⟨hCx.1, rfl⟩) hP hD hS hxf (Nat.le_trans hz_2 hq9) hce hcv hcl (fun x hx9 => (htb x hx9).elim) hlocks (Nat.le_of_ble_eq_true rfl) (Nat.le_of_ble_eq_true rfl)
  · intro u_3 H locs hC hP hD hS
    have hu_3 : none = some u_3 := hC
    have hP : va_P E.1 CL ([(cw, .inr (1, [.ref stA, .ref oaA, .ref osA, iv hsn, .ref hdA, .ref spA, .ref bfA, .ref lnA, .ref prA, iv ep, .null]))]) H := hP
    have hD : va_D A ([(cw, .inr (1, [.ref stA, .ref oaA, .ref osA, iv hsn, .ref hdA, .ref spA, .ref bfA, .ref lnA, .ref prA, iv ep, .null]))]) := hD
    exact absurd hu_3 (by intro h9; cases h9)
set_option maxHeartbeats 1000000 in
set_option maxRecDepth 100000 in
theorem mt_X1_refusalCause_b (l : Launch) (E : EE) (cw : Nat) (stA : Nat) (oaA : Nat) (osA : Nat) (hsn : Int) (hdA : Nat) (spA : Nat) (bfA : Nat) (lnA : Nat) (prA : Nat) (ep : Int) (rq : Nat) (pv0 : Value) (pv1 : Value) (pv2 : Value) (pv3 : Value) (pv4 : Value) (pv5 : Value) (wr : Int) (wd : Int) (hst : l.stackTraces = false) (hwr : 0 < wr ∧ wr < 100) (hwd : -2147483648 ≤ wd ∧ wd < 2147483648) (sz : Nat) : vx_Met l yX1_refusalCause (ws_ yX1_refusalCause cX1_refusalCause 1 (some .int)) { frames := 9, cells := 2, slots := 12, locals := 200 } (va_Pc [.ref cw] (UX E (([(cw, .inr (1, [.ref stA, .ref oaA, .ref osA, iv hsn, .ref hdA, .ref spA, .ref bfA, .ref lnA, .ref prA, iv ep, .ref rq]))] : va_W) ++ ([(rq, .inr (5, [pv0, pv1, pv2, pv3, pv4, pv5, iv wr, iv wd, .null]))] : va_W)) sz)) (UQx E (fun u : Unit => c_zero (0 : Int) = 0) (fun u : Unit => (0 : Int)) (fun u : Unit => ([(cw, .inr (1, [.ref stA, .ref oaA, .ref osA, iv hsn, .ref hdA, .ref spA, .ref bfA, .ref lnA, .ref prA, iv ep, .ref rq]))] : va_W) ++ ([(rq, .inr (5, [pv0, pv1, pv2, pv3, pv4, pv5, iv wr, iv wd, .null]))] : va_W)) (va_A (([(cw, .inr (1, [.ref stA, .ref oaA, .ref osA, iv hsn, .ref hdA, .ref spA, .ref bfA, .ref lnA, .ref prA, iv ep, .ref rq]))] : va_W) ++ ([(rq, .inr (5, [pv0, pv1, pv2, pv3, pv4, pv5, iv wr, iv wd, .null]))] : va_W)) sz)) (UXx E (fun (En : String) (u : Unit) => En = "java/util/NoSuchElementException" ∧ c_zero (0 : Int) = 1) (fun u : Unit => ([(cw, .inr (1, [.ref stA, .ref oaA, .ref osA, iv hsn, .ref hdA, .ref spA, .ref bfA, .ref lnA, .ref prA, iv ep, .ref rq]))] : va_W) ++ ([(rq, .inr (5, [pv0, pv1, pv2, pv3, pv4, pv5, iv wr, iv wd, .null]))] : va_W)) (fun u : Unit => none) (va_A (([(cw, .inr (1, [.ref stA, .ref oaA, .ref osA, iv hsn, .ref hdA, .ref spA, .ref bfA, .ref lnA, .ref prA, iv ep, .ref rq]))] : va_W) ++ ([(rq, .inr (5, [pv0, pv1, pv2, pv3, pv4, pv5, iv wr, iv wd, .null]))] : va_W)) sz)) 2 12 (va_A (([(cw, .inr (1, [.ref stA, .ref oaA, .ref osA, iv hsn, .ref hdA, .ref spA, .ref bfA, .ref lnA, .ref prA, iv ep, .ref rq]))] : va_W) ++ ([(rq, .inr (5, [pv0, pv1, pv2, pv3, pv4, pv5, iv wr, iv wd, .null]))] : va_W)) sz) := by
  refine vx_ofW (cc := cX1_refusalCause) (maxL := 1) (ret := (some .int)) (by decide) rfl ?_
  intro p e s m args below meth c s₁ B hml htb hv
  obtain ⟨rfl, hsz, hP, hK, hD0, hE⟩ := hv
  have hx := B.exec
  have hb := B.bytes
  have hr := B.returns
  have hts := atoms_spec (ws := (ws_ yX1_refusalCause cX1_refusalCause 1 (some .int))) B.pre
  have hts : ∀ w ∈ lw_all, w.before _ s = true := fun w h => hts w (List.mem_cons_of_mem _ h)
  have hown : s.vm.findClass RX1 = some m.cls := findClass_of_methodNamed B.named
  have hlocks := B.notSynchronized
  subst hsz
  have hD := hD0.self (sz := s.heap.size)
  generalize hAe : va_A (([(cw, .inr (1, [.ref stA, .ref oaA, .ref osA, iv hsn, .ref hdA, .ref spA, .ref bfA, .ref lnA, .ref prA, iv ep, .ref rq]))] : va_W) ++ ([(rq, .inr (5, [pv0, pv1, pv2, pv3, pv4, pv5, iv wr, iv wd, .null]))] : va_W)) s.heap.size = A at hD hE ⊢
  have hA : ∀ q : Nat, s.heap.size ≤ q → A q := fun q h => by rw [← hAe]; exact Or.inr h
  have hS : va_S A s.heap s.heap [] := va_S.rf
  have hl := lv_entry ([.ref cw]) (n := 1) (Nat.le_of_ble_eq_true rfl)
  rw [lg_entry_eq]
  generalize (lg_sl ([.ref cw]) ++ List.replicate (1 - (lg_sl ([.ref cw])).length) Slot.unset).toArray = ls at hl ⊢
  have hl : lv_has ls 1 [(0, .ref cw)] := hl
  refine lv_aload_n hx hb dX1_refusalCause_0 rfl (lv_at hl 0 rfl) ?_
  have hg_1 : gpick [[(cw, .inr (1, [.ref stA, .ref oaA, .ref osA, iv hsn, .ref hdA, .ref spA, .ref bfA, .ref lnA, .ref prA, iv ep, .ref rq]))], [(rq, .inr (5, [pv0, pv1, pv2, pv3, pv4, pv5, iv wr, iv wd, .null]))]] ([[(cw, .inr (1, [.ref stA, .ref oaA, .ref osA, iv hsn, .ref hdA, .ref spA, .ref bfA, .ref lnA, .ref prA, iv ep, .ref rq]))]] ++ [[(rq, .inr (5, [pv0, pv1, pv2, pv3, pv4, pv5, iv wr, iv wd, .null]))]]) [0, 1] := ⟨rfl, (show List.Perm [0, 1] (List.range 2) from by decide)⟩
  have hg_1P : va_P E.1 CL ([(cw, .inr (1, [.ref stA, .ref oaA, .ref osA, iv hsn, .ref hdA, .ref spA, .ref bfA, .ref lnA, .ref prA, iv ep, .ref rq]))]) s.heap := (g_out hg_1 hP hD).1
  have hg_1D : va_D A ([(cw, .inr (1, [.ref stA, .ref oaA, .ref osA, iv hsn, .ref hdA, .ref spA, .ref bfA, .ref lnA, .ref prA, iv ep, .ref rq]))]) := (g_out hg_1 hP hD).2
  have hg_1F : ∀ q, va_A ([(cw, .inr (1, [.ref stA, .ref oaA, .ref osA, iv hsn, .ref hdA, .ref spA, .ref bfA, .ref lnA, .ref prA, iv ep, .ref rq]))]) s.heap.size q → A q := g_free hg_1 hP hD hS hA
  have hz_2 : s.heap.size ≤ s.heap.size := hS.1
  have hj_5 : ∀ u_3 : Nat, gpick ([[(cw, .inr (1, [.ref stA, .ref oaA, .ref osA, iv hsn, .ref hdA, .ref spA, .ref bfA, .ref lnA, .ref prA, iv ep, .ref rq]))]] ++ [[(rq, .inr (5, [pv0, pv1, pv2, pv3, pv4, pv5, iv wr, iv wd, .null]))]]) [[(cw, .inr (1, [.ref stA, .ref oaA, .ref osA, iv hsn, .ref hdA, .ref spA, .ref bfA, .ref lnA, .ref prA, iv ep, .ref rq]))], [(rq, .inr (5, [pv0, pv1, pv2, pv3, pv4, pv5, iv wr, iv wd, .null]))]] [0, 1] := fun u_3 => ⟨rfl, (show List.Perm [0, 1] (List.range 2) from by decide)⟩
  have hj_6 : ∀ u_4 : Unit, gpick ([[(cw, .inr (1, [.ref stA, .ref oaA, .ref osA, iv hsn, .ref hdA, .ref spA, .ref bfA, .ref lnA, .ref prA, iv ep, .ref rq]))]] ++ [[(rq, .inr (5, [pv0, pv1, pv2, pv3, pv4, pv5, iv wr, iv wd, .null]))]]) [[(cw, .inr (1, [.ref stA, .ref oaA, .ref osA, iv hsn, .ref hdA, .ref spA, .ref bfA, .ref lnA, .ref prA, iv ep, .ref rq]))], [(rq, .inr (5, [pv0, pv1, pv2, pv3, pv4, pv5, iv wr, iv wd, .null]))]] [0, 1] := fun u_4 => ⟨rfl, (show List.Perm [0, 1] (List.range 2) from by decide)⟩
  refine n_txyB (y := fun u_3 => .ref u_3) (w2 := fun u_3 => ([(cw, .inr (1, [.ref stA, .ref oaA, .ref osA, iv hsn, .ref hdA, .ref spA, .ref bfA, .ref lnA, .ref prA, iv ep, .ref rq]))] : va_W) ++ ([(rq, .inr (5, [pv0, pv1, pv2, pv3, pv4, pv5, iv wr, iv wd, .null]))] : va_W)) (w3 := fun u_4 => ([(cw, .inr (1, [.ref stA, .ref oaA, .ref osA, iv hsn, .ref hdA, .ref spA, .ref bfA, .ref lnA, .ref prA, iv ep, .ref rq]))] : va_W) ++ ([(rq, .inr (5, [pv0, pv1, pv2, pv3, pv4, pv5, iv wr, iv wd, .null]))] : va_W)) (vx_runV (As := []) (rest := []) ⟨hx, hb, hml, hown, hts⟩ (mt_X1_refusal l E cw stA oaA osA hsn hdA spA bfA lnA prA ep (some rq)  (by exact hst) _) (cwV 0 hts (lw_V q1385 q1387 qs22 q94 q1388) rfl rfl rfl (by decide +kernel) ⟨Nat.le_of_ble_eq_true rfl, Nat.le_of_ble_eq_true rfl⟩) (UX_V hg_1P hK (hg_1D) hE hS hg_1F (va_recv hK.1 hP (ci := 1) (q0 := 0) rfl rfl)) rfl rfl hl.1 rfl (lv_room (Nat.le_of_ble_eq_true rfl)) dX1_refusalCause_1 ⟨Nat.le_of_ble_eq_true rfl, Nat.le_of_ble_eq_true rfl⟩) hS hg_1F ?_ ?_ ?_ ?_
  · exact (fun u_3 _ hk9 hp9 hd9 => g_back hg_1 (hj_5 u_3) hP hD hg_1F hk9 hp9 hd9)
  · exact (fun u_4 _ hk9 hp9 hd9 => g_back hg_1 (hj_6 u_4) hP hD hg_1F hk9 hp9 hd9)
  · intro En ce q9 u_4 H locs hCx hP hD hS hxf hq9 hce hcv hcl
    have hCx : En = "java/util/NoSuchElementException" ∧ (some rq) = none := hCx
    have hP : va_P E.1 CL (([(cw, .inr (1, [.ref stA, .ref oaA, .ref osA, iv hsn, .ref hdA, .ref spA, .ref bfA, .ref lnA, .ref prA, iv ep, .ref rq]))] : va_W) ++ ([(rq, .inr (5, [pv0, pv1, pv2, pv3, pv4, pv5, iv wr, iv wd, .null]))] : va_W)) H := hP
    have hD : va_D A (([(cw, .inr (1, [.ref stA, .ref oaA, .ref osA, iv hsn, .ref hdA, .ref spA, .ref bfA, .ref lnA, .ref prA, iv ep, .ref rq]))] : va_W) ++ ([(rq, .inr (5, [pv0, pv1, pv2, pv3, pv4, pv5, iv wr, iv wd, .null]))] : va_W)) := hD
    exact n_out () (by exact ⟨hCx.1, rfl⟩) hP hD hS hxf (Nat.le_trans hz_2 hq9) hce hcv hcl (fun x hx9 => (htb x hx9).elim) hlocks (Nat.le_of_ble_eq_true rfl) (Nat.le_of_ble_eq_true rfl)
  · intro u_3 H locs hC hP hD hS
    have hu_3 : (some rq) = some u_3 := hC
    have hP : va_P E.1 CL (([(cw, .inr (1, [.ref stA, .ref oaA, .ref osA, iv hsn, .ref hdA, .ref spA, .ref bfA, .ref lnA, .ref prA, iv ep, .ref rq]))] : va_W) ++ ([(rq, .inr (5, [pv0, pv1, pv2, pv3, pv4, pv5, iv wr, iv wd, .null]))] : va_W)) H := hP
    have hD : va_D A (([(cw, .inr (1, [.ref stA, .ref oaA, .ref osA, iv hsn, .ref hdA, .ref spA, .ref bfA, .ref lnA, .ref prA, iv ep, .ref rq]))] : va_W) ++ ([(rq, .inr (5, [pv0, pv1, pv2, pv3, pv4, pv5, iv wr, iv wd, .null]))] : va_W)) := hD
    obtain rfl := Option.some.inj hu_3
    skip
    refine n_csi (x := -1) (va_runV (As := []) (rest := []) ⟨hx, hb, hml, hown, hts⟩ (mt_X6_originReasonn l E rq pv0 pv1 pv2 pv3 pv4 pv5 wr wd ) (cwV 0 hts (lw_V q1403 q1404 q1405 q117 q1406) rfl rfl rfl (by decide +kernel) ⟨Nat.le_of_ble_eq_true rfl, Nat.le_of_ble_eq_true rfl⟩) (PW_V (hP.sub (ws' := [(rq, .inr (5, [pv0, pv1, pv2, pv3, pv4, pv5, iv wr, iv wd, .null]))]) [1] rfl) hK (va_recv hK.1 hP (ci := 5) (q0 := 1) rfl rfl)) rfl rfl hl.1 rfl (lv_room (Nat.le_of_ble_eq_true rfl)) dX1_refusalCause_4 ⟨Nat.le_of_ble_eq_true rfl, Nat.le_of_ble_eq_true rfl⟩) ?_
    have hg_7 : gpick [[(cw, .inr (1, [.ref stA, .ref oaA, .ref osA, iv hsn, .ref hdA, .ref spA, .ref bfA, .ref lnA, .ref prA, iv ep, .ref rq]))], [(rq, .inr (5, [pv0, pv1, pv2, pv3, pv4, pv5, iv wr, iv wd, .null]))]] ([] ++ [[(cw, .inr (1, [.ref stA, .ref oaA, .ref osA, iv hsn, .ref hdA, .ref spA, .ref bfA, .ref lnA, .ref prA, iv ep, .ref rq]))], [(rq, .inr (5, [pv0, pv1, pv2, pv3, pv4, pv5, iv wr, iv wd, .null]))]]) [0, 1] := ⟨rfl, (show List.Perm [0, 1] (List.range 2) from by decide)⟩
    have hg_7P : va_P E.1 CL ([]) H := (g_out hg_7 hP hD).1
    have hg_7D : va_D A ([]) := (g_out hg_7 hP hD).2
    have hg_7F : ∀ q, va_A ([]) H.size q → A q := g_free hg_7 hP hD hS hA
    have hz_8 : s.heap.size ≤ H.size := hS.1
    have hj_11 : ∀ u_9 : Unit, gpick ([] ++ [[(cw, .inr (1, [.ref stA, .ref oaA, .ref osA, iv hsn, .ref hdA, .ref spA, .ref bfA, .ref lnA, .ref prA, iv ep, .ref rq]))], [(rq, .inr (5, [pv0, pv1, pv2, pv3, pv4, pv5, iv wr, iv wd, .null]))]]) [[(cw, .inr (1, [.ref stA, .ref oaA, .ref osA, iv hsn, .ref hdA, .ref spA, .ref bfA, .ref lnA, .ref prA, iv ep, .ref rq]))], [(rq, .inr (5, [pv0, pv1, pv2, pv3, pv4, pv5, iv wr, iv wd, .null]))]] [0, 1] := fun u_9 => ⟨rfl, (show List.Perm [0, 1] (List.range 2) from by decide)⟩
    have hj_12 : ∀ u_10 : Unit, gpick ([] ++ [[(cw, .inr (1, [.ref stA, .ref oaA, .ref osA, iv hsn, .ref hdA, .ref spA, .ref bfA, .ref lnA, .ref prA, iv ep, .ref rq]))], [(rq, .inr (5, [pv0, pv1, pv2, pv3, pv4, pv5, iv wr, iv wd, .null]))]]) [[(cw, .inr (1, [.ref stA, .ref oaA, .ref osA, iv hsn, .ref hdA, .ref spA, .ref bfA, .ref lnA, .ref prA, iv ep, .ref rq]))], [(rq, .inr (5, [pv0, pv1, pv2, pv3, pv4, pv5, iv wr, iv wd, .null]))]] [0, 1] := fun u_10 => ⟨rfl, (show List.Perm [0, 1] (List.range 2) from by decide)⟩
    refine n_txB (x := fun u_9 => -1) (w2 := fun u_9 => ([(cw, .inr (1, [.ref stA, .ref oaA, .ref osA, iv hsn, .ref hdA, .ref spA, .ref bfA, .ref lnA, .ref prA, iv ep, .ref rq]))] : va_W) ++ ([(rq, .inr (5, [pv0, pv1, pv2, pv3, pv4, pv5, iv wr, iv wd, .null]))] : va_W)) (w3 := fun u_10 => ([(cw, .inr (1, [.ref stA, .ref oaA, .ref osA, iv hsn, .ref hdA, .ref spA, .ref bfA, .ref lnA, .ref prA, iv ep, .ref rq]))] : va_W) ++ ([(rq, .inr (5, [pv0, pv1, pv2, pv3, pv4, pv5, iv wr, iv wd, .null]))] : va_W)) (vx_runS (As := [iv (-1)]) (rest := []) ⟨hx, hb, hml, hown, hts⟩ (mt_X1_found l E (-1) (by exact hst) (by omega) _) (va_cwS 1 hts (lw_S q1204 q1038 q94 q1039) rfl rfl rfl (by decide +kernel) ⟨Nat.le_of_ble_eq_true rfl, Nat.le_of_ble_eq_true rfl⟩) (UX_S hg_7P hK (hg_7D) hE hS hg_7F) rfl rfl hl.1 rfl (lv_room (Nat.le_of_ble_eq_true rfl)) dX1_refusalCause_7 ⟨Nat.le_of_ble_eq_true rfl, Nat.le_of_ble_eq_true rfl⟩) hS hg_7F ?_ ?_ ?_ ?_
    · exact (fun u_9 _ hk9 hp9 hd9 => g_back hg_7 (hj_11 u_9) hP hD hg_7F hk9 hp9 hd9)
    · exact (fun u_10 _ hk9 hp9 hd9 => g_back hg_7 (hj_12 u_10) hP hD hg_7F hk9 hp9 hd9)
    · intro En ce q9 u_10 H locs hCx hP hD hS hxf hq9 hce hcv hcl
      have hCx : En = "java/util/NoSuchElementException" ∧ (-1) = -1 := hCx
      have hP : va_P E.1 CL (([(cw, .inr (1, [.ref stA, .ref oaA, .ref osA, iv hsn, .ref hdA, .ref spA, .ref bfA, .ref lnA, .ref prA, iv ep, .ref rq]))] : va_W) ++ ([(rq, .inr (5, [pv0, pv1, pv2, pv3, pv4, pv5, iv wr, iv wd, .null]))] : va_W)) H := hP
      have hD : va_D A (([(cw, .inr (1, [.ref stA, .ref oaA, .ref osA, iv hsn, .ref hdA, .ref spA, .ref bfA, .ref lnA, .ref prA, iv ep, .ref rq]))] : va_W) ++ ([(rq, .inr (5, [pv0, pv1, pv2, pv3, pv4, pv5, iv wr, iv wd, .null]))] : va_W)) := hD
      exact n_out () (by exact ⟨hCx.1, rfl⟩) hP hD hS hxf (Nat.le_trans hz_8 hq9) hce hcv hcl (fun x hx9 => (htb x hx9).elim) hlocks (Nat.le_of_ble_eq_true rfl) (Nat.le_of_ble_eq_true rfl)
    · intro u_9 H locs hC hP hD hS
      have hu_9 : ¬ (-1) = -1 := hC
      have hP : va_P E.1 CL (([(cw, .inr (1, [.ref stA, .ref oaA, .ref osA, iv hsn, .ref hdA, .ref spA, .ref bfA, .ref lnA, .ref prA, iv ep, .ref rq]))] : va_W) ++ ([(rq, .inr (5, [pv0, pv1, pv2, pv3, pv4, pv5, iv wr, iv wd, .null]))] : va_W)) H := hP
      have hD : va_D A (([(cw, .inr (1, [.ref stA, .ref oaA, .ref osA, iv hsn, .ref hdA, .ref spA, .ref bfA, .ref lnA, .ref prA, iv ep, .ref rq]))] : va_W) ++ ([(rq, .inr (5, [pv0, pv1, pv2, pv3, pv4, pv5, iv wr, iv wd, .null]))] : va_W)) := hD
      exact absurd rfl hu_9
set_option maxHeartbeats 1000000 in
set_option maxRecDepth 100000 in
theorem mt_X1_refusalCause_c (l : Launch) (E : EE) (cw : Nat) (stA : Nat) (oaA : Nat) (osA : Nat) (hsn : Int) (hdA : Nat) (spA : Nat) (bfA : Nat) (lnA : Nat) (prA : Nat) (ep : Int) (rq : Nat) (pv0 : Value) (pv1 : Value) (pv2 : Value) (pv3 : Value) (pv4 : Value) (pv5 : Value) (wr : Int) (wd : Int) (rq2 : Nat) (pw0 : Value) (pw1 : Value) (pw2 : Value) (pw3 : Value) (pw4 : Value) (pw5 : Value) (ws : Int) (wt : Int) (hst : l.stackTraces = false) (hwr : 0 < wr ∧ wr < 100) (hwd : -2147483648 ≤ wd ∧ wd < 2147483648) (hws : 0 < ws ∧ ws < 100) (sz : Nat) : vx_Met l yX1_refusalCause (ws_ yX1_refusalCause cX1_refusalCause 1 (some .int)) { frames := 9, cells := 2, slots := 12, locals := 200 } (va_Pc [.ref cw] (UX E (([(cw, .inr (1, [.ref stA, .ref oaA, .ref osA, iv hsn, .ref hdA, .ref spA, .ref bfA, .ref lnA, .ref prA, iv ep, .ref rq]))] : va_W) ++ ([(rq, .inr (5, [pv0, pv1, pv2, pv3, pv4, pv5, iv wr, iv wd, .ref rq2]))] : va_W) ++ ([(rq2, .inr (5, [pw0, pw1, pw2, pw3, pw4, pw5, iv ws, iv wt, .null]))] : va_W)) sz)) (UQx E (fun u : Unit => c_zero ws = 0) (fun u : Unit => ws) (fun u : Unit => ([(cw, .inr (1, [.ref stA, .ref oaA, .ref osA, iv hsn, .ref hdA, .ref spA, .ref bfA, .ref lnA, .ref prA, iv ep, .ref rq]))] : va_W) ++ ([(rq, .inr (5, [pv0, pv1, pv2, pv3, pv4, pv5, iv wr, iv wd, .ref rq2]))] : va_W) ++ ([(rq2, .inr (5, [pw0, pw1, pw2, pw3, pw4, pw5, iv ws, iv wt, .null]))] : va_W)) (va_A (([(cw, .inr (1, [.ref stA, .ref oaA, .ref osA, iv hsn, .ref hdA, .ref spA, .ref bfA, .ref lnA, .ref prA, iv ep, .ref rq]))] : va_W) ++ ([(rq, .inr (5, [pv0, pv1, pv2, pv3, pv4, pv5, iv wr, iv wd, .ref rq2]))] : va_W) ++ ([(rq2, .inr (5, [pw0, pw1, pw2, pw3, pw4, pw5, iv ws, iv wt, .null]))] : va_W)) sz)) (UXx E (fun (En : String) (u : Unit) => En = "java/util/NoSuchElementException" ∧ c_zero ws = 1) (fun u : Unit => ([(cw, .inr (1, [.ref stA, .ref oaA, .ref osA, iv hsn, .ref hdA, .ref spA, .ref bfA, .ref lnA, .ref prA, iv ep, .ref rq]))] : va_W) ++ ([(rq, .inr (5, [pv0, pv1, pv2, pv3, pv4, pv5, iv wr, iv wd, .ref rq2]))] : va_W) ++ ([(rq2, .inr (5, [pw0, pw1, pw2, pw3, pw4, pw5, iv ws, iv wt, .null]))] : va_W)) (fun u : Unit => none) (va_A (([(cw, .inr (1, [.ref stA, .ref oaA, .ref osA, iv hsn, .ref hdA, .ref spA, .ref bfA, .ref lnA, .ref prA, iv ep, .ref rq]))] : va_W) ++ ([(rq, .inr (5, [pv0, pv1, pv2, pv3, pv4, pv5, iv wr, iv wd, .ref rq2]))] : va_W) ++ ([(rq2, .inr (5, [pw0, pw1, pw2, pw3, pw4, pw5, iv ws, iv wt, .null]))] : va_W)) sz)) 2 12 (va_A (([(cw, .inr (1, [.ref stA, .ref oaA, .ref osA, iv hsn, .ref hdA, .ref spA, .ref bfA, .ref lnA, .ref prA, iv ep, .ref rq]))] : va_W) ++ ([(rq, .inr (5, [pv0, pv1, pv2, pv3, pv4, pv5, iv wr, iv wd, .ref rq2]))] : va_W) ++ ([(rq2, .inr (5, [pw0, pw1, pw2, pw3, pw4, pw5, iv ws, iv wt, .null]))] : va_W)) sz) := by
  refine vx_ofW (cc := cX1_refusalCause) (maxL := 1) (ret := (some .int)) (by decide) rfl ?_
  intro p e s m args below meth c s₁ B hml htb hv
  obtain ⟨rfl, hsz, hP, hK, hD0, hE⟩ := hv
  have hx := B.exec
  have hb := B.bytes
  have hr := B.returns
  have hts := atoms_spec (ws := (ws_ yX1_refusalCause cX1_refusalCause 1 (some .int))) B.pre
  have hts : ∀ w ∈ lw_all, w.before _ s = true := fun w h => hts w (List.mem_cons_of_mem _ h)
  have hown : s.vm.findClass RX1 = some m.cls := findClass_of_methodNamed B.named
  have hlocks := B.notSynchronized
  subst hsz
  have hD := hD0.self (sz := s.heap.size)
  generalize hAe : va_A (([(cw, .inr (1, [.ref stA, .ref oaA, .ref osA, iv hsn, .ref hdA, .ref spA, .ref bfA, .ref lnA, .ref prA, iv ep, .ref rq]))] : va_W) ++ ([(rq, .inr (5, [pv0, pv1, pv2, pv3, pv4, pv5, iv wr, iv wd, .ref rq2]))] : va_W) ++ ([(rq2, .inr (5, [pw0, pw1, pw2, pw3, pw4, pw5, iv ws, iv wt, .null]))] : va_W)) s.heap.size = A at hD hE ⊢
  have hA : ∀ q : Nat, s.heap.size ≤ q → A q := fun q h => by rw [← hAe]; exact Or.inr h
  have hS : va_S A s.heap s.heap [] := va_S.rf
  have hl := lv_entry ([.ref cw]) (n := 1) (Nat.le_of_ble_eq_true rfl)
  rw [lg_entry_eq]
  generalize (lg_sl ([.ref cw]) ++ List.replicate (1 - (lg_sl ([.ref cw])).length) Slot.unset).toArray = ls at hl ⊢
  have hl : lv_has ls 1 [(0, .ref cw)] := hl
  refine lv_aload_n hx hb dX1_refusalCause_0 rfl (lv_at hl 0 rfl) ?_
  have hg_1 : gpick [[(cw, .inr (1, [.ref stA, .ref oaA, .ref osA, iv hsn, .ref hdA, .ref spA, .ref bfA, .ref lnA, .ref prA, iv ep, .ref rq]))], [(rq, .inr (5, [pv0, pv1, pv2, pv3, pv4, pv5, iv wr, iv wd, .ref rq2]))], [(rq2, .inr (5, [pw0, pw1, pw2, pw3, pw4, pw5, iv ws, iv wt, .null]))]] ([[(cw, .inr (1, [.ref stA, .ref oaA, .ref osA, iv hsn, .ref hdA, .ref spA, .ref bfA, .ref lnA, .ref prA, iv ep, .ref rq]))]] ++ [[(rq, .inr (5, [pv0, pv1, pv2, pv3, pv4, pv5, iv wr, iv wd, .ref rq2]))], [(rq2, .inr (5, [pw0, pw1, pw2, pw3, pw4, pw5, iv ws, iv wt, .null]))]]) [0, 1, 2] := ⟨rfl, (show List.Perm [0, 1, 2] (List.range 3) from by decide)⟩
  have hg_1P : va_P E.1 CL ([(cw, .inr (1, [.ref stA, .ref oaA, .ref osA, iv hsn, .ref hdA, .ref spA, .ref bfA, .ref lnA, .ref prA, iv ep, .ref rq]))]) s.heap := (g_out hg_1 hP hD).1
  have hg_1D : va_D A ([(cw, .inr (1, [.ref stA, .ref oaA, .ref osA, iv hsn, .ref hdA, .ref spA, .ref bfA, .ref lnA, .ref prA, iv ep, .ref rq]))]) := (g_out hg_1 hP hD).2
  have hg_1F : ∀ q, va_A ([(cw, .inr (1, [.ref stA, .ref oaA, .ref osA, iv hsn, .ref hdA, .ref spA, .ref bfA, .ref lnA, .ref prA, iv ep, .ref rq]))]) s.heap.size q → A q := g_free hg_1 hP hD hS hA
  have hz_2 : s.heap.size ≤ s.heap.size := hS.1
  have hj_5 : ∀ u_3 : Nat, gpick ([[(cw, .inr (1, [.ref stA, .ref oaA, .ref osA, iv hsn, .ref hdA, .ref spA, .ref bfA, .ref lnA, .ref prA, iv ep, .ref rq]))]] ++ [[(rq, .inr (5, [pv0, pv1, pv2, pv3, pv4, pv5, iv wr, iv wd, .ref rq2]))], [(rq2, .inr (5, [pw0, pw1, pw2, pw3, pw4, pw5, iv ws, iv wt, .null]))]]) [[(cw, .inr (1, [.ref stA, .ref oaA, .ref osA, iv hsn, .ref hdA, .ref spA, .ref bfA, .ref lnA, .ref prA, iv ep, .ref rq]))], [(rq, .inr (5, [pv0, pv1, pv2, pv3, pv4, pv5, iv wr, iv wd, .ref rq2]))], [(rq2, .inr (5, [pw0, pw1, pw2, pw3, pw4, pw5, iv ws, iv wt, .null]))]] [0, 1, 2] := fun u_3 => ⟨rfl, (show List.Perm [0, 1, 2] (List.range 3) from by decide)⟩
  have hj_6 : ∀ u_4 : Unit, gpick ([[(cw, .inr (1, [.ref stA, .ref oaA, .ref osA, iv hsn, .ref hdA, .ref spA, .ref bfA, .ref lnA, .ref prA, iv ep, .ref rq]))]] ++ [[(rq, .inr (5, [pv0, pv1, pv2, pv3, pv4, pv5, iv wr, iv wd, .ref rq2]))], [(rq2, .inr (5, [pw0, pw1, pw2, pw3, pw4, pw5, iv ws, iv wt, .null]))]]) [[(cw, .inr (1, [.ref stA, .ref oaA, .ref osA, iv hsn, .ref hdA, .ref spA, .ref bfA, .ref lnA, .ref prA, iv ep, .ref rq]))], [(rq, .inr (5, [pv0, pv1, pv2, pv3, pv4, pv5, iv wr, iv wd, .ref rq2]))], [(rq2, .inr (5, [pw0, pw1, pw2, pw3, pw4, pw5, iv ws, iv wt, .null]))]] [0, 1, 2] := fun u_4 => ⟨rfl, (show List.Perm [0, 1, 2] (List.range 3) from by decide)⟩
  refine n_txyB (y := fun u_3 => .ref u_3) (w2 := fun u_3 => ([(cw, .inr (1, [.ref stA, .ref oaA, .ref osA, iv hsn, .ref hdA, .ref spA, .ref bfA, .ref lnA, .ref prA, iv ep, .ref rq]))] : va_W) ++ ([(rq, .inr (5, [pv0, pv1, pv2, pv3, pv4, pv5, iv wr, iv wd, .ref rq2]))] : va_W) ++ ([(rq2, .inr (5, [pw0, pw1, pw2, pw3, pw4, pw5, iv ws, iv wt, .null]))] : va_W)) (w3 := fun u_4 => ([(cw, .inr (1, [.ref stA, .ref oaA, .ref osA, iv hsn, .ref hdA, .ref spA, .ref bfA, .ref lnA, .ref prA, iv ep, .ref rq]))] : va_W) ++ ([(rq, .inr (5, [pv0, pv1, pv2, pv3, pv4, pv5, iv wr, iv wd, .ref rq2]))] : va_W) ++ ([(rq2, .inr (5, [pw0, pw1, pw2, pw3, pw4, pw5, iv ws, iv wt, .null]))] : va_W)) (vx_runV (As := []) (rest := []) ⟨hx, hb, hml, hown, hts⟩ (mt_X1_refusal l E cw stA oaA osA hsn hdA spA bfA lnA prA ep (some rq)  (by exact hst) _) (cwV 0 hts (lw_V q1385 q1387 qs22 q94 q1388) rfl rfl rfl (by decide +kernel) ⟨Nat.le_of_ble_eq_true rfl, Nat.le_of_ble_eq_true rfl⟩) (UX_V hg_1P hK (hg_1D) hE hS hg_1F (va_recv hK.1 hP (ci := 1) (q0 := 0) rfl rfl)) rfl rfl hl.1 rfl (lv_room (Nat.le_of_ble_eq_true rfl)) dX1_refusalCause_1 ⟨Nat.le_of_ble_eq_true rfl, Nat.le_of_ble_eq_true rfl⟩) hS hg_1F ?_ ?_ ?_ ?_
  · exact (fun u_3 _ hk9 hp9 hd9 => g_back hg_1 (hj_5 u_3) hP hD hg_1F hk9 hp9 hd9)
  · exact (fun u_4 _ hk9 hp9 hd9 => g_back hg_1 (hj_6 u_4) hP hD hg_1F hk9 hp9 hd9)
  · intro En ce q9 u_4 H locs hCx hP hD hS hxf hq9 hce hcv hcl
    have hCx : En = "java/util/NoSuchElementException" ∧ (some rq) = none := hCx
    have hP : va_P E.1 CL (([(cw, .inr (1, [.ref stA, .ref oaA, .ref osA, iv hsn, .ref hdA, .ref spA, .ref bfA, .ref lnA, .ref prA, iv ep, .ref rq]))] : va_W) ++ ([(rq, .inr (5, [pv0, pv1, pv2, pv3, pv4, pv5, iv wr, iv wd, .ref rq2]))] : va_W) ++ ([(rq2, .inr (5, [pw0, pw1, pw2, pw3, pw4, pw5, iv ws, iv wt, .null]))] : va_W)) H := hP
    have hD : va_D A (([(cw, .inr (1, [.ref stA, .ref oaA, .ref osA, iv hsn, .ref hdA, .ref spA, .ref bfA, .ref lnA, .ref prA, iv ep, .ref rq]))] : va_W) ++ ([(rq, .inr (5, [pv0, pv1, pv2, pv3, pv4, pv5, iv wr, iv wd, .ref rq2]))] : va_W) ++ ([(rq2, .inr (5, [pw0, pw1, pw2, pw3, pw4, pw5, iv ws, iv wt, .null]))] : va_W)) := hD
    exact n_out () (by exact absurd hCx.2 (by intro h9; cases h9)) hP hD hS hxf (Nat.le_trans hz_2 hq9) hce hcv hcl (fun x hx9 => (htb x hx9).elim) hlocks (Nat.le_of_ble_eq_true rfl) (Nat.le_of_ble_eq_true rfl)
  · intro u_3 H locs hC hP hD hS
    have hu_3 : (some rq) = some u_3 := hC
    have hP : va_P E.1 CL (([(cw, .inr (1, [.ref stA, .ref oaA, .ref osA, iv hsn, .ref hdA, .ref spA, .ref bfA, .ref lnA, .ref prA, iv ep, .ref rq]))] : va_W) ++ ([(rq, .inr (5, [pv0, pv1, pv2, pv3, pv4, pv5, iv wr, iv wd, .ref rq2]))] : va_W) ++ ([(rq2, .inr (5, [pw0, pw1, pw2, pw3, pw4, pw5, iv ws, iv wt, .null]))] : va_W)) H := hP
    have hD : va_D A (([(cw, .inr (1, [.ref stA, .ref oaA, .ref osA, iv hsn, .ref hdA, .ref spA, .ref bfA, .ref lnA, .ref prA, iv ep, .ref rq]))] : va_W) ++ ([(rq, .inr (5, [pv0, pv1, pv2, pv3, pv4, pv5, iv wr, iv wd, .ref rq2]))] : va_W) ++ ([(rq2, .inr (5, [pw0, pw1, pw2, pw3, pw4, pw5, iv ws, iv wt, .null]))] : va_W)) := hD
    obtain rfl := Option.some.inj hu_3
    skip
    refine n_csi (x := ws) (va_runV (As := []) (rest := []) ⟨hx, hb, hml, hown, hts⟩ (mt_X6_originReasonr l E rq pv0 pv1 pv2 pv3 pv4 pv5 wr wd rq2 pw0 pw1 pw2 pw3 pw4 pw5 ws wt ) (cwV 0 hts (lw_V q1403 q1404 q1405 q117 q1406) rfl rfl rfl (by decide +kernel) ⟨Nat.le_of_ble_eq_true rfl, Nat.le_of_ble_eq_true rfl⟩) (PW_V (hP.sub (ws' := ([(rq, .inr (5, [pv0, pv1, pv2, pv3, pv4, pv5, iv wr, iv wd, .ref rq2]))] : va_W) ++ ([(rq2, .inr (5, [pw0, pw1, pw2, pw3, pw4, pw5, iv ws, iv wt, .null]))] : va_W)) [1, 2] rfl) hK (va_recv hK.1 hP (ci := 5) (q0 := 1) rfl rfl)) rfl rfl hl.1 rfl (lv_room (Nat.le_of_ble_eq_true rfl)) dX1_refusalCause_4 ⟨Nat.le_of_ble_eq_true rfl, Nat.le_of_ble_eq_true rfl⟩) ?_
    have hg_7 : gpick [[(cw, .inr (1, [.ref stA, .ref oaA, .ref osA, iv hsn, .ref hdA, .ref spA, .ref bfA, .ref lnA, .ref prA, iv ep, .ref rq]))], [(rq, .inr (5, [pv0, pv1, pv2, pv3, pv4, pv5, iv wr, iv wd, .ref rq2]))], [(rq2, .inr (5, [pw0, pw1, pw2, pw3, pw4, pw5, iv ws, iv wt, .null]))]] ([] ++ [[(cw, .inr (1, [.ref stA, .ref oaA, .ref osA, iv hsn, .ref hdA, .ref spA, .ref bfA, .ref lnA, .ref prA, iv ep, .ref rq]))], [(rq, .inr (5, [pv0, pv1, pv2, pv3, pv4, pv5, iv wr, iv wd, .ref rq2]))], [(rq2, .inr (5, [pw0, pw1, pw2, pw3, pw4, pw5, iv ws, iv wt, .null]))]]) [0, 1, 2] := ⟨rfl, (show List.Perm [0, 1, 2] (List.range 3) from by decide)⟩
    have hg_7P : va_P E.1 CL ([]) H := (g_out hg_7 hP hD).1
    have hg_7D : va_D A ([]) := (g_out hg_7 hP hD).2
    have hg_7F : ∀ q, va_A ([]) H.size q → A q := g_free hg_7 hP hD hS hA
    have hz_8 : s.heap.size ≤ H.size := hS.1
    have hj_11 : ∀ u_9 : Unit, gpick ([] ++ [[(cw, .inr (1, [.ref stA, .ref oaA, .ref osA, iv hsn, .ref hdA, .ref spA, .ref bfA, .ref lnA, .ref prA, iv ep, .ref rq]))], [(rq, .inr (5, [pv0, pv1, pv2, pv3, pv4, pv5, iv wr, iv wd, .ref rq2]))], [(rq2, .inr (5, [pw0, pw1, pw2, pw3, pw4, pw5, iv ws, iv wt, .null]))]]) [[(cw, .inr (1, [.ref stA, .ref oaA, .ref osA, iv hsn, .ref hdA, .ref spA, .ref bfA, .ref lnA, .ref prA, iv ep, .ref rq]))], [(rq, .inr (5, [pv0, pv1, pv2, pv3, pv4, pv5, iv wr, iv wd, .ref rq2]))], [(rq2, .inr (5, [pw0, pw1, pw2, pw3, pw4, pw5, iv ws, iv wt, .null]))]] [0, 1, 2] := fun u_9 => ⟨rfl, (show List.Perm [0, 1, 2] (List.range 3) from by decide)⟩
    have hj_12 : ∀ u_10 : Unit, gpick ([] ++ [[(cw, .inr (1, [.ref stA, .ref oaA, .ref osA, iv hsn, .ref hdA, .ref spA, .ref bfA, .ref lnA, .ref prA, iv ep, .ref rq]))], [(rq, .inr (5, [pv0, pv1, pv2, pv3, pv4, pv5, iv wr, iv wd, .ref rq2]))], [(rq2, .inr (5, [pw0, pw1, pw2, pw3, pw4, pw5, iv ws, iv wt, .null]))]]) [[(cw, .inr (1, [.ref stA, .ref oaA, .ref osA, iv hsn, .ref hdA, .ref spA, .ref bfA, .ref lnA, .ref prA, iv ep, .ref rq]))], [(rq, .inr (5, [pv0, pv1, pv2, pv3, pv4, pv5, iv wr, iv wd, .ref rq2]))], [(rq2, .inr (5, [pw0, pw1, pw2, pw3, pw4, pw5, iv ws, iv wt, .null]))]] [0, 1, 2] := fun u_10 => ⟨rfl, (show List.Perm [0, 1, 2] (List.range 3) from by decide)⟩
    refine n_txB (x := fun u_9 => ws) (w2 := fun u_9 => ([(cw, .inr (1, [.ref stA, .ref oaA, .ref osA, iv hsn, .ref hdA, .ref spA, .ref bfA, .ref lnA, .ref prA, iv ep, .ref rq]))] : va_W) ++ ([(rq, .inr (5, [pv0, pv1, pv2, pv3, pv4, pv5, iv wr, iv wd, .ref rq2]))] : va_W) ++ ([(rq2, .inr (5, [pw0, pw1, pw2, pw3, pw4, pw5, iv ws, iv wt, .null]))] : va_W)) (w3 := fun u_10 => ([(cw, .inr (1, [.ref stA, .ref oaA, .ref osA, iv hsn, .ref hdA, .ref spA, .ref bfA, .ref lnA, .ref prA, iv ep, .ref rq]))] : va_W) ++ ([(rq, .inr (5, [pv0, pv1, pv2, pv3, pv4, pv5, iv wr, iv wd, .ref rq2]))] : va_W) ++ ([(rq2, .inr (5, [pw0, pw1, pw2, pw3, pw4, pw5, iv ws, iv wt, .null]))] : va_W)) (vx_runS (As := [iv ws]) (rest := []) ⟨hx, hb, hml, hown, hts⟩ (mt_X1_found l E ws (by exact hst) (by omega) _) (va_cwS 1 hts (lw_S q1204 q1038 q94 q1039) rfl rfl rfl (by decide +kernel) ⟨Nat.le_of_ble_eq_true rfl, Nat.le_of_ble_eq_true rfl⟩) (UX_S hg_7P hK (hg_7D) hE hS hg_7F) rfl rfl hl.1 rfl (lv_room (Nat.le_of_ble_eq_true rfl)) dX1_refusalCause_7 ⟨Nat.le_of_ble_eq_true rfl, Nat.le_of_ble_eq_true rfl⟩) hS hg_7F ?_ ?_ ?_ ?_
    · exact (fun u_9 _ hk9 hp9 hd9 => g_back hg_7 (hj_11 u_9) hP hD hg_7F hk9 hp9 hd9)
    · exact (fun u_10 _ hk9 hp9 hd9 => g_back hg_7 (hj_12 u_10) hP hD hg_7F hk9 hp9 hd9)
    · intro En ce q9 u_10 H locs hCx hP hD hS hxf hq9 hce hcv hcl
      have hCx : En = "java/util/NoSuchElementException" ∧ ws = -1 := hCx
      have hP : va_P E.1 CL (([(cw, .inr (1, [.ref stA, .ref oaA, .ref osA, iv hsn, .ref hdA, .ref spA, .ref bfA, .ref lnA, .ref prA, iv ep, .ref rq]))] : va_W) ++ ([(rq, .inr (5, [pv0, pv1, pv2, pv3, pv4, pv5, iv wr, iv wd, .ref rq2]))] : va_W) ++ ([(rq2, .inr (5, [pw0, pw1, pw2, pw3, pw4, pw5, iv ws, iv wt, .null]))] : va_W)) H := hP
      have hD : va_D A (([(cw, .inr (1, [.ref stA, .ref oaA, .ref osA, iv hsn, .ref hdA, .ref spA, .ref bfA, .ref lnA, .ref prA, iv ep, .ref rq]))] : va_W) ++ ([(rq, .inr (5, [pv0, pv1, pv2, pv3, pv4, pv5, iv wr, iv wd, .ref rq2]))] : va_W) ++ ([(rq2, .inr (5, [pw0, pw1, pw2, pw3, pw4, pw5, iv ws, iv wt, .null]))] : va_W)) := hD
      exact n_out () (by exact absurd hCx.2 (by omega)) hP hD hS hxf (Nat.le_trans hz_8 hq9) hce hcv hcl (fun x hx9 => (htb x hx9).elim) hlocks (Nat.le_of_ble_eq_true rfl) (Nat.le_of_ble_eq_true rfl)
    · intro u_9 H locs hC hP hD hS
      have hu_9 : ¬ ws = -1 := hC
      have hP : va_P E.1 CL (([(cw, .inr (1, [.ref stA, .ref oaA, .ref osA, iv hsn, .ref hdA, .ref spA, .ref bfA, .ref lnA, .ref prA, iv ep, .ref rq]))] : va_W) ++ ([(rq, .inr (5, [pv0, pv1, pv2, pv3, pv4, pv5, iv wr, iv wd, .ref rq2]))] : va_W) ++ ([(rq2, .inr (5, [pw0, pw1, pw2, pw3, pw4, pw5, iv ws, iv wt, .null]))] : va_W)) H := hP
      have hD : va_D A (([(cw, .inr (1, [.ref stA, .ref oaA, .ref osA, iv hsn, .ref hdA, .ref spA, .ref bfA, .ref lnA, .ref prA, iv ep, .ref rq]))] : va_W) ++ ([(rq, .inr (5, [pv0, pv1, pv2, pv3, pv4, pv5, iv wr, iv wd, .ref rq2]))] : va_W) ++ ([(rq2, .inr (5, [pw0, pw1, pw2, pw3, pw4, pw5, iv ws, iv wt, .null]))] : va_W)) := hD
      refine vx_ret ?_
      refine W.widen (k := 2) (n := 12) (Nat.le_of_ble_eq_true rfl) (Nat.le_of_ble_eq_true rfl) ?_
      exact W.iret (v := iI ws) hx hb hr (fun tt_ ht_ hW_ => ⟨⟨iI ws, (), rfl, ⟨by unfold c_zero; rw [if_neg (by omega)], rfl⟩, by rw [ht_]; exact hP, hD⟩, hS.F ht_⟩) hS.2.2 dX1_refusalCause_10
