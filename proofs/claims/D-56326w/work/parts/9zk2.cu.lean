set_option maxHeartbeats 2000000 in
set_option maxRecDepth 100000 in
theorem mt_X1_performOne_20 (l : Launch) (E : EE) (o : Nat → Nat) (sc : Nat → Int) (ar : Nat → Int → Int) (i9 : Int) (g : Int → Int) (hst : l.stackTraces = false) (hsr : SR g sc ar) (hg0 : 0 ≤ g 0) (hi9 : -2147483648 ≤ i9 ∧ i9 < 2147483648) (sz : Nat) : vx_Met l yX1_performOne (wsW_ yX1_performOne cX1_performOne 4 none [(0, 8, 11, 7), (0, 8, 24, 68), (0, 8, 24, 74), (0, 8, 24, 77), (0, 8, 24, 71)]) { frames := 10, cells := 3, slots := 24, locals := 166 } (va_Pc [.ref (o 0), .ref (EX E 3020), iv i9] (UX E (SW E o sc ar) sz)) (UQxv E (fun u : SU => (∃ q, A_open g = .inr (.inr q)) ∧ SR (rs_g g (A_open g)) u.1 u.2) (fun u : SU => SW E o u.1 u.2) (va_A (SW E o sc ar) sz)) (UXx E (fun (En : String) (u : SU × Nat × List Value) => En = "ClockworkTailor$Refusal" ∧ OSH (A_open g) u.2.1 u.2.2) (fun u : SU × Nat × List Value => (SW E o u.1.1 u.1.2) ++ (([(u.2.1, .inr (5, u.2.2))] : va_W))) (fun u : SU × Nat × List Value => some (5, [iv 8, iv i9, .ref u.2.1])) (va_A (SW E o sc ar) sz)) 3 24 (va_A (SW E o sc ar) sz) := by
  refine vx_ofWH (hh := [(0, 8, 11, 7), (0, 8, 24, 68), (0, 8, 24, 74), (0, 8, 24, 77), (0, 8, 24, 71)]) (cc := cX1_performOne) (maxL := 4) (ret := none) (by decide) rfl ?_
  intro p e s m args below meth c s₁ B hml hv
  obtain ⟨rfl, hsz, hP, hK, hD0, hE⟩ := hv
  have hx := B.exec
  have hb := B.bytes
  have hr := B.returns
  have hts := atoms_spec (ws := (wsW_ yX1_performOne cX1_performOne 4 none [(0, 8, 11, 7), (0, 8, 24, 68), (0, 8, 24, 74), (0, 8, 24, 77), (0, 8, 24, 71)])) B.pre
  have htab : c.exceptionTable.toList = tableOf [(0, 8, 11, 7), (0, 8, 24, 68), (0, 8, 24, 74), (0, 8, 24, 77), (0, 8, 24, 71)] := vx_table (x := yX1_performOne) B (hts _ List.mem_cons_self)
  have hts : ∀ w ∈ lw_all, w.before _ s = true := fun w h => hts w (List.mem_cons_of_mem _ h)
  have hown : s.vm.findClass RX1 = some m.cls := findClass_of_methodNamed B.named
  have hlocks := B.notSynchronized
  subst hsz
  have hD := hD0.self (sz := s.heap.size)
  generalize hAe : va_A (SW E o sc ar) s.heap.size = A at hD hE ⊢
  have hA : ∀ q : Nat, s.heap.size ≤ q → A q := fun q h => by rw [← hAe]; exact Or.inr h
  have hS : va_S A s.heap s.heap [] := va_S.rf
  have hl := lv_entry ([.ref (o 0), .ref (EX E 3020), iv i9]) (n := 4) (Nat.le_of_ble_eq_true rfl)
  rw [lg_entry_eq]
  generalize (lg_sl ([.ref (o 0), .ref (EX E 3020), iv i9]) ++ List.replicate (4 - (lg_sl ([.ref (o 0), .ref (EX E 3020), iv i9])).length) Slot.unset).toArray = ls at hl ⊢
  have hl : lv_has ls 4 [(0, .ref (o 0)), (1, .ref (EX E 3020)), (2, iv i9)] := hl
  refine lv_aload_n hx hb dX1_performOne_0 rfl (lv_at hl 1 rfl) ?_
  refine lv_aload_n hx hb dX1_performOne_1 rfl (lv_at hl 0 rfl) ?_
  obtain ⟨ce9, hce9, hcl9, hcv9, -, hnA9⟩ := hE.l20
  have hce9 : s.heap[EX E 3020]? = some ce9 := (hS.2.1 _ (Array.getElem?_eq_some_iff.mp hce9).1 hnA9).trans hce9
  have hlt_1 := P_lts hP
  have hz_2 : s.heap.size ≤ s.heap.size := hS.1
  refine n_tx5S (x := fun u_3 => rs_val 0 (A_open g)) (w2 := fun u_3 => SW E o u_3.1 u_3.2) (w3 := fun u_4 => SW E o u_4.1 u_4.2.1) (n_fwS4 (rest := []) hx hb (hl.1.trans hml.symm) hts hK hown (hts _ q924) ls_20 rfl (by decide +kernel) lk_20 ⟨rfl, rfl, by decide +kernel⟩ (y := yX4_lambda_opening_6) ⟨rfl, rfl, by decide +kernel, rfl⟩ ⟨by decide +kernel, by decide +kernel⟩ q1896 q103 (sig := ⟨[.object "ClockworkTailor$State"], some .int⟩) (by decide +kernel) rfl (mt_X4_lambda_opening_6 l E o sc ar  g (by exact hst) (by assumption) (by assumption) _) rfl rfl q1895 hce9 hcl9 hcv9 (UX_S hP hK (hD) hE hS (va_A_in hD hS hA)) (Nat.le_of_ble_eq_true rfl) (Nat.le_of_ble_eq_true rfl) (Nat.le_of_ble_eq_true rfl) (Nat.le_of_ble_eq_true rfl) dX1_performOne_2) hP hD hS hA [0, 1, 2, 3, 4, 5, 6, 7, 8, 9, 10, 11, 12, 13, 14, 15, 16] [] [0, 1, 2, 3, 4, 5, 6, 7, 8, 9, 10, 11, 12, 13, 14, 15, 16] [0, 1, 2, 3, 4, 5, 6, 7, 8, 9, 10, 11, 12, 13, 14, 15, 16] rfl rfl rfl rfl rfl (fun _ => rfl) rfl (fun _ => rfl) ?_ ?_
  · intro En ce q9 u_4 H locs hCx hP hD hS hxf hq9 hce hcv hcl
    have hCx : XC1 (nmX "java/lang/IllegalStateException" "" "") (A_open g) En u_4.2.2 := hCx
    have hP : va_P E.1 CL (SW E o u_4.1 u_4.2.1) H := hP
    have hD : va_D A (SW E o u_4.1 u_4.2.1) := hD
    rcases hCx with ⟨c9, hc9, hEn9⟩ | ⟨wd9, hA9, hEn9, hz9x⟩
    · have hNM : En = "java/lang/IllegalStateException" := by
        rw [hEn9]
        have h9 := hnm_open hc9
        subst h9
        rfl
      clear hEn9
      subst hNM
      refine vx_catch (own := "ClockworkTailor") hown [_, _] _ [_, _] htab (fun z hz => by
          simp only [List.mem_cons, List.not_mem_nil, or_false] at hz
          rcases hz with rfl | rfl
          · exact Or.inr ⟨by decide, "ClockworkTailor$Refusal", hts _ q815, hK.kx.2.2.2.2.2 (_, _) (by decide)⟩
          · exact Or.inr ⟨by decide, "java/lang/IllegalArgumentException", hts _ q892, hK.kx.2.2.2.2.2 (_, _) (by decide)⟩) (by decide) (by decide) (name := "java/lang/IllegalStateException") (hts _ q913) (hK.nw q357) hce hcv hcl ?_
      refine lv_astore_n (lv' := [(3, .ref q9), (0, .ref (o 0)), (1, .ref (EX E 3020)), (2, iv i9)]) hx hb dX1_performOne_24 rfl hl (by decide) rfl (fun ls hl => ?_)
      have hz9_q_5 : s.heap.size ≤ (H).size := hS.1
      refine n_newK (ci := 5) (fs := [.null, .null, .null, .null, .null, iv 0, iv 0, iv 0, .null]) (C := RX6) (T := TX6) (N := 9) hx hb hts in_X6 tyX6 tyX6_ok hown (hts _ q815) (hts _ q816) (hts _ q117) hK hP hD hS hA rfl (fun j hj => by rcases (show j = 0 ∨ j = 1 ∨ j = 2 ∨ j = 3 ∨ j = 4 ∨ j = 5 ∨ j = 6 ∨ j = 7 ∨ j = 8 by omega) with rfl | rfl | rfl | rfl | rfl | rfl | rfl | rfl | rfl <;> rfl) (Nat.le_of_ble_eq_true rfl) (Nat.le_of_ble_eq_true rfl) dX1_performOne_25 (fun q_5 H hfr_q_5 o_6 hsz_q_5 hP hD hS => ?_)
      have hge_q_5 : s.heap.size ≤ q_5 := Nat.le_trans hz9_q_5 hsz_q_5
      have hP : va_P E.1 CL ((SW E o u_4.1 u_4.2.1) ++ ([(q_5, .inr (5, [.null, .null, .null, .null, .null, iv 0, iv 0, iv 0, .null]))] : va_W)) H := hP
      have hD : va_D A ((SW E o u_4.1 u_4.2.1) ++ ([(q_5, .inr (5, [.null, .null, .null, .null, .null, iv 0, iv 0, iv 0, .null]))] : va_W)) := hD
      refine lv_dup hx hb dX1_performOne_28 rfl ?_
      refine lv_bipush (v := iI 8) hx hb dX1_performOne_29 (by decide) ?_
      refine lv_iload_n hx hb dX1_performOne_31 rfl (lv_at hl 3 rfl) ?_
      have hz9_q_7 : s.heap.size ≤ (H).size := hS.1
      refine n_newK (ci := 5) (fs := [.null, .null, .null, .null, .null, iv 0, iv 0, iv 0, .null]) (C := RX6) (T := TX6) (N := 9) hx hb hts in_X6 tyX6 tyX6_ok hown (hts _ q815) (hts _ q816) (hts _ q117) hK hP hD hS hA rfl (fun j hj => by rcases (show j = 0 ∨ j = 1 ∨ j = 2 ∨ j = 3 ∨ j = 4 ∨ j = 5 ∨ j = 6 ∨ j = 7 ∨ j = 8 by omega) with rfl | rfl | rfl | rfl | rfl | rfl | rfl | rfl | rfl <;> rfl) (Nat.le_of_ble_eq_true rfl) (Nat.le_of_ble_eq_true rfl) dX1_performOne_32 (fun q_7 H hfr_q_7 o_8 hsz_q_7 hP hD hS => ?_)
      have hge_q_7 : s.heap.size ≤ q_7 := Nat.le_trans hz9_q_7 hsz_q_7
      have hne_q_5_q_7 : q_5 ≠ q_7 := Nat.ne_of_lt (Nat.lt_of_lt_of_le hfr_q_5.lt hsz_q_7)
      have hfr_q_5 := hfr_q_5.kept (o_8 q_5 hfr_q_5.lt)
      have hP : va_P E.1 CL ((SW E o u_4.1 u_4.2.1) ++ ([(q_5, .inr (5, [.null, .null, .null, .null, .null, iv 0, iv 0, iv 0, .null]))] : va_W) ++ ([(q_7, .inr (5, [.null, .null, .null, .null, .null, iv 0, iv 0, iv 0, .null]))] : va_W)) H := hP
      have hD : va_D A ((SW E o u_4.1 u_4.2.1) ++ ([(q_5, .inr (5, [.null, .null, .null, .null, .null, iv 0, iv 0, iv 0, .null]))] : va_W) ++ ([(q_7, .inr (5, [.null, .null, .null, .null, .null, iv 0, iv 0, iv 0, .null]))] : va_W)) := hD
      refine lv_dup hx hb dX1_performOne_35 rfl ?_
      refine lv_bipush (v := iI 9) hx hb dX1_performOne_36 (by decide) ?_
      refine lv_iconst (v := iI 0) hx hb dX1_performOne_38 rfl ?_
      refine n_cuxvSK (w2 := fun u_9 => (SW E o u_4.1 u_4.2.1) ++ ([(q_5, .inr (5, [.null, .null, .null, .null, .null, iv 0, iv 0, iv 0, .null]))] : va_W) ++ ([(q_7, .inr (5, u_9 ++ [iv 9, iv 0, va_rf none]))] : va_W)) (va_runI (As := [iv 9, iv 0]) (rest := [.ref q_7, iv i9, iv 8, .ref q_5, .ref q_5]) ⟨hx, hb, hml, hown, hts⟩ (mt_X6_init l E q_7 [.null, .null, .null, .null, .null, iv 0, iv 0, iv 0, .null] 9 0 hst _) (n_cwI 2 hts q824 q825 q117 q826 rfl rfl rfl (by decide +kernel) ⟨Nat.le_of_ble_eq_true rfl, Nat.le_of_ble_eq_true rfl⟩) (UF_S (hP.sub (ws' := [(q_7, .inr (5, [.null, .null, .null, .null, .null, iv 0, iv 0, iv 0, .null]))]) [18] rfl) hK (hD.sub (ws' := [(q_7, .inr (5, [.null, .null, .null, .null, .null, iv 0, iv 0, iv 0, .null]))]) [18] rfl rfl) hE hS (va_sub_free hD hS hA [18] rfl) hfr_q_7) rfl rfl hl.1 rfl (lv_room (Nat.le_of_ble_eq_true rfl)) dX1_performOne_39 ⟨Nat.le_of_ble_eq_true rfl, Nat.le_of_ble_eq_true rfl⟩) hP hD hS hA [18] [0, 1, 2, 3, 4, 5, 6, 7, 8, 9, 10, 11, 12, 13, 14, 15, 16, 17] [0, 1, 2, 3, 4, 5, 6, 7, 8, 9, 10, 11, 12, 13, 14, 15, 16, 17, 18] rfl rfl rfl rfl rfl (fun _ => rfl) (fun u_9 H locs hk_10 hu_9 hP hD hS => ?_)
      have hfr_q_5 := hfr_q_5.kept (hk_10 q_5 hfr_q_5.lt (n_notA hfr_q_5.lt hne_q_5_q_7))
      have hu_9 : u_9.length = 6 := hu_9
      have hP : va_P E.1 CL ((SW E o u_4.1 u_4.2.1) ++ ([(q_5, .inr (5, [.null, .null, .null, .null, .null, iv 0, iv 0, iv 0, .null]))] : va_W) ++ ([(q_7, .inr (5, u_9 ++ [iv 9, iv 0, va_rf none]))] : va_W)) H := hP
      have hD : va_D A ((SW E o u_4.1 u_4.2.1) ++ ([(q_5, .inr (5, [.null, .null, .null, .null, .null, iv 0, iv 0, iv 0, .null]))] : va_W) ++ ([(q_7, .inr (5, u_9 ++ [iv 9, iv 0, va_rf none]))] : va_W)) := hD
      refine n_cuxvSK (w2 := fun u_11 => (SW E o u_4.1 u_4.2.1) ++ ([(q_5, .inr (5, u_11 ++ [iv 8, iv i9, va_rf (some q_7)]))] : va_W) ++ ([(q_7, .inr (5, u_9 ++ [iv 9, iv 0, va_rf none]))] : va_W)) (va_runI (As := [iv 8, iv i9, .ref q_7]) (rest := [.ref q_5]) ⟨hx, hb, hml, hown, hts⟩ (mt_X6_init_2 l E q_5 [.null, .null, .null, .null, .null, iv 0, iv 0, iv 0, .null] 8 i9 (some q_7) hst _) (n_cwI 3 hts q1993 q828 q117 q829 rfl rfl rfl (by decide +kernel) ⟨Nat.le_of_ble_eq_true rfl, Nat.le_of_ble_eq_true rfl⟩) (UF_S (hP.sub (ws' := [(q_5, .inr (5, [.null, .null, .null, .null, .null, iv 0, iv 0, iv 0, .null]))]) [17] rfl) hK (hD.sub (ws' := [(q_5, .inr (5, [.null, .null, .null, .null, .null, iv 0, iv 0, iv 0, .null]))]) [17] rfl rfl) hE hS (va_sub_free hD hS hA [17] rfl) hfr_q_5) rfl rfl hl.1 rfl (lv_room (Nat.le_of_ble_eq_true rfl)) dX1_performOne_42 ⟨Nat.le_of_ble_eq_true rfl, Nat.le_of_ble_eq_true rfl⟩) hP hD hS hA [17] [0, 1, 2, 3, 4, 5, 6, 7, 8, 9, 10, 11, 12, 13, 14, 15, 16, 18] [0, 1, 2, 3, 4, 5, 6, 7, 8, 9, 10, 11, 12, 13, 14, 15, 16, 18, 17] rfl rfl rfl rfl rfl (fun _ => rfl) (fun u_11 H locs hk_12 hu_11 hP hD hS => ?_)
      have hu_11 : u_11.length = 6 := hu_11
      have hP : va_P E.1 CL ((SW E o u_4.1 u_4.2.1) ++ ([(q_5, .inr (5, u_11 ++ [iv 8, iv i9, va_rf (some q_7)]))] : va_W) ++ ([(q_7, .inr (5, u_9 ++ [iv 9, iv 0, va_rf none]))] : va_W)) H := hP
      have hD : va_D A ((SW E o u_4.1 u_4.2.1) ++ ([(q_5, .inr (5, u_11 ++ [iv 8, iv i9, va_rf (some q_7)]))] : va_W) ++ ([(q_7, .inr (5, u_9 ++ [iv 9, iv 0, va_rf none]))] : va_W)) := hD
      have hP9 := hP.sub (ws' := (SW E o u_4.1 u_4.2.1) ++ ([(q_7, .inr (5, u_9 ++ [iv 9, iv 0, va_rf none]))] : va_W)) [0, 1, 2, 3, 4, 5, 6, 7, 8, 9, 10, 11, 12, 13, 14, 15, 16, 18] rfl
      have hD9 := hD.sub (ws' := (SW E o u_4.1 u_4.2.1) ++ ([(q_7, .inr (5, u_9 ++ [iv 9, iv 0, va_rf none]))] : va_W)) [0, 1, 2, 3, 4, 5, 6, 7, 8, 9, 10, 11, 12, 13, 14, 15, 16, 18] (by decide) rfl
      have hPq := hP.sub (ws' := [(q_5, .inr (5, u_11 ++ [iv 8, iv i9, va_rf (some q_7)]))]) [17] rfl
      exact n_athrow ((u_4.1, u_4.2.1), q_7, u_9 ++ [iv 9, iv 0, va_rf none]) hx hb dX1_performOne_45 (k0 := 17) (ci := 5) (C0 := "ClockworkTailor$Refusal") (T0 := TX6) (N0 := 9) rfl rfl hK hP (by exact ⟨rfl, OSH_c hc9 hu_9⟩) hP9 hD9 hS (by exact fun y hy => by cases hy; exact ⟨u_11, hu_11, hPq⟩) hge_q_5 (by rw [htab]; decide) hlocks (Nat.le_of_ble_eq_true rfl) (Nat.le_of_ble_eq_true rfl)
    · subst hEn9
      obtain ⟨pre9, hpre9, hPq9⟩ := hxf _ hz9x
      refine vx_catch (own := "ClockworkTailor") hown [] _ [_, _, _, _] htab (fun z hz => by cases hz) (by decide) (by decide) (name := "ClockworkTailor$Refusal") (hts _ q815) (hK.nw q817) hce hcv hcl ?_
      obtain ⟨hP, hD⟩ := n_joinX hlt_1 (show List.map Prod.fst (SW E o u_4.1 u_4.2.1) = _ from rfl) hP hD hq9 (hA _ (Nat.le_trans hz_2 hq9)) hPq9
      have hP : va_P E.1 CL ((SW E o u_4.1 u_4.2.1) ++ ([(q9, .inr (5, (pre9 ++ [iv wd9.1, iv wd9.2, .null])))] : va_W)) H := hP
      have hD : va_D A ((SW E o u_4.1 u_4.2.1) ++ ([(q9, .inr (5, (pre9 ++ [iv wd9.1, iv wd9.2, .null])))] : va_W)) := hD
      refine lv_astore_n (lv' := [(3, .ref q9), (0, .ref (o 0)), (1, .ref (EX E 3020)), (2, iv i9)]) hx hb dX1_performOne_11 rfl hl (by decide) rfl (fun ls hl => ?_)
      have hz9_q_13 : s.heap.size ≤ (H).size := hS.1
      refine n_newK (ci := 5) (fs := [.null, .null, .null, .null, .null, iv 0, iv 0, iv 0, .null]) (C := RX6) (T := TX6) (N := 9) hx hb hts in_X6 tyX6 tyX6_ok hown (hts _ q815) (hts _ q816) (hts _ q117) hK hP hD hS hA rfl (fun j hj => by rcases (show j = 0 ∨ j = 1 ∨ j = 2 ∨ j = 3 ∨ j = 4 ∨ j = 5 ∨ j = 6 ∨ j = 7 ∨ j = 8 by omega) with rfl | rfl | rfl | rfl | rfl | rfl | rfl | rfl | rfl <;> rfl) (Nat.le_of_ble_eq_true rfl) (Nat.le_of_ble_eq_true rfl) dX1_performOne_12 (fun q_13 H hfr_q_13 o_14 hsz_q_13 hP hD hS => ?_)
      have hge_q_13 : s.heap.size ≤ q_13 := Nat.le_trans hz9_q_13 hsz_q_13
      have hP : va_P E.1 CL ((SW E o u_4.1 u_4.2.1) ++ ([(q9, .inr (5, (pre9 ++ [iv wd9.1, iv wd9.2, .null])))] : va_W) ++ ([(q_13, .inr (5, [.null, .null, .null, .null, .null, iv 0, iv 0, iv 0, .null]))] : va_W)) H := hP
      have hD : va_D A ((SW E o u_4.1 u_4.2.1) ++ ([(q9, .inr (5, (pre9 ++ [iv wd9.1, iv wd9.2, .null])))] : va_W) ++ ([(q_13, .inr (5, [.null, .null, .null, .null, .null, iv 0, iv 0, iv 0, .null]))] : va_W)) := hD
      refine lv_dup hx hb dX1_performOne_15 rfl ?_
      refine lv_bipush (v := iI 8) hx hb dX1_performOne_16 (by decide) ?_
      refine lv_iload_n hx hb dX1_performOne_18 rfl (lv_at hl 3 rfl) ?_
      refine lv_aload_n hx hb dX1_performOne_19 rfl (lv_at hl 0 rfl) ?_
      refine n_cuxvSK (w2 := fun u_15 => (SW E o u_4.1 u_4.2.1) ++ ([(q9, .inr (5, (pre9 ++ [iv wd9.1, iv wd9.2, .null])))] : va_W) ++ ([(q_13, .inr (5, u_15 ++ [iv 8, iv i9, va_rf (some q9)]))] : va_W)) (va_runI (As := [iv 8, iv i9, .ref q9]) (rest := [.ref q_13]) ⟨hx, hb, hml, hown, hts⟩ (mt_X6_init_2 l E q_13 [.null, .null, .null, .null, .null, iv 0, iv 0, iv 0, .null] 8 i9 (some q9) hst _) (n_cwI 3 hts q1993 q828 q117 q829 rfl rfl rfl (by decide +kernel) ⟨Nat.le_of_ble_eq_true rfl, Nat.le_of_ble_eq_true rfl⟩) (UF_S (hP.sub (ws' := [(q_13, .inr (5, [.null, .null, .null, .null, .null, iv 0, iv 0, iv 0, .null]))]) [18] rfl) hK (hD.sub (ws' := [(q_13, .inr (5, [.null, .null, .null, .null, .null, iv 0, iv 0, iv 0, .null]))]) [18] rfl rfl) hE hS (va_sub_free hD hS hA [18] rfl) hfr_q_13) rfl rfl hl.1 rfl (lv_room (Nat.le_of_ble_eq_true rfl)) dX1_performOne_20 ⟨Nat.le_of_ble_eq_true rfl, Nat.le_of_ble_eq_true rfl⟩) hP hD hS hA [18] [0, 1, 2, 3, 4, 5, 6, 7, 8, 9, 10, 11, 12, 13, 14, 15, 16, 17] [0, 1, 2, 3, 4, 5, 6, 7, 8, 9, 10, 11, 12, 13, 14, 15, 16, 17, 18] rfl rfl rfl rfl rfl (fun _ => rfl) (fun u_15 H locs hk_16 hu_15 hP hD hS => ?_)
      have hu_15 : u_15.length = 6 := hu_15
      have hP : va_P E.1 CL ((SW E o u_4.1 u_4.2.1) ++ ([(q9, .inr (5, (pre9 ++ [iv wd9.1, iv wd9.2, .null])))] : va_W) ++ ([(q_13, .inr (5, u_15 ++ [iv 8, iv i9, va_rf (some q9)]))] : va_W)) H := hP
      have hD : va_D A ((SW E o u_4.1 u_4.2.1) ++ ([(q9, .inr (5, (pre9 ++ [iv wd9.1, iv wd9.2, .null])))] : va_W) ++ ([(q_13, .inr (5, u_15 ++ [iv 8, iv i9, va_rf (some q9)]))] : va_W)) := hD
      have hP9 := hP.sub (ws' := (SW E o u_4.1 u_4.2.1) ++ ([(q9, .inr (5, (pre9 ++ [iv wd9.1, iv wd9.2, .null])))] : va_W)) [0, 1, 2, 3, 4, 5, 6, 7, 8, 9, 10, 11, 12, 13, 14, 15, 16, 17] rfl
      have hD9 := hD.sub (ws' := (SW E o u_4.1 u_4.2.1) ++ ([(q9, .inr (5, (pre9 ++ [iv wd9.1, iv wd9.2, .null])))] : va_W)) [0, 1, 2, 3, 4, 5, 6, 7, 8, 9, 10, 11, 12, 13, 14, 15, 16, 17] (by decide) rfl
      have hPq := hP.sub (ws' := [(q_13, .inr (5, u_15 ++ [iv 8, iv i9, va_rf (some q9)]))]) [18] rfl
      exact n_athrow ((u_4.1, u_4.2.1), q9, (pre9 ++ [iv wd9.1, iv wd9.2, .null])) hx hb dX1_performOne_23 (k0 := 18) (ci := 5) (C0 := "ClockworkTailor$Refusal") (T0 := TX6) (N0 := 9) rfl rfl hK hP (by exact ⟨rfl, OSH_w hA9 hpre9⟩) hP9 hD9 hS (by exact fun y hy => by cases hy; exact ⟨u_15, hu_15, hPq⟩) hge_q_13 (by rw [htab]; decide) hlocks (Nat.le_of_ble_eq_true rfl) (Nat.le_of_ble_eq_true rfl)
  · intro u_3 H locs hC hP hD hS
    have hu_3 : (∃ q, A_open g = .inr (.inr q)) ∧ SR (rs_g g (A_open g)) u_3.1 u_3.2 := hC
    have hP : va_P E.1 CL (SW E o u_3.1 u_3.2) H := hP
    have hD : va_D A (SW E o u_3.1 u_3.2) := hD
    refine lv_istore_n (lv' := [(3, iv (rs_val 0 (A_open g))), (0, .ref (o 0)), (1, .ref (EX E 3020)), (2, iv i9)]) hx hb dX1_performOne_7 rfl hl (by decide) rfl (fun ls hl => ?_)
    refine lv_goto (tgt := 46) hx hb dX1_performOne_8 (by decide) ?_
    refine vx_ret ?_
    refine W.widen (k := 3) (n := 24) (Nat.le_of_ble_eq_true rfl) (Nat.le_of_ble_eq_true rfl) ?_
    exact W.vret hx hb hr (fun tt_ ht_ hW_ => ⟨⟨(u_3.1, u_3.2), rfl, hu_3, by rw [ht_]; exact hP, hD⟩, hS.F ht_⟩) hS.2.2 dX1_performOne_46
set_option maxHeartbeats 2000000 in
set_option maxRecDepth 100000 in
theorem mt_X1_performOne_21 (l : Launch) (E : EE) (o : Nat → Nat) (sc : Nat → Int) (ar : Nat → Int → Int) (ch : Nat) (t : Int) (th : Int) (i9 : Int) (g : Int → Int) (r : Int → Nat) (fl : Int → Int) (hst : l.stackTraces = false) (hsr : SR g sc ar) (ht : 0 ≤ t ∧ t < 65536) (hth : -2147483648 ≤ th ∧ th < 2147483648) (htw : TW g) (hsw : SwOK g) (htm : TM g) (hhn : HN g) (hsc : SC g) (hrk : RK g r) (hr8 : ∀ t, 0 ≤ t → t < 8 → r t < 8) (how : OY g) (h60 : g 1 ≤ 60) (hfit : ∀ t, 0 ≤ t → t < 8 → ∀ th, g 1 + (m_dues g t th).1 ≤ 160) (hi9 : -2147483648 ≤ i9 ∧ i9 < 2147483648) (sz : Nat) : vx_Met l yX1_performOne (wsW_ yX1_performOne cX1_performOne 4 none [(0, 8, 11, 7), (0, 8, 24, 68), (0, 8, 24, 74), (0, 8, 24, 77), (0, 8, 24, 71)]) { frames := 24, cells := 6, slots := 43, locals := 706 } (va_Pc [.ref (o 0), .ref ch, iv i9] (UX E ((SW E o sc ar) ++ ([(ch, .inl (E.2 (3000 + 21), 2, .inl (fun zk : Nat => iI (if zk = 0 then t else th))))] : va_W)) sz)) (UQxv E (fun u : SU => (∃ q, A_make g fl t th = .inr (.inr q)) ∧ SR (rs_g g (A_make g fl t th)) u.1 u.2) (fun u : SU => (SW E o u.1 u.2) ++ ([(ch, .inl (E.2 (3000 + 21), 2, .inl (fun zk : Nat => iI (if zk = 0 then t else th))))] : va_W)) (va_A ((SW E o sc ar) ++ ([(ch, .inl (E.2 (3000 + 21), 2, .inl (fun zk : Nat => iI (if zk = 0 then t else th))))] : va_W)) sz)) (UXx E (fun (En : String) (u : SU × Nat × List Value) => En = "ClockworkTailor$Refusal" ∧ OSH (A_make g fl t th) u.2.1 u.2.2) (fun u : SU × Nat × List Value => (SW E o u.1.1 u.1.2) ++ ([(ch, .inl (E.2 (3000 + 21), 2, .inl (fun zk : Nat => iI (if zk = 0 then t else th))))] : va_W) ++ (([(u.2.1, .inr (5, u.2.2))] : va_W))) (fun u : SU × Nat × List Value => some (5, [iv 8, iv i9, .ref u.2.1])) (va_A ((SW E o sc ar) ++ ([(ch, .inl (E.2 (3000 + 21), 2, .inl (fun zk : Nat => iI (if zk = 0 then t else th))))] : va_W)) sz)) 6 43 (va_A ((SW E o sc ar) ++ ([(ch, .inl (E.2 (3000 + 21), 2, .inl (fun zk : Nat => iI (if zk = 0 then t else th))))] : va_W)) sz) := by
  refine vx_ofWH (hh := [(0, 8, 11, 7), (0, 8, 24, 68), (0, 8, 24, 74), (0, 8, 24, 77), (0, 8, 24, 71)]) (cc := cX1_performOne) (maxL := 4) (ret := none) (by decide) rfl ?_
  intro p e s m args below meth c s₁ B hml hv
  obtain ⟨rfl, hsz, hP, hK, hD0, hE⟩ := hv
  have hx := B.exec
  have hb := B.bytes
  have hr := B.returns
  have hts := atoms_spec (ws := (wsW_ yX1_performOne cX1_performOne 4 none [(0, 8, 11, 7), (0, 8, 24, 68), (0, 8, 24, 74), (0, 8, 24, 77), (0, 8, 24, 71)])) B.pre
  have htab : c.exceptionTable.toList = tableOf [(0, 8, 11, 7), (0, 8, 24, 68), (0, 8, 24, 74), (0, 8, 24, 77), (0, 8, 24, 71)] := vx_table (x := yX1_performOne) B (hts _ List.mem_cons_self)
  have hts : ∀ w ∈ lw_all, w.before _ s = true := fun w h => hts w (List.mem_cons_of_mem _ h)
  have hown : s.vm.findClass RX1 = some m.cls := findClass_of_methodNamed B.named
  have hlocks := B.notSynchronized
  subst hsz
  have hD := hD0.self (sz := s.heap.size)
  generalize hAe : va_A ((SW E o sc ar) ++ ([(ch, .inl (E.2 (3000 + 21), 2, .inl (fun zk : Nat => iI (if zk = 0 then t else th))))] : va_W)) s.heap.size = A at hD hE ⊢
  have hA : ∀ q : Nat, s.heap.size ≤ q → A q := fun q h => by rw [← hAe]; exact Or.inr h
  have hS : va_S A s.heap s.heap [] := va_S.rf
  have hl := lv_entry ([.ref (o 0), .ref ch, iv i9]) (n := 4) (Nat.le_of_ble_eq_true rfl)
  rw [lg_entry_eq]
  generalize (lg_sl ([.ref (o 0), .ref ch, iv i9]) ++ List.replicate (4 - (lg_sl ([.ref (o 0), .ref ch, iv i9])).length) Slot.unset).toArray = ls at hl ⊢
  have hl : lv_has ls 4 [(0, .ref (o 0)), (1, .ref ch), (2, iv i9)] := hl
  refine lv_aload_n hx hb dX1_performOne_0 rfl (lv_at hl 1 rfl) ?_
  refine lv_aload_n hx hb dX1_performOne_1 rfl (lv_at hl 0 rfl) ?_
  have hg_1 : gpick [SW E o sc ar, [(ch, .inl (E.2 (3000 + 21), 2, .inl (fun zk : Nat => iI (if zk = 0 then t else th))))]] ([SW E o sc ar] ++ [[(ch, .inl (E.2 (3000 + 21), 2, .inl (fun zk : Nat => iI (if zk = 0 then t else th))))]]) [0, 1] := ⟨rfl, (show List.Perm [0, 1] (List.range 2) from by decide)⟩
  have hg_1P : va_P E.1 CL (SW E o sc ar) s.heap := (g_out hg_1 hP hD).1
  have hg_1D : va_D A (SW E o sc ar) := (g_out hg_1 hP hD).2
  have hg_1F : ∀ q, va_A (SW E o sc ar) s.heap.size q → A q := g_free hg_1 hP hD hS hA
  have hlt_2 := P_lts hP
  have hz_3 : s.heap.size ≤ s.heap.size := hS.1
  have hj_6 : ∀ u_4 : SU, gpick ([SW E o u_4.1 u_4.2] ++ [[(ch, .inl (E.2 (3000 + 21), 2, .inl (fun zk : Nat => iI (if zk = 0 then t else th))))]]) [SW E o u_4.1 u_4.2, [(ch, .inl (E.2 (3000 + 21), 2, .inl (fun zk : Nat => iI (if zk = 0 then t else th))))]] [0, 1] := fun u_4 => ⟨rfl, (show List.Perm [0, 1] (List.range 2) from by decide)⟩
  have hj_7 : ∀ u_5 : SUX, gpick ([SW E o u_5.1 u_5.2.1] ++ [[(ch, .inl (E.2 (3000 + 21), 2, .inl (fun zk : Nat => iI (if zk = 0 then t else th))))]]) [SW E o u_5.1 u_5.2.1, [(ch, .inl (E.2 (3000 + 21), 2, .inl (fun zk : Nat => iI (if zk = 0 then t else th))))]] [0, 1] := fun u_5 => ⟨rfl, (show List.Perm [0, 1] (List.range 2) from by decide)⟩
  refine n_tx5B (x := fun u_4 => rs_val 0 (A_make g fl t th)) (w2 := fun u_4 => (SW E o u_4.1 u_4.2) ++ ([(ch, .inl (E.2 (3000 + 21), 2, .inl (fun zk : Nat => iI (if zk = 0 then t else th))))] : va_W)) (w3 := fun u_5 => (SW E o u_5.1 u_5.2.1) ++ ([(ch, .inl (E.2 (3000 + 21), 2, .inl (fun zk : Nat => iI (if zk = 0 then t else th))))] : va_W)) (n_fwS5 (rest := []) hx hb (hl.1.trans hml.symm) hts hK hown (hts _ q924) ls_21 rfl (by decide +kernel) lk_21 ⟨rfl, rfl, by decide +kernel⟩ (y := yX4_lambda_making_8) ⟨rfl, rfl, by decide +kernel, rfl⟩ ⟨by decide +kernel, by decide +kernel⟩ q1904 q103 (sig := ⟨[.char, .int, .object "ClockworkTailor$State"], some .int⟩) (by decide +kernel) rfl (mt_X4_lambda_making_8 l E o sc ar t th g r fl (by exact hst) (by assumption) (by omega) (by omega) (by assumption) (by assumption) (by assumption) (by assumption) (by assumption) (by assumption) (by assumption) (by assumption) (by assumption) (by assumption) _) rfl rfl q1903 (hP 17 _ rfl) rfl rfl rfl rfl (UX_S hg_1P hK (hg_1D) hE hS hg_1F) (Nat.le_of_ble_eq_true rfl) (Nat.le_of_ble_eq_true rfl) (Nat.le_of_ble_eq_true rfl) (Nat.le_of_ble_eq_true rfl) dX1_performOne_2) hS hg_1F ?_ ?_ ?_ ?_
  · exact (fun u_4 _ hk9 hp9 hd9 => g_back hg_1 (hj_6 u_4) hP hD hg_1F hk9 hp9 hd9)
  · exact (fun u_5 _ hk9 hp9 hd9 => g_back hg_1 (hj_7 u_5) hP hD hg_1F hk9 hp9 hd9)
  · intro En ce q9 u_5 H locs hCx hP hD hS hxf hq9 hce hcv hcl
    have hCx : XC1 (nmX "java/lang/IllegalArgumentException" "java/lang/IndexOutOfBoundsException" "") (A_make g fl t th) En u_5.2.2 := hCx
    have hP : va_P E.1 CL ((SW E o u_5.1 u_5.2.1) ++ ([(ch, .inl (E.2 (3000 + 21), 2, .inl (fun zk : Nat => iI (if zk = 0 then t else th))))] : va_W)) H := hP
    have hD : va_D A ((SW E o u_5.1 u_5.2.1) ++ ([(ch, .inl (E.2 (3000 + 21), 2, .inl (fun zk : Nat => iI (if zk = 0 then t else th))))] : va_W)) := hD
    rcases hCx with ⟨c9, hc9, hEn9⟩ | ⟨wd9, hA9, hEn9, hz9x⟩
    · have hNM : En = "java/lang/IllegalArgumentException" ∨ En = "java/lang/IndexOutOfBoundsException" := by
        rw [hEn9]
        rcases hnm_make hc9 with rfl | rfl
        all_goals first | exact Or.inl rfl | exact Or.inr rfl | exact Or.inr (Or.inl rfl) | exact Or.inr (Or.inr rfl)
      clear hEn9
      rcases hNM with rfl | rfl
      · refine vx_catch (own := "ClockworkTailor") hown [_] _ [_, _, _] htab (fun z hz => by
            simp only [List.mem_cons, List.not_mem_nil, or_false] at hz
            rcases hz with rfl
            · exact Or.inr ⟨by decide, "ClockworkTailor$Refusal", hts _ q815, hK.kx.2.2.2.2.2 (_, _) (by decide)⟩) (by decide) (by decide) (name := "java/lang/IllegalArgumentException") (hts _ q892) (hK.nw q894) hce hcv hcl ?_
        refine lv_astore_n (lv' := [(3, .ref q9), (0, .ref (o 0)), (1, .ref ch), (2, iv i9)]) hx hb dX1_performOne_24 rfl hl (by decide) rfl (fun ls hl => ?_)
        have hz9_q_8 : s.heap.size ≤ (H).size := hS.1
        refine n_newK (ci := 5) (fs := [.null, .null, .null, .null, .null, iv 0, iv 0, iv 0, .null]) (C := RX6) (T := TX6) (N := 9) hx hb hts in_X6 tyX6 tyX6_ok hown (hts _ q815) (hts _ q816) (hts _ q117) hK hP hD hS hA rfl (fun j hj => by rcases (show j = 0 ∨ j = 1 ∨ j = 2 ∨ j = 3 ∨ j = 4 ∨ j = 5 ∨ j = 6 ∨ j = 7 ∨ j = 8 by omega) with rfl | rfl | rfl | rfl | rfl | rfl | rfl | rfl | rfl <;> rfl) (Nat.le_of_ble_eq_true rfl) (Nat.le_of_ble_eq_true rfl) dX1_performOne_25 (fun q_8 H hfr_q_8 o_9 hsz_q_8 hP hD hS => ?_)
        have hge_q_8 : s.heap.size ≤ q_8 := Nat.le_trans hz9_q_8 hsz_q_8
        have hP : va_P E.1 CL ((SW E o u_5.1 u_5.2.1) ++ ([(ch, .inl (E.2 (3000 + 21), 2, .inl (fun zk : Nat => iI (if zk = 0 then t else th))))] : va_W) ++ ([(q_8, .inr (5, [.null, .null, .null, .null, .null, iv 0, iv 0, iv 0, .null]))] : va_W)) H := hP
        have hD : va_D A ((SW E o u_5.1 u_5.2.1) ++ ([(ch, .inl (E.2 (3000 + 21), 2, .inl (fun zk : Nat => iI (if zk = 0 then t else th))))] : va_W) ++ ([(q_8, .inr (5, [.null, .null, .null, .null, .null, iv 0, iv 0, iv 0, .null]))] : va_W)) := hD
        refine lv_dup hx hb dX1_performOne_28 rfl ?_
        refine lv_bipush (v := iI 8) hx hb dX1_performOne_29 (by decide) ?_
        refine lv_iload_n hx hb dX1_performOne_31 rfl (lv_at hl 3 rfl) ?_
        have hz9_q_10 : s.heap.size ≤ (H).size := hS.1
        refine n_newK (ci := 5) (fs := [.null, .null, .null, .null, .null, iv 0, iv 0, iv 0, .null]) (C := RX6) (T := TX6) (N := 9) hx hb hts in_X6 tyX6 tyX6_ok hown (hts _ q815) (hts _ q816) (hts _ q117) hK hP hD hS hA rfl (fun j hj => by rcases (show j = 0 ∨ j = 1 ∨ j = 2 ∨ j = 3 ∨ j = 4 ∨ j = 5 ∨ j = 6 ∨ j = 7 ∨ j = 8 by omega) with rfl | rfl | rfl | rfl | rfl | rfl | rfl | rfl | rfl <;> rfl) (Nat.le_of_ble_eq_true rfl) (Nat.le_of_ble_eq_true rfl) dX1_performOne_32 (fun q_10 H hfr_q_10 o_11 hsz_q_10 hP hD hS => ?_)
        have hge_q_10 : s.heap.size ≤ q_10 := Nat.le_trans hz9_q_10 hsz_q_10
        have hne_q_8_q_10 : q_8 ≠ q_10 := Nat.ne_of_lt (Nat.lt_of_lt_of_le hfr_q_8.lt hsz_q_10)
        have hfr_q_8 := hfr_q_8.kept (o_11 q_8 hfr_q_8.lt)
        have hP : va_P E.1 CL ((SW E o u_5.1 u_5.2.1) ++ ([(ch, .inl (E.2 (3000 + 21), 2, .inl (fun zk : Nat => iI (if zk = 0 then t else th))))] : va_W) ++ ([(q_8, .inr (5, [.null, .null, .null, .null, .null, iv 0, iv 0, iv 0, .null]))] : va_W) ++ ([(q_10, .inr (5, [.null, .null, .null, .null, .null, iv 0, iv 0, iv 0, .null]))] : va_W)) H := hP
        have hD : va_D A ((SW E o u_5.1 u_5.2.1) ++ ([(ch, .inl (E.2 (3000 + 21), 2, .inl (fun zk : Nat => iI (if zk = 0 then t else th))))] : va_W) ++ ([(q_8, .inr (5, [.null, .null, .null, .null, .null, iv 0, iv 0, iv 0, .null]))] : va_W) ++ ([(q_10, .inr (5, [.null, .null, .null, .null, .null, iv 0, iv 0, iv 0, .null]))] : va_W)) := hD
        refine lv_dup hx hb dX1_performOne_35 rfl ?_
        refine lv_bipush (v := iI 9) hx hb dX1_performOne_36 (by decide) ?_
        refine lv_iconst (v := iI 0) hx hb dX1_performOne_38 rfl ?_
        refine n_cuxvSK (w2 := fun u_12 => (SW E o u_5.1 u_5.2.1) ++ ([(ch, .inl (E.2 (3000 + 21), 2, .inl (fun zk : Nat => iI (if zk = 0 then t else th))))] : va_W) ++ ([(q_8, .inr (5, [.null, .null, .null, .null, .null, iv 0, iv 0, iv 0, .null]))] : va_W) ++ ([(q_10, .inr (5, u_12 ++ [iv 9, iv 0, va_rf none]))] : va_W)) (va_runI (As := [iv 9, iv 0]) (rest := [.ref q_10, iv i9, iv 8, .ref q_8, .ref q_8]) ⟨hx, hb, hml, hown, hts⟩ (mt_X6_init l E q_10 [.null, .null, .null, .null, .null, iv 0, iv 0, iv 0, .null] 9 0 hst _) (n_cwI 2 hts q824 q825 q117 q826 rfl rfl rfl (by decide +kernel) ⟨Nat.le_of_ble_eq_true rfl, Nat.le_of_ble_eq_true rfl⟩) (UF_S (hP.sub (ws' := [(q_10, .inr (5, [.null, .null, .null, .null, .null, iv 0, iv 0, iv 0, .null]))]) [19] rfl) hK (hD.sub (ws' := [(q_10, .inr (5, [.null, .null, .null, .null, .null, iv 0, iv 0, iv 0, .null]))]) [19] rfl rfl) hE hS (va_sub_free hD hS hA [19] rfl) hfr_q_10) rfl rfl hl.1 rfl (lv_room (Nat.le_of_ble_eq_true rfl)) dX1_performOne_39 ⟨Nat.le_of_ble_eq_true rfl, Nat.le_of_ble_eq_true rfl⟩) hP hD hS hA [19] [0, 1, 2, 3, 4, 5, 6, 7, 8, 9, 10, 11, 12, 13, 14, 15, 16, 17, 18] [0, 1, 2, 3, 4, 5, 6, 7, 8, 9, 10, 11, 12, 13, 14, 15, 16, 17, 18, 19] rfl rfl rfl rfl rfl (fun _ => rfl) (fun u_12 H locs hk_13 hu_12 hP hD hS => ?_)
        have hfr_q_8 := hfr_q_8.kept (hk_13 q_8 hfr_q_8.lt (n_notA hfr_q_8.lt hne_q_8_q_10))
        have hu_12 : u_12.length = 6 := hu_12
        have hP : va_P E.1 CL ((SW E o u_5.1 u_5.2.1) ++ ([(ch, .inl (E.2 (3000 + 21), 2, .inl (fun zk : Nat => iI (if zk = 0 then t else th))))] : va_W) ++ ([(q_8, .inr (5, [.null, .null, .null, .null, .null, iv 0, iv 0, iv 0, .null]))] : va_W) ++ ([(q_10, .inr (5, u_12 ++ [iv 9, iv 0, va_rf none]))] : va_W)) H := hP
        have hD : va_D A ((SW E o u_5.1 u_5.2.1) ++ ([(ch, .inl (E.2 (3000 + 21), 2, .inl (fun zk : Nat => iI (if zk = 0 then t else th))))] : va_W) ++ ([(q_8, .inr (5, [.null, .null, .null, .null, .null, iv 0, iv 0, iv 0, .null]))] : va_W) ++ ([(q_10, .inr (5, u_12 ++ [iv 9, iv 0, va_rf none]))] : va_W)) := hD
        refine n_cuxvSK (w2 := fun u_14 => (SW E o u_5.1 u_5.2.1) ++ ([(ch, .inl (E.2 (3000 + 21), 2, .inl (fun zk : Nat => iI (if zk = 0 then t else th))))] : va_W) ++ ([(q_8, .inr (5, u_14 ++ [iv 8, iv i9, va_rf (some q_10)]))] : va_W) ++ ([(q_10, .inr (5, u_12 ++ [iv 9, iv 0, va_rf none]))] : va_W)) (va_runI (As := [iv 8, iv i9, .ref q_10]) (rest := [.ref q_8]) ⟨hx, hb, hml, hown, hts⟩ (mt_X6_init_2 l E q_8 [.null, .null, .null, .null, .null, iv 0, iv 0, iv 0, .null] 8 i9 (some q_10) hst _) (n_cwI 3 hts q1993 q828 q117 q829 rfl rfl rfl (by decide +kernel) ⟨Nat.le_of_ble_eq_true rfl, Nat.le_of_ble_eq_true rfl⟩) (UF_S (hP.sub (ws' := [(q_8, .inr (5, [.null, .null, .null, .null, .null, iv 0, iv 0, iv 0, .null]))]) [18] rfl) hK (hD.sub (ws' := [(q_8, .inr (5, [.null, .null, .null, .null, .null, iv 0, iv 0, iv 0, .null]))]) [18] rfl rfl) hE hS (va_sub_free hD hS hA [18] rfl) hfr_q_8) rfl rfl hl.1 rfl (lv_room (Nat.le_of_ble_eq_true rfl)) dX1_performOne_42 ⟨Nat.le_of_ble_eq_true rfl, Nat.le_of_ble_eq_true rfl⟩) hP hD hS hA [18] [0, 1, 2, 3, 4, 5, 6, 7, 8, 9, 10, 11, 12, 13, 14, 15, 16, 17, 19] [0, 1, 2, 3, 4, 5, 6, 7, 8, 9, 10, 11, 12, 13, 14, 15, 16, 17, 19, 18] rfl rfl rfl rfl rfl (fun _ => rfl) (fun u_14 H locs hk_15 hu_14 hP hD hS => ?_)
        have hu_14 : u_14.length = 6 := hu_14
        have hP : va_P E.1 CL ((SW E o u_5.1 u_5.2.1) ++ ([(ch, .inl (E.2 (3000 + 21), 2, .inl (fun zk : Nat => iI (if zk = 0 then t else th))))] : va_W) ++ ([(q_8, .inr (5, u_14 ++ [iv 8, iv i9, va_rf (some q_10)]))] : va_W) ++ ([(q_10, .inr (5, u_12 ++ [iv 9, iv 0, va_rf none]))] : va_W)) H := hP
        have hD : va_D A ((SW E o u_5.1 u_5.2.1) ++ ([(ch, .inl (E.2 (3000 + 21), 2, .inl (fun zk : Nat => iI (if zk = 0 then t else th))))] : va_W) ++ ([(q_8, .inr (5, u_14 ++ [iv 8, iv i9, va_rf (some q_10)]))] : va_W) ++ ([(q_10, .inr (5, u_12 ++ [iv 9, iv 0, va_rf none]))] : va_W)) := hD
        have hP9 := hP.sub (ws' := (SW E o u_5.1 u_5.2.1) ++ ([(ch, .inl (E.2 (3000 + 21), 2, .inl (fun zk : Nat => iI (if zk = 0 then t else th))))] : va_W) ++ ([(q_10, .inr (5, u_12 ++ [iv 9, iv 0, va_rf none]))] : va_W)) [0, 1, 2, 3, 4, 5, 6, 7, 8, 9, 10, 11, 12, 13, 14, 15, 16, 17, 19] rfl
        have hD9 := hD.sub (ws' := (SW E o u_5.1 u_5.2.1) ++ ([(ch, .inl (E.2 (3000 + 21), 2, .inl (fun zk : Nat => iI (if zk = 0 then t else th))))] : va_W) ++ ([(q_10, .inr (5, u_12 ++ [iv 9, iv 0, va_rf none]))] : va_W)) [0, 1, 2, 3, 4, 5, 6, 7, 8, 9, 10, 11, 12, 13, 14, 15, 16, 17, 19] (by decide) rfl
        have hPq := hP.sub (ws' := [(q_8, .inr (5, u_14 ++ [iv 8, iv i9, va_rf (some q_10)]))]) [18] rfl
        exact n_athrow ((u_5.1, u_5.2.1), q_10, u_12 ++ [iv 9, iv 0, va_rf none]) hx hb dX1_performOne_45 (k0 := 18) (ci := 5) (C0 := "ClockworkTailor$Refusal") (T0 := TX6) (N0 := 9) rfl rfl hK hP (by exact ⟨rfl, OSH_c hc9 hu_12⟩) hP9 hD9 hS (by exact fun y hy => by cases hy; exact ⟨u_14, hu_14, hPq⟩) hge_q_8 (by rw [htab]; decide) hlocks (Nat.le_of_ble_eq_true rfl) (Nat.le_of_ble_eq_true rfl)
      · refine vx_catch (own := "ClockworkTailor") hown [_, _, _] _ [_] htab (fun z hz => by
            simp only [List.mem_cons, List.not_mem_nil, or_false] at hz
            rcases hz with rfl | rfl | rfl
            · exact Or.inr ⟨by decide, "ClockworkTailor$Refusal", hts _ q815, hK.kx.2.2.2.2.2 (_, _) (by decide)⟩
            · exact Or.inr ⟨by decide, "java/lang/IllegalArgumentException", hts _ q892, hK.kx.2.2.2.2.2 (_, _) (by decide)⟩
            · exact Or.inr ⟨by decide, "java/lang/IllegalStateException", hts _ q913, hK.kx.2.2.2.2.2 (_, _) (by decide)⟩) (by decide) (by decide) (name := "java/lang/IndexOutOfBoundsException") (hts _ q1110) (hK.nw q1112) hce hcv hcl ?_
        refine lv_astore_n (lv' := [(3, .ref q9), (0, .ref (o 0)), (1, .ref ch), (2, iv i9)]) hx hb dX1_performOne_24 rfl hl (by decide) rfl (fun ls hl => ?_)
        have hz9_q_16 : s.heap.size ≤ (H).size := hS.1
        refine n_newK (ci := 5) (fs := [.null, .null, .null, .null, .null, iv 0, iv 0, iv 0, .null]) (C := RX6) (T := TX6) (N := 9) hx hb hts in_X6 tyX6 tyX6_ok hown (hts _ q815) (hts _ q816) (hts _ q117) hK hP hD hS hA rfl (fun j hj => by rcases (show j = 0 ∨ j = 1 ∨ j = 2 ∨ j = 3 ∨ j = 4 ∨ j = 5 ∨ j = 6 ∨ j = 7 ∨ j = 8 by omega) with rfl | rfl | rfl | rfl | rfl | rfl | rfl | rfl | rfl <;> rfl) (Nat.le_of_ble_eq_true rfl) (Nat.le_of_ble_eq_true rfl) dX1_performOne_25 (fun q_16 H hfr_q_16 o_17 hsz_q_16 hP hD hS => ?_)
        have hge_q_16 : s.heap.size ≤ q_16 := Nat.le_trans hz9_q_16 hsz_q_16
        have hP : va_P E.1 CL ((SW E o u_5.1 u_5.2.1) ++ ([(ch, .inl (E.2 (3000 + 21), 2, .inl (fun zk : Nat => iI (if zk = 0 then t else th))))] : va_W) ++ ([(q_16, .inr (5, [.null, .null, .null, .null, .null, iv 0, iv 0, iv 0, .null]))] : va_W)) H := hP
        have hD : va_D A ((SW E o u_5.1 u_5.2.1) ++ ([(ch, .inl (E.2 (3000 + 21), 2, .inl (fun zk : Nat => iI (if zk = 0 then t else th))))] : va_W) ++ ([(q_16, .inr (5, [.null, .null, .null, .null, .null, iv 0, iv 0, iv 0, .null]))] : va_W)) := hD
        refine lv_dup hx hb dX1_performOne_28 rfl ?_
        refine lv_bipush (v := iI 8) hx hb dX1_performOne_29 (by decide) ?_
        refine lv_iload_n hx hb dX1_performOne_31 rfl (lv_at hl 3 rfl) ?_
        have hz9_q_18 : s.heap.size ≤ (H).size := hS.1
        refine n_newK (ci := 5) (fs := [.null, .null, .null, .null, .null, iv 0, iv 0, iv 0, .null]) (C := RX6) (T := TX6) (N := 9) hx hb hts in_X6 tyX6 tyX6_ok hown (hts _ q815) (hts _ q816) (hts _ q117) hK hP hD hS hA rfl (fun j hj => by rcases (show j = 0 ∨ j = 1 ∨ j = 2 ∨ j = 3 ∨ j = 4 ∨ j = 5 ∨ j = 6 ∨ j = 7 ∨ j = 8 by omega) with rfl | rfl | rfl | rfl | rfl | rfl | rfl | rfl | rfl <;> rfl) (Nat.le_of_ble_eq_true rfl) (Nat.le_of_ble_eq_true rfl) dX1_performOne_32 (fun q_18 H hfr_q_18 o_19 hsz_q_18 hP hD hS => ?_)
        have hge_q_18 : s.heap.size ≤ q_18 := Nat.le_trans hz9_q_18 hsz_q_18
        have hne_q_16_q_18 : q_16 ≠ q_18 := Nat.ne_of_lt (Nat.lt_of_lt_of_le hfr_q_16.lt hsz_q_18)
        have hfr_q_16 := hfr_q_16.kept (o_19 q_16 hfr_q_16.lt)
        have hP : va_P E.1 CL ((SW E o u_5.1 u_5.2.1) ++ ([(ch, .inl (E.2 (3000 + 21), 2, .inl (fun zk : Nat => iI (if zk = 0 then t else th))))] : va_W) ++ ([(q_16, .inr (5, [.null, .null, .null, .null, .null, iv 0, iv 0, iv 0, .null]))] : va_W) ++ ([(q_18, .inr (5, [.null, .null, .null, .null, .null, iv 0, iv 0, iv 0, .null]))] : va_W)) H := hP
        have hD : va_D A ((SW E o u_5.1 u_5.2.1) ++ ([(ch, .inl (E.2 (3000 + 21), 2, .inl (fun zk : Nat => iI (if zk = 0 then t else th))))] : va_W) ++ ([(q_16, .inr (5, [.null, .null, .null, .null, .null, iv 0, iv 0, iv 0, .null]))] : va_W) ++ ([(q_18, .inr (5, [.null, .null, .null, .null, .null, iv 0, iv 0, iv 0, .null]))] : va_W)) := hD
        refine lv_dup hx hb dX1_performOne_35 rfl ?_
        refine lv_bipush (v := iI 9) hx hb dX1_performOne_36 (by decide) ?_
        refine lv_iconst (v := iI 0) hx hb dX1_performOne_38 rfl ?_
        refine n_cuxvSK (w2 := fun u_20 => (SW E o u_5.1 u_5.2.1) ++ ([(ch, .inl (E.2 (3000 + 21), 2, .inl (fun zk : Nat => iI (if zk = 0 then t else th))))] : va_W) ++ ([(q_16, .inr (5, [.null, .null, .null, .null, .null, iv 0, iv 0, iv 0, .null]))] : va_W) ++ ([(q_18, .inr (5, u_20 ++ [iv 9, iv 0, va_rf none]))] : va_W)) (va_runI (As := [iv 9, iv 0]) (rest := [.ref q_18, iv i9, iv 8, .ref q_16, .ref q_16]) ⟨hx, hb, hml, hown, hts⟩ (mt_X6_init l E q_18 [.null, .null, .null, .null, .null, iv 0, iv 0, iv 0, .null] 9 0 hst _) (n_cwI 2 hts q824 q825 q117 q826 rfl rfl rfl (by decide +kernel) ⟨Nat.le_of_ble_eq_true rfl, Nat.le_of_ble_eq_true rfl⟩) (UF_S (hP.sub (ws' := [(q_18, .inr (5, [.null, .null, .null, .null, .null, iv 0, iv 0, iv 0, .null]))]) [19] rfl) hK (hD.sub (ws' := [(q_18, .inr (5, [.null, .null, .null, .null, .null, iv 0, iv 0, iv 0, .null]))]) [19] rfl rfl) hE hS (va_sub_free hD hS hA [19] rfl) hfr_q_18) rfl rfl hl.1 rfl (lv_room (Nat.le_of_ble_eq_true rfl)) dX1_performOne_39 ⟨Nat.le_of_ble_eq_true rfl, Nat.le_of_ble_eq_true rfl⟩) hP hD hS hA [19] [0, 1, 2, 3, 4, 5, 6, 7, 8, 9, 10, 11, 12, 13, 14, 15, 16, 17, 18] [0, 1, 2, 3, 4, 5, 6, 7, 8, 9, 10, 11, 12, 13, 14, 15, 16, 17, 18, 19] rfl rfl rfl rfl rfl (fun _ => rfl) (fun u_20 H locs hk_21 hu_20 hP hD hS => ?_)
        have hfr_q_16 := hfr_q_16.kept (hk_21 q_16 hfr_q_16.lt (n_notA hfr_q_16.lt hne_q_16_q_18))
        have hu_20 : u_20.length = 6 := hu_20
        have hP : va_P E.1 CL ((SW E o u_5.1 u_5.2.1) ++ ([(ch, .inl (E.2 (3000 + 21), 2, .inl (fun zk : Nat => iI (if zk = 0 then t else th))))] : va_W) ++ ([(q_16, .inr (5, [.null, .null, .null, .null, .null, iv 0, iv 0, iv 0, .null]))] : va_W) ++ ([(q_18, .inr (5, u_20 ++ [iv 9, iv 0, va_rf none]))] : va_W)) H := hP
        have hD : va_D A ((SW E o u_5.1 u_5.2.1) ++ ([(ch, .inl (E.2 (3000 + 21), 2, .inl (fun zk : Nat => iI (if zk = 0 then t else th))))] : va_W) ++ ([(q_16, .inr (5, [.null, .null, .null, .null, .null, iv 0, iv 0, iv 0, .null]))] : va_W) ++ ([(q_18, .inr (5, u_20 ++ [iv 9, iv 0, va_rf none]))] : va_W)) := hD
        refine n_cuxvSK (w2 := fun u_22 => (SW E o u_5.1 u_5.2.1) ++ ([(ch, .inl (E.2 (3000 + 21), 2, .inl (fun zk : Nat => iI (if zk = 0 then t else th))))] : va_W) ++ ([(q_16, .inr (5, u_22 ++ [iv 8, iv i9, va_rf (some q_18)]))] : va_W) ++ ([(q_18, .inr (5, u_20 ++ [iv 9, iv 0, va_rf none]))] : va_W)) (va_runI (As := [iv 8, iv i9, .ref q_18]) (rest := [.ref q_16]) ⟨hx, hb, hml, hown, hts⟩ (mt_X6_init_2 l E q_16 [.null, .null, .null, .null, .null, iv 0, iv 0, iv 0, .null] 8 i9 (some q_18) hst _) (n_cwI 3 hts q1993 q828 q117 q829 rfl rfl rfl (by decide +kernel) ⟨Nat.le_of_ble_eq_true rfl, Nat.le_of_ble_eq_true rfl⟩) (UF_S (hP.sub (ws' := [(q_16, .inr (5, [.null, .null, .null, .null, .null, iv 0, iv 0, iv 0, .null]))]) [18] rfl) hK (hD.sub (ws' := [(q_16, .inr (5, [.null, .null, .null, .null, .null, iv 0, iv 0, iv 0, .null]))]) [18] rfl rfl) hE hS (va_sub_free hD hS hA [18] rfl) hfr_q_16) rfl rfl hl.1 rfl (lv_room (Nat.le_of_ble_eq_true rfl)) dX1_performOne_42 ⟨Nat.le_of_ble_eq_true rfl, Nat.le_of_ble_eq_true rfl⟩) hP hD hS hA [18] [0, 1, 2, 3, 4, 5, 6, 7, 8, 9, 10, 11, 12, 13, 14, 15, 16, 17, 19] [0, 1, 2, 3, 4, 5, 6, 7, 8, 9, 10, 11, 12, 13, 14, 15, 16, 17, 19, 18] rfl rfl rfl rfl rfl (fun _ => rfl) (fun u_22 H locs hk_23 hu_22 hP hD hS => ?_)
        have hu_22 : u_22.length = 6 := hu_22
        have hP : va_P E.1 CL ((SW E o u_5.1 u_5.2.1) ++ ([(ch, .inl (E.2 (3000 + 21), 2, .inl (fun zk : Nat => iI (if zk = 0 then t else th))))] : va_W) ++ ([(q_16, .inr (5, u_22 ++ [iv 8, iv i9, va_rf (some q_18)]))] : va_W) ++ ([(q_18, .inr (5, u_20 ++ [iv 9, iv 0, va_rf none]))] : va_W)) H := hP
        have hD : va_D A ((SW E o u_5.1 u_5.2.1) ++ ([(ch, .inl (E.2 (3000 + 21), 2, .inl (fun zk : Nat => iI (if zk = 0 then t else th))))] : va_W) ++ ([(q_16, .inr (5, u_22 ++ [iv 8, iv i9, va_rf (some q_18)]))] : va_W) ++ ([(q_18, .inr (5, u_20 ++ [iv 9, iv 0, va_rf none]))] : va_W)) := hD
        have hP9 := hP.sub (ws' := (SW E o u_5.1 u_5.2.1) ++ ([(ch, .inl (E.2 (3000 + 21), 2, .inl (fun zk : Nat => iI (if zk = 0 then t else th))))] : va_W) ++ ([(q_18, .inr (5, u_20 ++ [iv 9, iv 0, va_rf none]))] : va_W)) [0, 1, 2, 3, 4, 5, 6, 7, 8, 9, 10, 11, 12, 13, 14, 15, 16, 17, 19] rfl
        have hD9 := hD.sub (ws' := (SW E o u_5.1 u_5.2.1) ++ ([(ch, .inl (E.2 (3000 + 21), 2, .inl (fun zk : Nat => iI (if zk = 0 then t else th))))] : va_W) ++ ([(q_18, .inr (5, u_20 ++ [iv 9, iv 0, va_rf none]))] : va_W)) [0, 1, 2, 3, 4, 5, 6, 7, 8, 9, 10, 11, 12, 13, 14, 15, 16, 17, 19] (by decide) rfl
        have hPq := hP.sub (ws' := [(q_16, .inr (5, u_22 ++ [iv 8, iv i9, va_rf (some q_18)]))]) [18] rfl
        exact n_athrow ((u_5.1, u_5.2.1), q_18, u_20 ++ [iv 9, iv 0, va_rf none]) hx hb dX1_performOne_45 (k0 := 18) (ci := 5) (C0 := "ClockworkTailor$Refusal") (T0 := TX6) (N0 := 9) rfl rfl hK hP (by exact ⟨rfl, OSH_c hc9 hu_20⟩) hP9 hD9 hS (by exact fun y hy => by cases hy; exact ⟨u_22, hu_22, hPq⟩) hge_q_16 (by rw [htab]; decide) hlocks (Nat.le_of_ble_eq_true rfl) (Nat.le_of_ble_eq_true rfl)
    · subst hEn9
      obtain ⟨pre9, hpre9, hPq9⟩ := hxf _ hz9x
      refine vx_catch (own := "ClockworkTailor") hown [] _ [_, _, _, _] htab (fun z hz => by cases hz) (by decide) (by decide) (name := "ClockworkTailor$Refusal") (hts _ q815) (hK.nw q817) hce hcv hcl ?_
      obtain ⟨hP, hD⟩ := n_joinX hlt_2 (show List.map Prod.fst ((SW E o u_5.1 u_5.2.1) ++ ([(ch, .inl (E.2 (3000 + 21), 2, .inl (fun zk : Nat => iI (if zk = 0 then t else th))))] : va_W)) = _ from rfl) hP hD hq9 (hA _ (Nat.le_trans hz_3 hq9)) hPq9
      have hP : va_P E.1 CL ((SW E o u_5.1 u_5.2.1) ++ ([(ch, .inl (E.2 (3000 + 21), 2, .inl (fun zk : Nat => iI (if zk = 0 then t else th))))] : va_W) ++ ([(q9, .inr (5, (pre9 ++ [iv wd9.1, iv wd9.2, .null])))] : va_W)) H := hP
      have hD : va_D A ((SW E o u_5.1 u_5.2.1) ++ ([(ch, .inl (E.2 (3000 + 21), 2, .inl (fun zk : Nat => iI (if zk = 0 then t else th))))] : va_W) ++ ([(q9, .inr (5, (pre9 ++ [iv wd9.1, iv wd9.2, .null])))] : va_W)) := hD
      refine lv_astore_n (lv' := [(3, .ref q9), (0, .ref (o 0)), (1, .ref ch), (2, iv i9)]) hx hb dX1_performOne_11 rfl hl (by decide) rfl (fun ls hl => ?_)
      have hz9_q_24 : s.heap.size ≤ (H).size := hS.1
      refine n_newK (ci := 5) (fs := [.null, .null, .null, .null, .null, iv 0, iv 0, iv 0, .null]) (C := RX6) (T := TX6) (N := 9) hx hb hts in_X6 tyX6 tyX6_ok hown (hts _ q815) (hts _ q816) (hts _ q117) hK hP hD hS hA rfl (fun j hj => by rcases (show j = 0 ∨ j = 1 ∨ j = 2 ∨ j = 3 ∨ j = 4 ∨ j = 5 ∨ j = 6 ∨ j = 7 ∨ j = 8 by omega) with rfl | rfl | rfl | rfl | rfl | rfl | rfl | rfl | rfl <;> rfl) (Nat.le_of_ble_eq_true rfl) (Nat.le_of_ble_eq_true rfl) dX1_performOne_12 (fun q_24 H hfr_q_24 o_25 hsz_q_24 hP hD hS => ?_)
      have hge_q_24 : s.heap.size ≤ q_24 := Nat.le_trans hz9_q_24 hsz_q_24
      have hP : va_P E.1 CL ((SW E o u_5.1 u_5.2.1) ++ ([(ch, .inl (E.2 (3000 + 21), 2, .inl (fun zk : Nat => iI (if zk = 0 then t else th))))] : va_W) ++ ([(q9, .inr (5, (pre9 ++ [iv wd9.1, iv wd9.2, .null])))] : va_W) ++ ([(q_24, .inr (5, [.null, .null, .null, .null, .null, iv 0, iv 0, iv 0, .null]))] : va_W)) H := hP
      have hD : va_D A ((SW E o u_5.1 u_5.2.1) ++ ([(ch, .inl (E.2 (3000 + 21), 2, .inl (fun zk : Nat => iI (if zk = 0 then t else th))))] : va_W) ++ ([(q9, .inr (5, (pre9 ++ [iv wd9.1, iv wd9.2, .null])))] : va_W) ++ ([(q_24, .inr (5, [.null, .null, .null, .null, .null, iv 0, iv 0, iv 0, .null]))] : va_W)) := hD
      refine lv_dup hx hb dX1_performOne_15 rfl ?_
      refine lv_bipush (v := iI 8) hx hb dX1_performOne_16 (by decide) ?_
      refine lv_iload_n hx hb dX1_performOne_18 rfl (lv_at hl 3 rfl) ?_
      refine lv_aload_n hx hb dX1_performOne_19 rfl (lv_at hl 0 rfl) ?_
      refine n_cuxvSK (w2 := fun u_26 => (SW E o u_5.1 u_5.2.1) ++ ([(ch, .inl (E.2 (3000 + 21), 2, .inl (fun zk : Nat => iI (if zk = 0 then t else th))))] : va_W) ++ ([(q9, .inr (5, (pre9 ++ [iv wd9.1, iv wd9.2, .null])))] : va_W) ++ ([(q_24, .inr (5, u_26 ++ [iv 8, iv i9, va_rf (some q9)]))] : va_W)) (va_runI (As := [iv 8, iv i9, .ref q9]) (rest := [.ref q_24]) ⟨hx, hb, hml, hown, hts⟩ (mt_X6_init_2 l E q_24 [.null, .null, .null, .null, .null, iv 0, iv 0, iv 0, .null] 8 i9 (some q9) hst _) (n_cwI 3 hts q1993 q828 q117 q829 rfl rfl rfl (by decide +kernel) ⟨Nat.le_of_ble_eq_true rfl, Nat.le_of_ble_eq_true rfl⟩) (UF_S (hP.sub (ws' := [(q_24, .inr (5, [.null, .null, .null, .null, .null, iv 0, iv 0, iv 0, .null]))]) [19] rfl) hK (hD.sub (ws' := [(q_24, .inr (5, [.null, .null, .null, .null, .null, iv 0, iv 0, iv 0, .null]))]) [19] rfl rfl) hE hS (va_sub_free hD hS hA [19] rfl) hfr_q_24) rfl rfl hl.1 rfl (lv_room (Nat.le_of_ble_eq_true rfl)) dX1_performOne_20 ⟨Nat.le_of_ble_eq_true rfl, Nat.le_of_ble_eq_true rfl⟩) hP hD hS hA [19] [0, 1, 2, 3, 4, 5, 6, 7, 8, 9, 10, 11, 12, 13, 14, 15, 16, 17, 18] [0, 1, 2, 3, 4, 5, 6, 7, 8, 9, 10, 11, 12, 13, 14, 15, 16, 17, 18, 19] rfl rfl rfl rfl rfl (fun _ => rfl) (fun u_26 H locs hk_27 hu_26 hP hD hS => ?_)
      have hu_26 : u_26.length = 6 := hu_26
      have hP : va_P E.1 CL ((SW E o u_5.1 u_5.2.1) ++ ([(ch, .inl (E.2 (3000 + 21), 2, .inl (fun zk : Nat => iI (if zk = 0 then t else th))))] : va_W) ++ ([(q9, .inr (5, (pre9 ++ [iv wd9.1, iv wd9.2, .null])))] : va_W) ++ ([(q_24, .inr (5, u_26 ++ [iv 8, iv i9, va_rf (some q9)]))] : va_W)) H := hP
      have hD : va_D A ((SW E o u_5.1 u_5.2.1) ++ ([(ch, .inl (E.2 (3000 + 21), 2, .inl (fun zk : Nat => iI (if zk = 0 then t else th))))] : va_W) ++ ([(q9, .inr (5, (pre9 ++ [iv wd9.1, iv wd9.2, .null])))] : va_W) ++ ([(q_24, .inr (5, u_26 ++ [iv 8, iv i9, va_rf (some q9)]))] : va_W)) := hD
      have hP9 := hP.sub (ws' := (SW E o u_5.1 u_5.2.1) ++ ([(ch, .inl (E.2 (3000 + 21), 2, .inl (fun zk : Nat => iI (if zk = 0 then t else th))))] : va_W) ++ ([(q9, .inr (5, (pre9 ++ [iv wd9.1, iv wd9.2, .null])))] : va_W)) [0, 1, 2, 3, 4, 5, 6, 7, 8, 9, 10, 11, 12, 13, 14, 15, 16, 17, 18] rfl
      have hD9 := hD.sub (ws' := (SW E o u_5.1 u_5.2.1) ++ ([(ch, .inl (E.2 (3000 + 21), 2, .inl (fun zk : Nat => iI (if zk = 0 then t else th))))] : va_W) ++ ([(q9, .inr (5, (pre9 ++ [iv wd9.1, iv wd9.2, .null])))] : va_W)) [0, 1, 2, 3, 4, 5, 6, 7, 8, 9, 10, 11, 12, 13, 14, 15, 16, 17, 18] (by decide) rfl
      have hPq := hP.sub (ws' := [(q_24, .inr (5, u_26 ++ [iv 8, iv i9, va_rf (some q9)]))]) [19] rfl
      exact n_athrow ((u_5.1, u_5.2.1), q9, (pre9 ++ [iv wd9.1, iv wd9.2, .null])) hx hb dX1_performOne_23 (k0 := 19) (ci := 5) (C0 := "ClockworkTailor$Refusal") (T0 := TX6) (N0 := 9) rfl rfl hK hP (by exact ⟨rfl, OSH_w hA9 hpre9⟩) hP9 hD9 hS (by exact fun y hy => by cases hy; exact ⟨u_26, hu_26, hPq⟩) hge_q_24 (by rw [htab]; decide) hlocks (Nat.le_of_ble_eq_true rfl) (Nat.le_of_ble_eq_true rfl)
  · intro u_4 H locs hC hP hD hS
    have hu_4 : (∃ q, A_make g fl t th = .inr (.inr q)) ∧ SR (rs_g g (A_make g fl t th)) u_4.1 u_4.2 := hC
    have hP : va_P E.1 CL ((SW E o u_4.1 u_4.2) ++ ([(ch, .inl (E.2 (3000 + 21), 2, .inl (fun zk : Nat => iI (if zk = 0 then t else th))))] : va_W)) H := hP
    have hD : va_D A ((SW E o u_4.1 u_4.2) ++ ([(ch, .inl (E.2 (3000 + 21), 2, .inl (fun zk : Nat => iI (if zk = 0 then t else th))))] : va_W)) := hD
    refine lv_istore_n (lv' := [(3, iv (rs_val 0 (A_make g fl t th))), (0, .ref (o 0)), (1, .ref ch), (2, iv i9)]) hx hb dX1_performOne_7 rfl hl (by decide) rfl (fun ls hl => ?_)
    refine lv_goto (tgt := 46) hx hb dX1_performOne_8 (by decide) ?_
    refine vx_ret ?_
    refine W.widen (k := 6) (n := 43) (Nat.le_of_ble_eq_true rfl) (Nat.le_of_ble_eq_true rfl) ?_
    exact W.vret hx hb hr (fun tt_ ht_ hW_ => ⟨⟨(u_4.1, u_4.2), rfl, hu_4, by rw [ht_]; exact hP, hD⟩, hS.F ht_⟩) hS.2.2 dX1_performOne_46
set_option maxHeartbeats 2000000 in
set_option maxRecDepth 100000 in
theorem mt_X1_performOne_22 (l : Launch) (E : EE) (o : Nat → Nat) (sc : Nat → Int) (ar : Nat → Int → Int) (ch : Nat) (k : Int) (p9 : Int) (th : Int) (i9 : Int) (g : Int → Int) (r : Int → Nat) (fl : Int → Int) (hst : l.stackTraces = false) (hsr : SR g sc ar) (hk : -2147483648 ≤ k ∧ k < 2147483648) (hp : -2147483648 ≤ p9 ∧ p9 < 2147483648) (hth : -2147483648 ≤ th ∧ th < 2147483648) (htw : TW g) (hsw : SwOK g) (htm : TM g) (hhn : HN g) (hsc : SC g) (hrk : RK g r) (hr8 : ∀ t, 0 ≤ t → t < 8 → r t < 8) (how : OY g) (h60 : g 1 ≤ 60) (hfit : ∀ t, 0 ≤ t → t < 8 → ∀ th, g 1 + (m_dues g t th).1 ≤ 160) (hi9 : -2147483648 ≤ i9 ∧ i9 < 2147483648) (sz : Nat) : vx_Met l yX1_performOne (wsW_ yX1_performOne cX1_performOne 4 none [(0, 8, 11, 7), (0, 8, 24, 68), (0, 8, 24, 74), (0, 8, 24, 77), (0, 8, 24, 71)]) { frames := 24, cells := 7, slots := 49, locals := 709 } (va_Pc [.ref (o 0), .ref ch, iv i9] (UX E ((SW E o sc ar) ++ ([(ch, .inl (E.2 (3000 + 22), 3, .inl (fun zk : Nat => iI (if zk = 0 then k else if zk = 1 then p9 else th))))] : va_W)) sz)) (UQxv E (fun u : SU => (∃ q, A_tch g fl k p9 th = .inr (.inr q)) ∧ SR (rs_g g (A_tch g fl k p9 th)) u.1 u.2) (fun u : SU => (SW E o u.1 u.2) ++ ([(ch, .inl (E.2 (3000 + 22), 3, .inl (fun zk : Nat => iI (if zk = 0 then k else if zk = 1 then p9 else th))))] : va_W)) (va_A ((SW E o sc ar) ++ ([(ch, .inl (E.2 (3000 + 22), 3, .inl (fun zk : Nat => iI (if zk = 0 then k else if zk = 1 then p9 else th))))] : va_W)) sz)) (UXx E (fun (En : String) (u : SU × Nat × List Value) => En = "ClockworkTailor$Refusal" ∧ OSH (A_tch g fl k p9 th) u.2.1 u.2.2) (fun u : SU × Nat × List Value => (SW E o u.1.1 u.1.2) ++ ([(ch, .inl (E.2 (3000 + 22), 3, .inl (fun zk : Nat => iI (if zk = 0 then k else if zk = 1 then p9 else th))))] : va_W) ++ (([(u.2.1, .inr (5, u.2.2))] : va_W))) (fun u : SU × Nat × List Value => some (5, [iv 8, iv i9, .ref u.2.1])) (va_A ((SW E o sc ar) ++ ([(ch, .inl (E.2 (3000 + 22), 3, .inl (fun zk : Nat => iI (if zk = 0 then k else if zk = 1 then p9 else th))))] : va_W)) sz)) 7 49 (va_A ((SW E o sc ar) ++ ([(ch, .inl (E.2 (3000 + 22), 3, .inl (fun zk : Nat => iI (if zk = 0 then k else if zk = 1 then p9 else th))))] : va_W)) sz) := by
  refine vx_ofWH (hh := [(0, 8, 11, 7), (0, 8, 24, 68), (0, 8, 24, 74), (0, 8, 24, 77), (0, 8, 24, 71)]) (cc := cX1_performOne) (maxL := 4) (ret := none) (by decide) rfl ?_
  intro p e s m args below meth c s₁ B hml hv
  obtain ⟨rfl, hsz, hP, hK, hD0, hE⟩ := hv
  have hx := B.exec
  have hb := B.bytes
  have hr := B.returns
  have hts := atoms_spec (ws := (wsW_ yX1_performOne cX1_performOne 4 none [(0, 8, 11, 7), (0, 8, 24, 68), (0, 8, 24, 74), (0, 8, 24, 77), (0, 8, 24, 71)])) B.pre
  have htab : c.exceptionTable.toList = tableOf [(0, 8, 11, 7), (0, 8, 24, 68), (0, 8, 24, 74), (0, 8, 24, 77), (0, 8, 24, 71)] := vx_table (x := yX1_performOne) B (hts _ List.mem_cons_self)
  have hts : ∀ w ∈ lw_all, w.before _ s = true := fun w h => hts w (List.mem_cons_of_mem _ h)
  have hown : s.vm.findClass RX1 = some m.cls := findClass_of_methodNamed B.named
  have hlocks := B.notSynchronized
  subst hsz
  have hD := hD0.self (sz := s.heap.size)
  generalize hAe : va_A ((SW E o sc ar) ++ ([(ch, .inl (E.2 (3000 + 22), 3, .inl (fun zk : Nat => iI (if zk = 0 then k else if zk = 1 then p9 else th))))] : va_W)) s.heap.size = A at hD hE ⊢
  have hA : ∀ q : Nat, s.heap.size ≤ q → A q := fun q h => by rw [← hAe]; exact Or.inr h
  have hS : va_S A s.heap s.heap [] := va_S.rf
  have hl := lv_entry ([.ref (o 0), .ref ch, iv i9]) (n := 4) (Nat.le_of_ble_eq_true rfl)
  rw [lg_entry_eq]
  generalize (lg_sl ([.ref (o 0), .ref ch, iv i9]) ++ List.replicate (4 - (lg_sl ([.ref (o 0), .ref ch, iv i9])).length) Slot.unset).toArray = ls at hl ⊢
  have hl : lv_has ls 4 [(0, .ref (o 0)), (1, .ref ch), (2, iv i9)] := hl
  refine lv_aload_n hx hb dX1_performOne_0 rfl (lv_at hl 1 rfl) ?_
  refine lv_aload_n hx hb dX1_performOne_1 rfl (lv_at hl 0 rfl) ?_
  have hg_1 : gpick [SW E o sc ar, [(ch, .inl (E.2 (3000 + 22), 3, .inl (fun zk : Nat => iI (if zk = 0 then k else if zk = 1 then p9 else th))))]] ([SW E o sc ar] ++ [[(ch, .inl (E.2 (3000 + 22), 3, .inl (fun zk : Nat => iI (if zk = 0 then k else if zk = 1 then p9 else th))))]]) [0, 1] := ⟨rfl, (show List.Perm [0, 1] (List.range 2) from by decide)⟩
  have hg_1P : va_P E.1 CL (SW E o sc ar) s.heap := (g_out hg_1 hP hD).1
  have hg_1D : va_D A (SW E o sc ar) := (g_out hg_1 hP hD).2
  have hg_1F : ∀ q, va_A (SW E o sc ar) s.heap.size q → A q := g_free hg_1 hP hD hS hA
  have hlt_2 := P_lts hP
  have hz_3 : s.heap.size ≤ s.heap.size := hS.1
  have hj_6 : ∀ u_4 : SU, gpick ([SW E o u_4.1 u_4.2] ++ [[(ch, .inl (E.2 (3000 + 22), 3, .inl (fun zk : Nat => iI (if zk = 0 then k else if zk = 1 then p9 else th))))]]) [SW E o u_4.1 u_4.2, [(ch, .inl (E.2 (3000 + 22), 3, .inl (fun zk : Nat => iI (if zk = 0 then k else if zk = 1 then p9 else th))))]] [0, 1] := fun u_4 => ⟨rfl, (show List.Perm [0, 1] (List.range 2) from by decide)⟩
  have hj_7 : ∀ u_5 : SUX, gpick ([SW E o u_5.1 u_5.2.1] ++ [[(ch, .inl (E.2 (3000 + 22), 3, .inl (fun zk : Nat => iI (if zk = 0 then k else if zk = 1 then p9 else th))))]]) [SW E o u_5.1 u_5.2.1, [(ch, .inl (E.2 (3000 + 22), 3, .inl (fun zk : Nat => iI (if zk = 0 then k else if zk = 1 then p9 else th))))]] [0, 1] := fun u_5 => ⟨rfl, (show List.Perm [0, 1] (List.range 2) from by decide)⟩
  refine n_tx5B (x := fun u_4 => rs_val 0 (A_tch g fl k p9 th)) (w2 := fun u_4 => (SW E o u_4.1 u_4.2) ++ ([(ch, .inl (E.2 (3000 + 22), 3, .inl (fun zk : Nat => iI (if zk = 0 then k else if zk = 1 then p9 else th))))] : va_W)) (w3 := fun u_5 => (SW E o u_5.1 u_5.2.1) ++ ([(ch, .inl (E.2 (3000 + 22), 3, .inl (fun zk : Nat => iI (if zk = 0 then k else if zk = 1 then p9 else th))))] : va_W)) (n_fwS6 (rest := []) hx hb (hl.1.trans hml.symm) hts hK hown (hts _ q924) ls_22 rfl (by decide +kernel) lk_22 ⟨rfl, rfl, by decide +kernel⟩ (y := yX4_lambda_touching_9) ⟨rfl, rfl, by decide +kernel, rfl⟩ ⟨by decide +kernel, by decide +kernel⟩ q1912 q103 (sig := ⟨[.int, .int, .int, .object "ClockworkTailor$State"], some .int⟩) (by decide +kernel) rfl (mt_X4_lambda_touching_9 l E o sc ar k p9 th g r fl (by exact hst) (by assumption) (by omega) (by omega) (by omega) (by assumption) (by assumption) (by assumption) (by assumption) (by assumption) (by assumption) (by assumption) (by assumption) (by assumption) (by assumption) _) rfl rfl q1911 (hP 17 _ rfl) rfl rfl rfl rfl rfl (UX_S hg_1P hK (hg_1D) hE hS hg_1F) (Nat.le_of_ble_eq_true rfl) (Nat.le_of_ble_eq_true rfl) (Nat.le_of_ble_eq_true rfl) (Nat.le_of_ble_eq_true rfl) dX1_performOne_2) hS hg_1F ?_ ?_ ?_ ?_
  · exact (fun u_4 _ hk9 hp9 hd9 => g_back hg_1 (hj_6 u_4) hP hD hg_1F hk9 hp9 hd9)
  · exact (fun u_5 _ hk9 hp9 hd9 => g_back hg_1 (hj_7 u_5) hP hD hg_1F hk9 hp9 hd9)
  · intro En ce q9 u_5 H locs hCx hP hD hS hxf hq9 hce hcv hcl
    have hCx : XC1 (nmX "java/lang/IndexOutOfBoundsException" "" "") (A_tch g fl k p9 th) En u_5.2.2 := hCx
    have hP : va_P E.1 CL ((SW E o u_5.1 u_5.2.1) ++ ([(ch, .inl (E.2 (3000 + 22), 3, .inl (fun zk : Nat => iI (if zk = 0 then k else if zk = 1 then p9 else th))))] : va_W)) H := hP
    have hD : va_D A ((SW E o u_5.1 u_5.2.1) ++ ([(ch, .inl (E.2 (3000 + 22), 3, .inl (fun zk : Nat => iI (if zk = 0 then k else if zk = 1 then p9 else th))))] : va_W)) := hD
    rcases hCx with ⟨c9, hc9, hEn9⟩ | ⟨wd9, hA9, hEn9, hz9x⟩
    · have hNM : En = "java/lang/IndexOutOfBoundsException" := by
        rw [hEn9]
        have h9 := hnm_tch hc9
        subst h9
        rfl
      clear hEn9
      subst hNM
      refine vx_catch (own := "ClockworkTailor") hown [_, _, _] _ [_] htab (fun z hz => by
          simp only [List.mem_cons, List.not_mem_nil, or_false] at hz
          rcases hz with rfl | rfl | rfl
          · exact Or.inr ⟨by decide, "ClockworkTailor$Refusal", hts _ q815, hK.kx.2.2.2.2.2 (_, _) (by decide)⟩
          · exact Or.inr ⟨by decide, "java/lang/IllegalArgumentException", hts _ q892, hK.kx.2.2.2.2.2 (_, _) (by decide)⟩
          · exact Or.inr ⟨by decide, "java/lang/IllegalStateException", hts _ q913, hK.kx.2.2.2.2.2 (_, _) (by decide)⟩) (by decide) (by decide) (name := "java/lang/IndexOutOfBoundsException") (hts _ q1110) (hK.nw q1112) hce hcv hcl ?_
      refine lv_astore_n (lv' := [(3, .ref q9), (0, .ref (o 0)), (1, .ref ch), (2, iv i9)]) hx hb dX1_performOne_24 rfl hl (by decide) rfl (fun ls hl => ?_)
      have hz9_q_8 : s.heap.size ≤ (H).size := hS.1
      refine n_newK (ci := 5) (fs := [.null, .null, .null, .null, .null, iv 0, iv 0, iv 0, .null]) (C := RX6) (T := TX6) (N := 9) hx hb hts in_X6 tyX6 tyX6_ok hown (hts _ q815) (hts _ q816) (hts _ q117) hK hP hD hS hA rfl (fun j hj => by rcases (show j = 0 ∨ j = 1 ∨ j = 2 ∨ j = 3 ∨ j = 4 ∨ j = 5 ∨ j = 6 ∨ j = 7 ∨ j = 8 by omega) with rfl | rfl | rfl | rfl | rfl | rfl | rfl | rfl | rfl <;> rfl) (Nat.le_of_ble_eq_true rfl) (Nat.le_of_ble_eq_true rfl) dX1_performOne_25 (fun q_8 H hfr_q_8 o_9 hsz_q_8 hP hD hS => ?_)
      have hge_q_8 : s.heap.size ≤ q_8 := Nat.le_trans hz9_q_8 hsz_q_8
      have hP : va_P E.1 CL ((SW E o u_5.1 u_5.2.1) ++ ([(ch, .inl (E.2 (3000 + 22), 3, .inl (fun zk : Nat => iI (if zk = 0 then k else if zk = 1 then p9 else th))))] : va_W) ++ ([(q_8, .inr (5, [.null, .null, .null, .null, .null, iv 0, iv 0, iv 0, .null]))] : va_W)) H := hP
      have hD : va_D A ((SW E o u_5.1 u_5.2.1) ++ ([(ch, .inl (E.2 (3000 + 22), 3, .inl (fun zk : Nat => iI (if zk = 0 then k else if zk = 1 then p9 else th))))] : va_W) ++ ([(q_8, .inr (5, [.null, .null, .null, .null, .null, iv 0, iv 0, iv 0, .null]))] : va_W)) := hD
      refine lv_dup hx hb dX1_performOne_28 rfl ?_
      refine lv_bipush (v := iI 8) hx hb dX1_performOne_29 (by decide) ?_
      refine lv_iload_n hx hb dX1_performOne_31 rfl (lv_at hl 3 rfl) ?_
      have hz9_q_10 : s.heap.size ≤ (H).size := hS.1
      refine n_newK (ci := 5) (fs := [.null, .null, .null, .null, .null, iv 0, iv 0, iv 0, .null]) (C := RX6) (T := TX6) (N := 9) hx hb hts in_X6 tyX6 tyX6_ok hown (hts _ q815) (hts _ q816) (hts _ q117) hK hP hD hS hA rfl (fun j hj => by rcases (show j = 0 ∨ j = 1 ∨ j = 2 ∨ j = 3 ∨ j = 4 ∨ j = 5 ∨ j = 6 ∨ j = 7 ∨ j = 8 by omega) with rfl | rfl | rfl | rfl | rfl | rfl | rfl | rfl | rfl <;> rfl) (Nat.le_of_ble_eq_true rfl) (Nat.le_of_ble_eq_true rfl) dX1_performOne_32 (fun q_10 H hfr_q_10 o_11 hsz_q_10 hP hD hS => ?_)
      have hge_q_10 : s.heap.size ≤ q_10 := Nat.le_trans hz9_q_10 hsz_q_10
      have hne_q_8_q_10 : q_8 ≠ q_10 := Nat.ne_of_lt (Nat.lt_of_lt_of_le hfr_q_8.lt hsz_q_10)
      have hfr_q_8 := hfr_q_8.kept (o_11 q_8 hfr_q_8.lt)
      have hP : va_P E.1 CL ((SW E o u_5.1 u_5.2.1) ++ ([(ch, .inl (E.2 (3000 + 22), 3, .inl (fun zk : Nat => iI (if zk = 0 then k else if zk = 1 then p9 else th))))] : va_W) ++ ([(q_8, .inr (5, [.null, .null, .null, .null, .null, iv 0, iv 0, iv 0, .null]))] : va_W) ++ ([(q_10, .inr (5, [.null, .null, .null, .null, .null, iv 0, iv 0, iv 0, .null]))] : va_W)) H := hP
      have hD : va_D A ((SW E o u_5.1 u_5.2.1) ++ ([(ch, .inl (E.2 (3000 + 22), 3, .inl (fun zk : Nat => iI (if zk = 0 then k else if zk = 1 then p9 else th))))] : va_W) ++ ([(q_8, .inr (5, [.null, .null, .null, .null, .null, iv 0, iv 0, iv 0, .null]))] : va_W) ++ ([(q_10, .inr (5, [.null, .null, .null, .null, .null, iv 0, iv 0, iv 0, .null]))] : va_W)) := hD
      refine lv_dup hx hb dX1_performOne_35 rfl ?_
      refine lv_bipush (v := iI 9) hx hb dX1_performOne_36 (by decide) ?_
      refine lv_iconst (v := iI 0) hx hb dX1_performOne_38 rfl ?_
      refine n_cuxvSK (w2 := fun u_12 => (SW E o u_5.1 u_5.2.1) ++ ([(ch, .inl (E.2 (3000 + 22), 3, .inl (fun zk : Nat => iI (if zk = 0 then k else if zk = 1 then p9 else th))))] : va_W) ++ ([(q_8, .inr (5, [.null, .null, .null, .null, .null, iv 0, iv 0, iv 0, .null]))] : va_W) ++ ([(q_10, .inr (5, u_12 ++ [iv 9, iv 0, va_rf none]))] : va_W)) (va_runI (As := [iv 9, iv 0]) (rest := [.ref q_10, iv i9, iv 8, .ref q_8, .ref q_8]) ⟨hx, hb, hml, hown, hts⟩ (mt_X6_init l E q_10 [.null, .null, .null, .null, .null, iv 0, iv 0, iv 0, .null] 9 0 hst _) (n_cwI 2 hts q824 q825 q117 q826 rfl rfl rfl (by decide +kernel) ⟨Nat.le_of_ble_eq_true rfl, Nat.le_of_ble_eq_true rfl⟩) (UF_S (hP.sub (ws' := [(q_10, .inr (5, [.null, .null, .null, .null, .null, iv 0, iv 0, iv 0, .null]))]) [19] rfl) hK (hD.sub (ws' := [(q_10, .inr (5, [.null, .null, .null, .null, .null, iv 0, iv 0, iv 0, .null]))]) [19] rfl rfl) hE hS (va_sub_free hD hS hA [19] rfl) hfr_q_10) rfl rfl hl.1 rfl (lv_room (Nat.le_of_ble_eq_true rfl)) dX1_performOne_39 ⟨Nat.le_of_ble_eq_true rfl, Nat.le_of_ble_eq_true rfl⟩) hP hD hS hA [19] [0, 1, 2, 3, 4, 5, 6, 7, 8, 9, 10, 11, 12, 13, 14, 15, 16, 17, 18] [0, 1, 2, 3, 4, 5, 6, 7, 8, 9, 10, 11, 12, 13, 14, 15, 16, 17, 18, 19] rfl rfl rfl rfl rfl (fun _ => rfl) (fun u_12 H locs hk_13 hu_12 hP hD hS => ?_)
      have hfr_q_8 := hfr_q_8.kept (hk_13 q_8 hfr_q_8.lt (n_notA hfr_q_8.lt hne_q_8_q_10))
      have hu_12 : u_12.length = 6 := hu_12
      have hP : va_P E.1 CL ((SW E o u_5.1 u_5.2.1) ++ ([(ch, .inl (E.2 (3000 + 22), 3, .inl (fun zk : Nat => iI (if zk = 0 then k else if zk = 1 then p9 else th))))] : va_W) ++ ([(q_8, .inr (5, [.null, .null, .null, .null, .null, iv 0, iv 0, iv 0, .null]))] : va_W) ++ ([(q_10, .inr (5, u_12 ++ [iv 9, iv 0, va_rf none]))] : va_W)) H := hP
      have hD : va_D A ((SW E o u_5.1 u_5.2.1) ++ ([(ch, .inl (E.2 (3000 + 22), 3, .inl (fun zk : Nat => iI (if zk = 0 then k else if zk = 1 then p9 else th))))] : va_W) ++ ([(q_8, .inr (5, [.null, .null, .null, .null, .null, iv 0, iv 0, iv 0, .null]))] : va_W) ++ ([(q_10, .inr (5, u_12 ++ [iv 9, iv 0, va_rf none]))] : va_W)) := hD
      refine n_cuxvSK (w2 := fun u_14 => (SW E o u_5.1 u_5.2.1) ++ ([(ch, .inl (E.2 (3000 + 22), 3, .inl (fun zk : Nat => iI (if zk = 0 then k else if zk = 1 then p9 else th))))] : va_W) ++ ([(q_8, .inr (5, u_14 ++ [iv 8, iv i9, va_rf (some q_10)]))] : va_W) ++ ([(q_10, .inr (5, u_12 ++ [iv 9, iv 0, va_rf none]))] : va_W)) (va_runI (As := [iv 8, iv i9, .ref q_10]) (rest := [.ref q_8]) ⟨hx, hb, hml, hown, hts⟩ (mt_X6_init_2 l E q_8 [.null, .null, .null, .null, .null, iv 0, iv 0, iv 0, .null] 8 i9 (some q_10) hst _) (n_cwI 3 hts q1993 q828 q117 q829 rfl rfl rfl (by decide +kernel) ⟨Nat.le_of_ble_eq_true rfl, Nat.le_of_ble_eq_true rfl⟩) (UF_S (hP.sub (ws' := [(q_8, .inr (5, [.null, .null, .null, .null, .null, iv 0, iv 0, iv 0, .null]))]) [18] rfl) hK (hD.sub (ws' := [(q_8, .inr (5, [.null, .null, .null, .null, .null, iv 0, iv 0, iv 0, .null]))]) [18] rfl rfl) hE hS (va_sub_free hD hS hA [18] rfl) hfr_q_8) rfl rfl hl.1 rfl (lv_room (Nat.le_of_ble_eq_true rfl)) dX1_performOne_42 ⟨Nat.le_of_ble_eq_true rfl, Nat.le_of_ble_eq_true rfl⟩) hP hD hS hA [18] [0, 1, 2, 3, 4, 5, 6, 7, 8, 9, 10, 11, 12, 13, 14, 15, 16, 17, 19] [0, 1, 2, 3, 4, 5, 6, 7, 8, 9, 10, 11, 12, 13, 14, 15, 16, 17, 19, 18] rfl rfl rfl rfl rfl (fun _ => rfl) (fun u_14 H locs hk_15 hu_14 hP hD hS => ?_)
      have hu_14 : u_14.length = 6 := hu_14
      have hP : va_P E.1 CL ((SW E o u_5.1 u_5.2.1) ++ ([(ch, .inl (E.2 (3000 + 22), 3, .inl (fun zk : Nat => iI (if zk = 0 then k else if zk = 1 then p9 else th))))] : va_W) ++ ([(q_8, .inr (5, u_14 ++ [iv 8, iv i9, va_rf (some q_10)]))] : va_W) ++ ([(q_10, .inr (5, u_12 ++ [iv 9, iv 0, va_rf none]))] : va_W)) H := hP
      have hD : va_D A ((SW E o u_5.1 u_5.2.1) ++ ([(ch, .inl (E.2 (3000 + 22), 3, .inl (fun zk : Nat => iI (if zk = 0 then k else if zk = 1 then p9 else th))))] : va_W) ++ ([(q_8, .inr (5, u_14 ++ [iv 8, iv i9, va_rf (some q_10)]))] : va_W) ++ ([(q_10, .inr (5, u_12 ++ [iv 9, iv 0, va_rf none]))] : va_W)) := hD
      have hP9 := hP.sub (ws' := (SW E o u_5.1 u_5.2.1) ++ ([(ch, .inl (E.2 (3000 + 22), 3, .inl (fun zk : Nat => iI (if zk = 0 then k else if zk = 1 then p9 else th))))] : va_W) ++ ([(q_10, .inr (5, u_12 ++ [iv 9, iv 0, va_rf none]))] : va_W)) [0, 1, 2, 3, 4, 5, 6, 7, 8, 9, 10, 11, 12, 13, 14, 15, 16, 17, 19] rfl
      have hD9 := hD.sub (ws' := (SW E o u_5.1 u_5.2.1) ++ ([(ch, .inl (E.2 (3000 + 22), 3, .inl (fun zk : Nat => iI (if zk = 0 then k else if zk = 1 then p9 else th))))] : va_W) ++ ([(q_10, .inr (5, u_12 ++ [iv 9, iv 0, va_rf none]))] : va_W)) [0, 1, 2, 3, 4, 5, 6, 7, 8, 9, 10, 11, 12, 13, 14, 15, 16, 17, 19] (by decide) rfl
      have hPq := hP.sub (ws' := [(q_8, .inr (5, u_14 ++ [iv 8, iv i9, va_rf (some q_10)]))]) [18] rfl
      exact n_athrow ((u_5.1, u_5.2.1), q_10, u_12 ++ [iv 9, iv 0, va_rf none]) hx hb dX1_performOne_45 (k0 := 18) (ci := 5) (C0 := "ClockworkTailor$Refusal") (T0 := TX6) (N0 := 9) rfl rfl hK hP (by exact ⟨rfl, OSH_c hc9 hu_12⟩) hP9 hD9 hS (by exact fun y hy => by cases hy; exact ⟨u_14, hu_14, hPq⟩) hge_q_8 (by rw [htab]; decide) hlocks (Nat.le_of_ble_eq_true rfl) (Nat.le_of_ble_eq_true rfl)
    · subst hEn9
      obtain ⟨pre9, hpre9, hPq9⟩ := hxf _ hz9x
      refine vx_catch (own := "ClockworkTailor") hown [] _ [_, _, _, _] htab (fun z hz => by cases hz) (by decide) (by decide) (name := "ClockworkTailor$Refusal") (hts _ q815) (hK.nw q817) hce hcv hcl ?_
      obtain ⟨hP, hD⟩ := n_joinX hlt_2 (show List.map Prod.fst ((SW E o u_5.1 u_5.2.1) ++ ([(ch, .inl (E.2 (3000 + 22), 3, .inl (fun zk : Nat => iI (if zk = 0 then k else if zk = 1 then p9 else th))))] : va_W)) = _ from rfl) hP hD hq9 (hA _ (Nat.le_trans hz_3 hq9)) hPq9
      have hP : va_P E.1 CL ((SW E o u_5.1 u_5.2.1) ++ ([(ch, .inl (E.2 (3000 + 22), 3, .inl (fun zk : Nat => iI (if zk = 0 then k else if zk = 1 then p9 else th))))] : va_W) ++ ([(q9, .inr (5, (pre9 ++ [iv wd9.1, iv wd9.2, .null])))] : va_W)) H := hP
      have hD : va_D A ((SW E o u_5.1 u_5.2.1) ++ ([(ch, .inl (E.2 (3000 + 22), 3, .inl (fun zk : Nat => iI (if zk = 0 then k else if zk = 1 then p9 else th))))] : va_W) ++ ([(q9, .inr (5, (pre9 ++ [iv wd9.1, iv wd9.2, .null])))] : va_W)) := hD
      refine lv_astore_n (lv' := [(3, .ref q9), (0, .ref (o 0)), (1, .ref ch), (2, iv i9)]) hx hb dX1_performOne_11 rfl hl (by decide) rfl (fun ls hl => ?_)
      have hz9_q_16 : s.heap.size ≤ (H).size := hS.1
      refine n_newK (ci := 5) (fs := [.null, .null, .null, .null, .null, iv 0, iv 0, iv 0, .null]) (C := RX6) (T := TX6) (N := 9) hx hb hts in_X6 tyX6 tyX6_ok hown (hts _ q815) (hts _ q816) (hts _ q117) hK hP hD hS hA rfl (fun j hj => by rcases (show j = 0 ∨ j = 1 ∨ j = 2 ∨ j = 3 ∨ j = 4 ∨ j = 5 ∨ j = 6 ∨ j = 7 ∨ j = 8 by omega) with rfl | rfl | rfl | rfl | rfl | rfl | rfl | rfl | rfl <;> rfl) (Nat.le_of_ble_eq_true rfl) (Nat.le_of_ble_eq_true rfl) dX1_performOne_12 (fun q_16 H hfr_q_16 o_17 hsz_q_16 hP hD hS => ?_)
      have hge_q_16 : s.heap.size ≤ q_16 := Nat.le_trans hz9_q_16 hsz_q_16
      have hP : va_P E.1 CL ((SW E o u_5.1 u_5.2.1) ++ ([(ch, .inl (E.2 (3000 + 22), 3, .inl (fun zk : Nat => iI (if zk = 0 then k else if zk = 1 then p9 else th))))] : va_W) ++ ([(q9, .inr (5, (pre9 ++ [iv wd9.1, iv wd9.2, .null])))] : va_W) ++ ([(q_16, .inr (5, [.null, .null, .null, .null, .null, iv 0, iv 0, iv 0, .null]))] : va_W)) H := hP
      have hD : va_D A ((SW E o u_5.1 u_5.2.1) ++ ([(ch, .inl (E.2 (3000 + 22), 3, .inl (fun zk : Nat => iI (if zk = 0 then k else if zk = 1 then p9 else th))))] : va_W) ++ ([(q9, .inr (5, (pre9 ++ [iv wd9.1, iv wd9.2, .null])))] : va_W) ++ ([(q_16, .inr (5, [.null, .null, .null, .null, .null, iv 0, iv 0, iv 0, .null]))] : va_W)) := hD
      refine lv_dup hx hb dX1_performOne_15 rfl ?_
      refine lv_bipush (v := iI 8) hx hb dX1_performOne_16 (by decide) ?_
      refine lv_iload_n hx hb dX1_performOne_18 rfl (lv_at hl 3 rfl) ?_
      refine lv_aload_n hx hb dX1_performOne_19 rfl (lv_at hl 0 rfl) ?_
      refine n_cuxvSK (w2 := fun u_18 => (SW E o u_5.1 u_5.2.1) ++ ([(ch, .inl (E.2 (3000 + 22), 3, .inl (fun zk : Nat => iI (if zk = 0 then k else if zk = 1 then p9 else th))))] : va_W) ++ ([(q9, .inr (5, (pre9 ++ [iv wd9.1, iv wd9.2, .null])))] : va_W) ++ ([(q_16, .inr (5, u_18 ++ [iv 8, iv i9, va_rf (some q9)]))] : va_W)) (va_runI (As := [iv 8, iv i9, .ref q9]) (rest := [.ref q_16]) ⟨hx, hb, hml, hown, hts⟩ (mt_X6_init_2 l E q_16 [.null, .null, .null, .null, .null, iv 0, iv 0, iv 0, .null] 8 i9 (some q9) hst _) (n_cwI 3 hts q1993 q828 q117 q829 rfl rfl rfl (by decide +kernel) ⟨Nat.le_of_ble_eq_true rfl, Nat.le_of_ble_eq_true rfl⟩) (UF_S (hP.sub (ws' := [(q_16, .inr (5, [.null, .null, .null, .null, .null, iv 0, iv 0, iv 0, .null]))]) [19] rfl) hK (hD.sub (ws' := [(q_16, .inr (5, [.null, .null, .null, .null, .null, iv 0, iv 0, iv 0, .null]))]) [19] rfl rfl) hE hS (va_sub_free hD hS hA [19] rfl) hfr_q_16) rfl rfl hl.1 rfl (lv_room (Nat.le_of_ble_eq_true rfl)) dX1_performOne_20 ⟨Nat.le_of_ble_eq_true rfl, Nat.le_of_ble_eq_true rfl⟩) hP hD hS hA [19] [0, 1, 2, 3, 4, 5, 6, 7, 8, 9, 10, 11, 12, 13, 14, 15, 16, 17, 18] [0, 1, 2, 3, 4, 5, 6, 7, 8, 9, 10, 11, 12, 13, 14, 15, 16, 17, 18, 19] rfl rfl rfl rfl rfl (fun _ => rfl) (fun u_18 H locs hk_19 hu_18 hP hD hS => ?_)
      have hu_18 : u_18.length = 6 := hu_18
      have hP : va_P E.1 CL ((SW E o u_5.1 u_5.2.1) ++ ([(ch, .inl (E.2 (3000 + 22), 3, .inl (fun zk : Nat => iI (if zk = 0 then k else if zk = 1 then p9 else th))))] : va_W) ++ ([(q9, .inr (5, (pre9 ++ [iv wd9.1, iv wd9.2, .null])))] : va_W) ++ ([(q_16, .inr (5, u_18 ++ [iv 8, iv i9, va_rf (some q9)]))] : va_W)) H := hP
      have hD : va_D A ((SW E o u_5.1 u_5.2.1) ++ ([(ch, .inl (E.2 (3000 + 22), 3, .inl (fun zk : Nat => iI (if zk = 0 then k else if zk = 1 then p9 else th))))] : va_W) ++ ([(q9, .inr (5, (pre9 ++ [iv wd9.1, iv wd9.2, .null])))] : va_W) ++ ([(q_16, .inr (5, u_18 ++ [iv 8, iv i9, va_rf (some q9)]))] : va_W)) := hD
      have hP9 := hP.sub (ws' := (SW E o u_5.1 u_5.2.1) ++ ([(ch, .inl (E.2 (3000 + 22), 3, .inl (fun zk : Nat => iI (if zk = 0 then k else if zk = 1 then p9 else th))))] : va_W) ++ ([(q9, .inr (5, (pre9 ++ [iv wd9.1, iv wd9.2, .null])))] : va_W)) [0, 1, 2, 3, 4, 5, 6, 7, 8, 9, 10, 11, 12, 13, 14, 15, 16, 17, 18] rfl
      have hD9 := hD.sub (ws' := (SW E o u_5.1 u_5.2.1) ++ ([(ch, .inl (E.2 (3000 + 22), 3, .inl (fun zk : Nat => iI (if zk = 0 then k else if zk = 1 then p9 else th))))] : va_W) ++ ([(q9, .inr (5, (pre9 ++ [iv wd9.1, iv wd9.2, .null])))] : va_W)) [0, 1, 2, 3, 4, 5, 6, 7, 8, 9, 10, 11, 12, 13, 14, 15, 16, 17, 18] (by decide) rfl
      have hPq := hP.sub (ws' := [(q_16, .inr (5, u_18 ++ [iv 8, iv i9, va_rf (some q9)]))]) [19] rfl
      exact n_athrow ((u_5.1, u_5.2.1), q9, (pre9 ++ [iv wd9.1, iv wd9.2, .null])) hx hb dX1_performOne_23 (k0 := 19) (ci := 5) (C0 := "ClockworkTailor$Refusal") (T0 := TX6) (N0 := 9) rfl rfl hK hP (by exact ⟨rfl, OSH_w hA9 hpre9⟩) hP9 hD9 hS (by exact fun y hy => by cases hy; exact ⟨u_18, hu_18, hPq⟩) hge_q_16 (by rw [htab]; decide) hlocks (Nat.le_of_ble_eq_true rfl) (Nat.le_of_ble_eq_true rfl)
  · intro u_4 H locs hC hP hD hS
    have hu_4 : (∃ q, A_tch g fl k p9 th = .inr (.inr q)) ∧ SR (rs_g g (A_tch g fl k p9 th)) u_4.1 u_4.2 := hC
    have hP : va_P E.1 CL ((SW E o u_4.1 u_4.2) ++ ([(ch, .inl (E.2 (3000 + 22), 3, .inl (fun zk : Nat => iI (if zk = 0 then k else if zk = 1 then p9 else th))))] : va_W)) H := hP
    have hD : va_D A ((SW E o u_4.1 u_4.2) ++ ([(ch, .inl (E.2 (3000 + 22), 3, .inl (fun zk : Nat => iI (if zk = 0 then k else if zk = 1 then p9 else th))))] : va_W)) := hD
    refine lv_istore_n (lv' := [(3, iv (rs_val 0 (A_tch g fl k p9 th))), (0, .ref (o 0)), (1, .ref ch), (2, iv i9)]) hx hb dX1_performOne_7 rfl hl (by decide) rfl (fun ls hl => ?_)
    refine lv_goto (tgt := 46) hx hb dX1_performOne_8 (by decide) ?_
    refine vx_ret ?_
    refine W.widen (k := 7) (n := 49) (Nat.le_of_ble_eq_true rfl) (Nat.le_of_ble_eq_true rfl) ?_
    exact W.vret hx hb hr (fun tt_ ht_ hW_ => ⟨⟨(u_4.1, u_4.2), rfl, hu_4, by rw [ht_]; exact hP, hD⟩, hS.F ht_⟩) hS.2.2 dX1_performOne_46
