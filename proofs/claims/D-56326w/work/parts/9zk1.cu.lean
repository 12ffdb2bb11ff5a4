set_option maxHeartbeats 2000000 in
set_option maxRecDepth 100000 in
theorem mt_X1_performOne_16 (l : Launch) (E : EE) (o : Nat → Nat) (sc : Nat → Int) (ar : Nat → Int → Int) (ch : Nat) (th : Int) (i9 : Int) (g : Int → Int) (hst : l.stackTraces = false) (hsr : SR g sc ar) (hth : -2147483648 ≤ th ∧ th < 2147483648) (hg0 : 0 ≤ g 0) (how : OY g) (hhh : HH g) (hpl : ∀ k, 0 ≤ k → k < g 1 → 0 ≤ m_thing g k 1 ∧ m_thing g k 1 < 2147483648) (hsc : SC g) (hi9 : -2147483648 ≤ i9 ∧ i9 < 2147483648) (sz : Nat) : vx_Met l yX1_performOne (wsW_ yX1_performOne cX1_performOne 4 none [(0, 8, 11, 7), (0, 8, 24, 68), (0, 8, 24, 74), (0, 8, 24, 77), (0, 8, 24, 71)]) { frames := 11, cells := 3, slots := 24, locals := 190 } (va_Pc [.ref (o 0), .ref ch, iv i9] (UX E ((SW E o sc ar) ++ ([(ch, .inl (E.2 (3000 + 16), 1, .inl (fun zk : Nat => iI ( th))))] : va_W)) sz)) (UQxv E (fun u : SU => (∃ q, A_close g th = .inr (.inr q)) ∧ SR (rs_g g (A_close g th)) u.1 u.2) (fun u : SU => (SW E o u.1 u.2) ++ ([(ch, .inl (E.2 (3000 + 16), 1, .inl (fun zk : Nat => iI ( th))))] : va_W)) (va_A ((SW E o sc ar) ++ ([(ch, .inl (E.2 (3000 + 16), 1, .inl (fun zk : Nat => iI ( th))))] : va_W)) sz)) (UXx E (fun (En : String) (u : SU × Nat × List Value) => En = "ClockworkTailor$Refusal" ∧ OSH (A_close g th) u.2.1 u.2.2) (fun u : SU × Nat × List Value => (SW E o u.1.1 u.1.2) ++ ([(ch, .inl (E.2 (3000 + 16), 1, .inl (fun zk : Nat => iI ( th))))] : va_W) ++ (([(u.2.1, .inr (5, u.2.2))] : va_W))) (fun u : SU × Nat × List Value => some (5, [iv 8, iv i9, .ref u.2.1])) (va_A ((SW E o sc ar) ++ ([(ch, .inl (E.2 (3000 + 16), 1, .inl (fun zk : Nat => iI ( th))))] : va_W)) sz)) 3 24 (va_A ((SW E o sc ar) ++ ([(ch, .inl (E.2 (3000 + 16), 1, .inl (fun zk : Nat => iI ( th))))] : va_W)) sz) := by
  refine vx_ofWH (hh := [(0, 8, 11, 7), (0, 8, 24, 68), (0, 8, 24, 74), (0, 8, 24, 77), (0, 8, 24, 71)]) (cc := cX1_performOne) (maxL := 4) (ret := none) (by decide) rfl ?_
  intro p e s m args below meth c s₁ B hml hv
  obtain ⟨rfl, hsz, hP, hK, hD0, hE⟩ := hv
  have hx := B.exec
  have hb := B.bytes
  have hr := B.returns
  have hts := atoms_spec (ws := (wsW_ yX1_performOne cX1_performOne 4 none [(0, 8, 11, 7), (0, 8, 24, 68), (0, 8, 24, 74), (0, 8, 24, 77), (0, 8, 24, 71)])) B.pre
  have htab : c.exceptionTable.toList = tableOf [(0, 8, 11, 7), (0, 8, 24, 68), (0, 8, 24, 74), (0, 8, 24, 77), (0, 8, 24, 71)] := vx_table (x := yX1_performOne) B (hts _ List.mem_cons_self)
  have hts : ∀ w ∈ lw_all, w.before _ s = true := fun w h => hts w (List.mem_cons_of_mem _ h)
  have hown : s.vm.findClass RX1 = some m.cls := findClass_of_methodNamed B.named
  have hlocks := B.notSynchronized
  subst hsz
  have hD := hD0.self (sz := s.heap.size)
  generalize hAe : va_A ((SW E o sc ar) ++ ([(ch, .inl (E.2 (3000 + 16), 1, .inl (fun zk : Nat => iI ( th))))] : va_W)) s.heap.size = A at hD hE ⊢
  have hA : ∀ q : Nat, s.heap.size ≤ q → A q := fun q h => by rw [← hAe]; exact Or.inr h
  have hS : va_S A s.heap s.heap [] := va_S.rf
  have hl := lv_entry ([.ref (o 0), .ref ch, iv i9]) (n := 4) (Nat.le_of_ble_eq_true rfl)
  rw [lg_entry_eq]
  generalize (lg_sl ([.ref (o 0), .ref ch, iv i9]) ++ List.replicate (4 - (lg_sl ([.ref (o 0), .ref ch, iv i9])).length) Slot.unset).toArray = ls at hl ⊢
  have hl : lv_has ls 4 [(0, .ref (o 0)), (1, .ref ch), (2, iv i9)] := hl
  refine lv_aload_n hx hb dX1_performOne_0 rfl (lv_at hl 1 rfl) ?_
  refine lv_aload_n hx hb dX1_performOne_1 rfl (lv_at hl 0 rfl) ?_
  have hg_1 : gpick [SW E o sc ar, [(ch, .inl (E.2 (3000 + 16), 1, .inl (fun zk : Nat => iI ( th))))]] ([SW E o sc ar] ++ [[(ch, .inl (E.2 (3000 + 16), 1, .inl (fun zk : Nat => iI ( th))))]]) [0, 1] := ⟨rfl, (show List.Perm [0, 1] (List.range 2) from by decide)⟩
  have hg_1P : va_P E.1 CL (SW E o sc ar) s.heap := (g_out hg_1 hP hD).1
  have hg_1D : va_D A (SW E o sc ar) := (g_out hg_1 hP hD).2
  have hg_1F : ∀ q, va_A (SW E o sc ar) s.heap.size q → A q := g_free hg_1 hP hD hS hA
  have hlt_2 := P_lts hP
  have hz_3 : s.heap.size ≤ s.heap.size := hS.1
  have hj_6 : ∀ u_4 : SU, gpick ([SW E o u_4.1 u_4.2] ++ [[(ch, .inl (E.2 (3000 + 16), 1, .inl (fun zk : Nat => iI ( th))))]]) [SW E o u_4.1 u_4.2, [(ch, .inl (E.2 (3000 + 16), 1, .inl (fun zk : Nat => iI ( th))))]] [0, 1] := fun u_4 => ⟨rfl, (show List.Perm [0, 1] (List.range 2) from by decide)⟩
  have hj_7 : ∀ u_5 : SUX, gpick ([SW E o u_5.1 u_5.2.1] ++ [[(ch, .inl (E.2 (3000 + 16), 1, .inl (fun zk : Nat => iI ( th))))]]) [SW E o u_5.1 u_5.2.1, [(ch, .inl (E.2 (3000 + 16), 1, .inl (fun zk : Nat => iI ( th))))]] [0, 1] := fun u_5 => ⟨rfl, (show List.Perm [0, 1] (List.range 2) from by decide)⟩
  refine n_tx5B (x := fun u_4 => rs_val 0 (A_close g th)) (w2 := fun u_4 => (SW E o u_4.1 u_4.2) ++ ([(ch, .inl (E.2 (3000 + 16), 1, .inl (fun zk : Nat => iI ( th))))] : va_W)) (w3 := fun u_5 => (SW E o u_5.1 u_5.2.1) ++ ([(ch, .inl (E.2 (3000 + 16), 1, .inl (fun zk : Nat => iI ( th))))] : va_W)) (n_fwS2 (rest := []) hx hb (hl.1.trans hml.symm) hts hK hown (hts _ q924) ls_16 rfl (by decide +kernel) lk_16 ⟨rfl, rfl, by decide +kernel⟩ (y := yX4_lambda_closing_7) ⟨rfl, rfl, by decide +kernel, rfl⟩ ⟨by decide +kernel, by decide +kernel⟩ q1864 q103 (sig := ⟨[.int, .object "ClockworkTailor$State"], some .int⟩) (by decide +kernel) rfl (mt_X4_lambda_closing_7 l E o sc ar th g (by exact hst) (by assumption) (by omega) (by assumption) (by assumption) (by assumption) (by assumption) (by assumption) _) rfl rfl q1863 (hP 17 _ rfl) rfl rfl rfl (UX_S hg_1P hK (hg_1D) hE hS hg_1F) (Nat.le_of_ble_eq_true rfl) (Nat.le_of_ble_eq_true rfl) (Nat.le_of_ble_eq_true rfl) (Nat.le_of_ble_eq_true rfl) dX1_performOne_2) hS hg_1F ?_ ?_ ?_ ?_
  · exact (fun u_4 _ hk9 hp9 hd9 => g_back hg_1 (hj_6 u_4) hP hD hg_1F hk9 hp9 hd9)
  · exact (fun u_5 _ hk9 hp9 hd9 => g_back hg_1 (hj_7 u_5) hP hD hg_1F hk9 hp9 hd9)
  · intro En ce q9 u_5 H locs hCx hP hD hS hxf hq9 hce hcv hcl
    have hCx : XC1 (nmX "java/lang/IndexOutOfBoundsException" "" "") (A_close g th) En u_5.2.2 := hCx
    have hP : va_P E.1 CL ((SW E o u_5.1 u_5.2.1) ++ ([(ch, .inl (E.2 (3000 + 16), 1, .inl (fun zk : Nat => iI ( th))))] : va_W)) H := hP
    have hD : va_D A ((SW E o u_5.1 u_5.2.1) ++ ([(ch, .inl (E.2 (3000 + 16), 1, .inl (fun zk : Nat => iI ( th))))] : va_W)) := hD
    rcases hCx with ⟨c9, hc9, hEn9⟩ | ⟨wd9, hA9, hEn9, hz9x⟩
    · have hNM : En = "java/lang/IndexOutOfBoundsException" := by
        rw [hEn9]
        have h9 := hnm_close hc9
        subst h9
        rfl
      clear hEn9
      subst hNM
      refine vx_catch (own := "ClockworkTailor") hown [_, _, _] _ [_] htab (fun z hz => by
          simp only [List.mem_cons, List.not_mem_nil, or_false] at hz
          rcases hz with rfl | rfl | rfl
          · exact Or.inr ⟨by decide, "ClockworkTailor$Refusal", hts _ q815, hK.kx.2.2.2.2.2 (_, _) (by decide)⟩
          · exact Or.inr ⟨by decide, "java/lang/IllegalArgumentException", hts _ q892, hK.kx.2.2.2.2.2 (_, _) (by decide)⟩
          · exact Or.inr ⟨by decide, "java/lang/IllegalStateException", hts _ q913, hK.kx.2.2.2.2.2 (_, _) (by decide)⟩) (by decide) (by decide) (name := "java/lang/IndexOutOfBoundsException") (hts _ q1110) (hK.nw q1112) hce hcv hcl ?_
      refine lv_astore_n (lv' := [(3, .ref q9), (0, .ref (o 0)), (1, .ref ch), (2, iv i9)]) hx hb dX1_performOne_24 rfl hl (by decide) rfl (fun ls hl => ?_)
      have hz9_q_8 : s.heap.size ≤ (H).size := hS.1
      refine n_newK (ci := 5) (fs := [.null, .null, .null, .null, .null, iv 0, iv 0, iv 0, .null]) (C := RX6) (T := TX6) (N := 9) hx hb hts in_X6 tyX6 tyX6_ok hown (hts _ q815) (hts _ q816) (hts _ q117) hK hP hD hS hA rfl (fun j hj => by rcases (show j = 0 ∨ j = 1 ∨ j = 2 ∨ j = 3 ∨ j = 4 ∨ j = 5 ∨ j = 6 ∨ j = 7 ∨ j = 8 by omega) with rfl | rfl | rfl | rfl | rfl | rfl | rfl | rfl | rfl <;> rfl) (Nat.le_of_ble_eq_true rfl) (Nat.le_of_ble_eq_true rfl) dX1_performOne_25 (fun q_8 H hfr_q_8 o_9 hsz_q_8 hP hD hS => ?_)
      have hge_q_8 : s.heap.size ≤ q_8 := Nat.le_trans hz9_q_8 hsz_q_8
      have hP : va_P E.1 CL ((SW E o u_5.1 u_5.2.1) ++ ([(ch, .inl (E.2 (3000 + 16), 1, .inl (fun zk : Nat => iI ( th))))] : va_W) ++ ([(q_8, .inr (5, [.null, .null, .null, .null, .null, iv 0, iv 0, iv 0, .null]))] : va_W)) H := hP
      have hD : va_D A ((SW E o u_5.1 u_5.2.1) ++ ([(ch, .inl (E.2 (3000 + 16), 1, .inl (fun zk : Nat => iI ( th))))] : va_W) ++ ([(q_8, .inr (5, [.null, .null, .null, .null, .null, iv 0, iv 0, iv 0, .null]))] : va_W)) := hD
      refine lv_dup hx hb dX1_performOne_28 rfl ?_
      refine lv_bipush (v := iI 8) hx hb dX1_performOne_29 (by decide) ?_
      refine lv_iload_n hx hb dX1_performOne_31 rfl (lv_at hl 3 rfl) ?_
      have hz9_q_10 : s.heap.size ≤ (H).size := hS.1
      refine n_newK (ci := 5) (fs := [.null, .null, .null, .null, .null, iv 0, iv 0, iv 0, .null]) (C := RX6) (T := TX6) (N := 9) hx hb hts in_X6 tyX6 tyX6_ok hown (hts _ q815) (hts _ q816) (hts _ q117) hK hP hD hS hA rfl (fun j hj => by rcases (show j = 0 ∨ j = 1 ∨ j = 2 ∨ j = 3 ∨ j = 4 ∨ j = 5 ∨ j = 6 ∨ j = 7 ∨ j = 8 by omega) with rfl | rfl | rfl | rfl | rfl | rfl | rfl | rfl | rfl <;> rfl) (Nat.le_of_ble_eq_true rfl) (Nat.le_of_ble_eq_true rfl) dX1_performOne_32 (fun q_10 H hfr_q_10 o_11 hsz_q_10 hP hD hS => ?_)
      have hge_q_10 : s.heap.size ≤ q_10 := Nat.le_trans hz9_q_10 hsz_q_10
      have hne_q_8_q_10 : q_8 ≠ q_10 := Nat.ne_of_lt (Nat.lt_of_lt_of_le hfr_q_8.lt hsz_q_10)
      have hfr_q_8 := hfr_q_8.kept (o_11 q_8 hfr_q_8.lt)
      have hP : va_P E.1 CL ((SW E o u_5.1 u_5.2.1) ++ ([(ch, .inl (E.2 (3000 + 16), 1, .inl (fun zk : Nat => iI ( th))))] : va_W) ++ ([(q_8, .inr (5, [.null, .null, .null, .null, .null, iv 0, iv 0, iv 0, .null]))] : va_W) ++ ([(q_10, .inr (5, [.null, .null, .null, .null, .null, iv 0, iv 0, iv 0, .null]))] : va_W)) H := hP
      have hD : va_D A ((SW E o u_5.1 u_5.2.1) ++ ([(ch, .inl (E.2 (3000 + 16), 1, .inl (fun zk : Nat => iI ( th))))] : va_W) ++ ([(q_8, .inr (5, [.null, .null, .null, .null, .null, iv 0, iv 0, iv 0, .null]))] : va_W) ++ ([(q_10, .inr (5, [.null, .null, .null, .null, .null, iv 0, iv 0, iv 0, .null]))] : va_W)) := hD
      refine lv_dup hx hb dX1_performOne_35 rfl ?_
      refine lv_bipush (v := iI 9) hx hb dX1_performOne_36 (by decide) ?_
      refine lv_iconst (v := iI 0) hx hb dX1_performOne_38 rfl ?_
      refine n_cuxvSK (w2 := fun u_12 => (SW E o u_5.1 u_5.2.1) ++ ([(ch, .inl (E.2 (3000 + 16), 1, .inl (fun zk : Nat => iI ( th))))] : va_W) ++ ([(q_8, .inr (5, [.null, .null, .null, .null, .null, iv 0, iv 0, iv 0, .null]))] : va_W) ++ ([(q_10, .inr (5, u_12 ++ [iv 9, iv 0, va_rf none]))] : va_W)) (va_runI (As := [iv 9, iv 0]) (rest := [.ref q_10, iv i9, iv 8, .ref q_8, .ref q_8]) ⟨hx, hb, hml, hown, hts⟩ (mt_X6_init l E q_10 [.null, .null, .null, .null, .null, iv 0, iv 0, iv 0, .null] 9 0 hst _) (n_cwI 2 hts q824 q825 q117 q826 rfl rfl rfl (by decide +kernel) ⟨Nat.le_of_ble_eq_true rfl, Nat.le_of_ble_eq_true rfl⟩) (UF_S (hP.sub (ws' := [(q_10, .inr (5, [.null, .null, .null, .null, .null, iv 0, iv 0, iv 0, .null]))]) [19] rfl) hK (hD.sub (ws' := [(q_10, .inr (5, [.null, .null, .null, .null, .null, iv 0, iv 0, iv 0, .null]))]) [19] rfl rfl) hE hS (va_sub_free hD hS hA [19] rfl) hfr_q_10) rfl rfl hl.1 rfl (lv_room (Nat.le_of_ble_eq_true rfl)) dX1_performOne_39 ⟨Nat.le_of_ble_eq_true rfl, Nat.le_of_ble_eq_true rfl⟩) hP hD hS hA [19] [0, 1, 2, 3, 4, 5, 6, 7, 8, 9, 10, 11, 12, 13, 14, 15, 16, 17, 18] [0, 1, 2, 3, 4, 5, 6, 7, 8, 9, 10, 11, 12, 13, 14, 15, 16, 17, 18, 19] rfl rfl rfl rfl rfl (fun _ => rfl) (fun u_12 H locs hk_13 hu_12 hP hD hS => ?_)
      have hfr_q_8 := hfr_q_8.kept (hk_13 q_8 hfr_q_8.lt (n_notA hfr_q_8.lt hne_q_8_q_10))
      have hu_12 : u_12.length = 6 := hu_12
      have hP : va_P E.1 CL ((SW E o u_5.1 u_5.2.1) ++ ([(ch, .inl (E.2 (3000 + 16), 1, .inl (fun zk : Nat => iI ( th))))] : va_W) ++ ([(q_8, .inr (5, [.null, .null, .null, .null, .null, iv 0, iv 0, iv 0, .null]))] : va_W) ++ ([(q_10, .inr (5, u_12 ++ [iv 9, iv 0, va_rf none]))] : va_W)) H := hP
      have hD : va_D A ((SW E o u_5.1 u_5.2.1) ++ ([(ch, .inl (E.2 (3000 + 16), 1, .inl (fun zk : Nat => iI ( th))))] : va_W) ++ ([(q_8, .inr (5, [.null, .null, .null, .null, .null, iv 0, iv 0, iv 0, .null]))] : va_W) ++ ([(q_10, .inr (5, u_12 ++ [iv 9, iv 0, va_rf none]))] : va_W)) := hD
      refine n_cuxvSK (w2 := fun u_14 => (SW E o u_5.1 u_5.2.1) ++ ([(ch, .inl (E.2 (3000 + 16), 1, .inl (fun zk : Nat => iI ( th))))] : va_W) ++ ([(q_8, .inr (5, u_14 ++ [iv 8, iv i9, va_rf (some q_10)]))] : va_W) ++ ([(q_10, .inr (5, u_12 ++ [iv 9, iv 0, va_rf none]))] : va_W)) (va_runI (As := [iv 8, iv i9, .ref q_10]) (rest := [.ref q_8]) ⟨hx, hb, hml, hown, hts⟩ (mt_X6_init_2 l E q_8 [.null, .null, .null, .null, .null, iv 0, iv 0, iv 0, .null] 8 i9 (some q_10) hst _) (n_cwI 3 hts q1993 q828 q117 q829 rfl rfl rfl (by decide +kernel) ⟨Nat.le_of_ble_eq_true rfl, Nat.le_of_ble_eq_true rfl⟩) (UF_S (hP.sub (ws' := [(q_8, .inr (5, [.null, .null, .null, .null, .null, iv 0, iv 0, iv 0, .null]))]) [18] rfl) hK (hD.sub (ws' := [(q_8, .inr (5, [.null, .null, .null, .null, .null, iv 0, iv 0, iv 0, .null]))]) [18] rfl rfl) hE hS (va_sub_free hD hS hA [18] rfl) hfr_q_8) rfl rfl hl.1 rfl (lv_room (Nat.le_of_ble_eq_true rfl)) dX1_performOne_42 ⟨Nat.le_of_ble_eq_true rfl, Nat.le_of_ble_eq_true rfl⟩) hP hD hS hA [18] [0, 1, 2, 3, 4, 5, 6, 7, 8, 9, 10, 11, 12, 13, 14, 15, 16, 17, 19] [0, 1, 2, 3, 4, 5, 6, 7, 8, 9, 10, 11, 12, 13, 14, 15, 16, 17, 19, 18] rfl rfl rfl rfl rfl (fun _ => rfl) (fun u_14 H locs hk_15 hu_14 hP hD hS => ?_)
      have hu_14 : u_14.length = 6 := hu_14
      have hP : va_P E.1 CL ((SW E o u_5.1 u_5.2.1) ++ ([(ch, .inl (E.2 (3000 + 16), 1, .inl (fun zk : Nat => iI ( th))))] : va_W) ++ ([(q_8, .inr (5, u_14 ++ [iv 8, iv i9, va_rf (some q_10)]))] : va_W) ++ ([(q_10, .inr (5, u_12 ++ [iv 9, iv 0, va_rf none]))] : va_W)) H := hP
      have hD : va_D A ((SW E o u_5.1 u_5.2.1) ++ ([(ch, .inl (E.2 (3000 + 16), 1, .inl (fun zk : Nat => iI ( th))))] : va_W) ++ ([(q_8, .inr (5, u_14 ++ [iv 8, iv i9, va_rf (some q_10)]))] : va_W) ++ ([(q_10, .inr (5, u_12 ++ [iv 9, iv 0, va_rf none]))] : va_W)) := hD
      have hP9 := hP.sub (ws' := (SW E o u_5.1 u_5.2.1) ++ ([(ch, .inl (E.2 (3000 + 16), 1, .inl (fun zk : Nat => iI ( th))))] : va_W) ++ ([(q_10, .inr (5, u_12 ++ [iv 9, iv 0, va_rf none]))] : va_W)) [0, 1, 2, 3, 4, 5, 6, 7, 8, 9, 10, 11, 12, 13, 14, 15, 16, 17, 19] rfl
      have hD9 := hD.sub (ws' := (SW E o u_5.1 u_5.2.1) ++ ([(ch, .inl (E.2 (3000 + 16), 1, .inl (fun zk : Nat => iI ( th))))] : va_W) ++ ([(q_10, .inr (5, u_12 ++ [iv 9, iv 0, va_rf none]))] : va_W)) [0, 1, 2, 3, 4, 5, 6, 7, 8, 9, 10, 11, 12, 13, 14, 15, 16, 17, 19] (by decide) rfl
      have hPq := hP.sub (ws' := [(q_8, .inr (5, u_14 ++ [iv 8, iv i9, va_rf (some q_10)]))]) [18] rfl
      exact n_athrow ((u_5.1, u_5.2.1), q_10, u_12 ++ [iv 9, iv 0, va_rf none]) hx hb dX1_performOne_45 (k0 := 18) (ci := 5) (C0 := "ClockworkTailor$Refusal") (T0 := TX6) (N0 := 9) rfl rfl hK hP (by exact ⟨rfl, OSH_c hc9 hu_12⟩) hP9 hD9 hS (by exact fun y hy => by cases hy; exact ⟨u_14, hu_14, hPq⟩) hge_q_8 (by rw [htab]; decide) hlocks (Nat.le_of_ble_eq_true rfl) (Nat.le_of_ble_eq_true rfl)
    · subst hEn9
      obtain ⟨pre9, hpre9, hPq9⟩ := hxf _ hz9x
      refine vx_catch (own := "ClockworkTailor") hown [] _ [_, _, _, _] htab (fun z hz => by cases hz) (by decide) (by decide) (name := "ClockworkTailor$Refusal") (hts _ q815) (hK.nw q817) hce hcv hcl ?_
      obtain ⟨hP, hD⟩ := n_joinX hlt_2 (show List.map Prod.fst ((SW E o u_5.1 u_5.2.1) ++ ([(ch, .inl (E.2 (3000 + 16), 1, .inl (fun zk : Nat => iI ( th))))] : va_W)) = _ from rfl) hP hD hq9 (hA _ (Nat.le_trans hz_3 hq9)) hPq9
      have hP : va_P E.1 CL ((SW E o u_5.1 u_5.2.1) ++ ([(ch, .inl (E.2 (3000 + 16), 1, .inl (fun zk : Nat => iI ( th))))] : va_W) ++ ([(q9, .inr (5, (pre9 ++ [iv wd9.1, iv wd9.2, .null])))] : va_W)) H := hP
      have hD : va_D A ((SW E o u_5.1 u_5.2.1) ++ ([(ch, .inl (E.2 (3000 + 16), 1, .inl (fun zk : Nat => iI ( th))))] : va_W) ++ ([(q9, .inr (5, (pre9 ++ [iv wd9.1, iv wd9.2, .null])))] : va_W)) := hD
      refine lv_astore_n (lv' := [(3, .ref q9), (0, .ref (o 0)), (1, .ref ch), (2, iv i9)]) hx hb dX1_performOne_11 rfl hl (by decide) rfl (fun ls hl => ?_)
      have hz9_q_16 : s.heap.size ≤ (H).size := hS.1
      refine n_newK (ci := 5) (fs := [.null, .null, .null, .null, .null, iv 0, iv 0, iv 0, .null]) (C := RX6) (T := TX6) (N := 9) hx hb hts in_X6 tyX6 tyX6_ok hown (hts _ q815) (hts _ q816) (hts _ q117) hK hP hD hS hA rfl (fun j hj => by rcases (show j = 0 ∨ j = 1 ∨ j = 2 ∨ j = 3 ∨ j = 4 ∨ j = 5 ∨ j = 6 ∨ j = 7 ∨ j = 8 by omega) with rfl | rfl | rfl | rfl | rfl | rfl | rfl | rfl | rfl <;> rfl) (Nat.le_of_ble_eq_true rfl) (Nat.le_of_ble_eq_true rfl) dX1_performOne_12 (fun q_16 H hfr_q_16 o_17 hsz_q_16 hP hD hS => ?_)
      have hge_q_16 : s.heap.size ≤ q_16 := Nat.le_trans hz9_q_16 hsz_q_16
      have hP : va_P E.1 CL ((SW E o u_5.1 u_5.2.1) ++ ([(ch, .inl (E.2 (3000 + 16), 1, .inl (fun zk : Nat => iI ( th))))] : va_W) ++ ([(q9, .inr (5, (pre9 ++ [iv wd9.1, iv wd9.2, .null])))] : va_W) ++ ([(q_16, .inr (5, [.null, .null, .null, .null, .null, iv 0, iv 0, iv 0, .null]))] : va_W)) H := hP
      have hD : va_D A ((SW E o u_5.1 u_5.2.1) ++ ([(ch, .inl (E.2 (3000 + 16), 1, .inl (fun zk : Nat => iI ( th))))] : va_W) ++ ([(q9, .inr (5, (pre9 ++ [iv wd9.1, iv wd9.2, .null])))] : va_W) ++ ([(q_16, .inr (5, [.null, .null, .null, .null, .null, iv 0, iv 0, iv 0, .null]))] : va_W)) := hD
      refine lv_dup hx hb dX1_performOne_15 rfl ?_
      refine lv_bipush (v := iI 8) hx hb dX1_performOne_16 (by decide) ?_
      refine lv_iload_n hx hb dX1_performOne_18 rfl (lv_at hl 3 rfl) ?_
      refine lv_aload_n hx hb dX1_performOne_19 rfl (lv_at hl 0 rfl) ?_
      refine n_cuxvSK (w2 := fun u_18 => (SW E o u_5.1 u_5.2.1) ++ ([(ch, .inl (E.2 (3000 + 16), 1, .inl (fun zk : Nat => iI ( th))))] : va_W) ++ ([(q9, .inr (5, (pre9 ++ [iv wd9.1, iv wd9.2, .null])))] : va_W) ++ ([(q_16, .inr (5, u_18 ++ [iv 8, iv i9, va_rf (some q9)]))] : va_W)) (va_runI (As := [iv 8, iv i9, .ref q9]) (rest := [.ref q_16]) ⟨hx, hb, hml, hown, hts⟩ (mt_X6_init_2 l E q_16 [.null, .null, .null, .null, .null, iv 0, iv 0, iv 0, .null] 8 i9 (some q9) hst _) (n_cwI 3 hts q1993 q828 q117 q829 rfl rfl rfl (by decide +kernel) ⟨Nat.le_of_ble_eq_true rfl, Nat.le_of_ble_eq_true rfl⟩) (UF_S (hP.sub (ws' := [(q_16, .inr (5, [.null, .null, .null, .null, .null, iv 0, iv 0, iv 0, .null]))]) [19] rfl) hK (hD.sub (ws' := [(q_16, .inr (5, [.null, .null, .null, .null, .null, iv 0, iv 0, iv 0, .null]))]) [19] rfl rfl) hE hS (va_sub_free hD hS hA [19] rfl) hfr_q_16) rfl rfl hl.1 rfl (lv_room (Nat.le_of_ble_eq_true rfl)) dX1_performOne_20 ⟨Nat.le_of_ble_eq_true rfl, Nat.le_of_ble_eq_true rfl⟩) hP hD hS hA [19] [0, 1, 2, 3, 4, 5, 6, 7, 8, 9, 10, 11, 12, 13, 14, 15, 16, 17, 18] [0, 1, 2, 3, 4, 5, 6, 7, 8, 9, 10, 11, 12, 13, 14, 15, 16, 17, 18, 19] rfl rfl rfl rfl rfl (fun _ => rfl) (fun u_18 H locs hk_19 hu_18 hP hD hS => ?_)
      have hu_18 : u_18.length = 6 := hu_18
      have hP : va_P E.1 CL ((SW E o u_5.1 u_5.2.1) ++ ([(ch, .inl (E.2 (3000 + 16), 1, .inl (fun zk : Nat => iI ( th))))] : va_W) ++ ([(q9, .inr (5, (pre9 ++ [iv wd9.1, iv wd9.2, .null])))] : va_W) ++ ([(q_16, .inr (5, u_18 ++ [iv 8, iv i9, va_rf (some q9)]))] : va_W)) H := hP
      have hD : va_D A ((SW E o u_5.1 u_5.2.1) ++ ([(ch, .inl (E.2 (3000 + 16), 1, .inl (fun zk : Nat => iI ( th))))] : va_W) ++ ([(q9, .inr (5, (pre9 ++ [iv wd9.1, iv wd9.2, .null])))] : va_W) ++ ([(q_16, .inr (5, u_18 ++ [iv 8, iv i9, va_rf (some q9)]))] : va_W)) := hD
      have hP9 := hP.sub (ws' := (SW E o u_5.1 u_5.2.1) ++ ([(ch, .inl (E.2 (3000 + 16), 1, .inl (fun zk : Nat => iI ( th))))] : va_W) ++ ([(q9, .inr (5, (pre9 ++ [iv wd9.1, iv wd9.2, .null])))] : va_W)) [0, 1, 2, 3, 4, 5, 6, 7, 8, 9, 10, 11, 12, 13, 14, 15, 16, 17, 18] rfl
      have hD9 := hD.sub (ws' := (SW E o u_5.1 u_5.2.1) ++ ([(ch, .inl (E.2 (3000 + 16), 1, .inl (fun zk : Nat => iI ( th))))] : va_W) ++ ([(q9, .inr (5, (pre9 ++ [iv wd9.1, iv wd9.2, .null])))] : va_W)) [0, 1, 2, 3, 4, 5, 6, 7, 8, 9, 10, 11, 12, 13, 14, 15, 16, 17, 18] (by decide) rfl
      have hPq := hP.sub (ws' := [(q_16, .inr (5, u_18 ++ [iv 8, iv i9, va_rf (some q9)]))]) [19] rfl
      exact n_athrow ((u_5.1, u_5.2.1), q9, (pre9 ++ [iv wd9.1, iv wd9.2, .null])) hx hb dX1_performOne_23 (k0 := 19) (ci := 5) (C0 := "ClockworkTailor$Refusal") (T0 := TX6) (N0 := 9) rfl rfl hK hP (by exact ⟨rfl, OSH_w hA9 hpre9⟩) hP9 hD9 hS (by exact fun y hy => by cases hy; exact ⟨u_18, hu_18, hPq⟩) hge_q_16 (by rw [htab]; decide) hlocks (Nat.le_of_ble_eq_true rfl) (Nat.le_of_ble_eq_true rfl)
  · intro u_4 H locs hC hP hD hS
    have hu_4 : (∃ q, A_close g th = .inr (.inr q)) ∧ SR (rs_g g (A_close g th)) u_4.1 u_4.2 := hC
    have hP : va_P E.1 CL ((SW E o u_4.1 u_4.2) ++ ([(ch, .inl (E.2 (3000 + 16), 1, .inl (fun zk : Nat => iI ( th))))] : va_W)) H := hP
    have hD : va_D A ((SW E o u_4.1 u_4.2) ++ ([(ch, .inl (E.2 (3000 + 16), 1, .inl (fun zk : Nat => iI ( th))))] : va_W)) := hD
    refine lv_istore_n (lv' := [(3, iv (rs_val 0 (A_close g th))), (0, .ref (o 0)), (1, .ref ch), (2, iv i9)]) hx hb dX1_performOne_7 rfl hl (by decide) rfl (fun ls hl => ?_)
    refine lv_goto (tgt := 46) hx hb dX1_performOne_8 (by decide) ?_
    refine vx_ret ?_
    refine W.widen (k := 3) (n := 24) (Nat.le_of_ble_eq_true rfl) (Nat.le_of_ble_eq_true rfl) ?_
    exact W.vret hx hb hr (fun tt_ ht_ hW_ => ⟨⟨(u_4.1, u_4.2), rfl, hu_4, by rw [ht_]; exact hP, hD⟩, hS.F ht_⟩) hS.2.2 dX1_performOne_46
set_option maxHeartbeats 2000000 in
set_option maxRecDepth 100000 in
theorem mt_X1_performOne_17 (l : Launch) (E : EE) (o : Nat → Nat) (sc : Nat → Int) (ar : Nat → Int → Int) (ch : Nat) (t : Int) (n9 : Int) (i9 : Int) (g : Int → Int) (hst : l.stackTraces = false) (hsr : SR g sc ar) (ht : 0 ≤ t ∧ t < 65536) (hn : 0 ≤ n9 ∧ n9 < 65536) (htw : TW g) (hhn : HN g) (hi9 : -2147483648 ≤ i9 ∧ i9 < 2147483648) (sz : Nat) : vx_Met l yX1_performOne (wsW_ yX1_performOne cX1_performOne 4 none [(0, 8, 11, 7), (0, 8, 24, 68), (0, 8, 24, 74), (0, 8, 24, 77), (0, 8, 24, 71)]) { frames := 11, cells := 6, slots := 42, locals := 193 } (va_Pc [.ref (o 0), .ref ch, iv i9] (UX E ((SW E o sc ar) ++ ([(ch, .inl (E.2 (3000 + 17), 2, .inl (fun zk : Nat => iI (if zk = 0 then t else n9))))] : va_W)) sz)) (UQxv E (fun u : SU => (∃ q, A_rem g t n9 = .inr (.inr q)) ∧ SR (rs_g g (A_rem g t n9)) u.1 u.2) (fun u : SU => (SW E o u.1 u.2) ++ ([(ch, .inl (E.2 (3000 + 17), 2, .inl (fun zk : Nat => iI (if zk = 0 then t else n9))))] : va_W)) (va_A ((SW E o sc ar) ++ ([(ch, .inl (E.2 (3000 + 17), 2, .inl (fun zk : Nat => iI (if zk = 0 then t else n9))))] : va_W)) sz)) (UXx E (fun (En : String) (u : SU × Nat × List Value) => En = "ClockworkTailor$Refusal" ∧ OSH (A_rem g t n9) u.2.1 u.2.2) (fun u : SU × Nat × List Value => (SW E o u.1.1 u.1.2) ++ ([(ch, .inl (E.2 (3000 + 17), 2, .inl (fun zk : Nat => iI (if zk = 0 then t else n9))))] : va_W) ++ (([(u.2.1, .inr (5, u.2.2))] : va_W))) (fun u : SU × Nat × List Value => some (5, [iv 8, iv i9, .ref u.2.1])) (va_A ((SW E o sc ar) ++ ([(ch, .inl (E.2 (3000 + 17), 2, .inl (fun zk : Nat => iI (if zk = 0 then t else n9))))] : va_W)) sz)) 6 42 (va_A ((SW E o sc ar) ++ ([(ch, .inl (E.2 (3000 + 17), 2, .inl (fun zk : Nat => iI (if zk = 0 then t else n9))))] : va_W)) sz) := by
  refine vx_ofWH (hh := [(0, 8, 11, 7), (0, 8, 24, 68), (0, 8, 24, 74), (0, 8, 24, 77), (0, 8, 24, 71)]) (cc := cX1_performOne) (maxL := 4) (ret := none) (by decide) rfl ?_
  intro p e s m args below meth c s₁ B hml hv
  obtain ⟨rfl, hsz, hP, hK, hD0, hE⟩ := hv
  have hx := B.exec
  have hb := B.bytes
  have hr := B.returns
  have hts := atoms_spec (ws := (wsW_ yX1_performOne cX1_performOne 4 none [(0, 8, 11, 7), (0, 8, 24, 68), (0, 8, 24, 74), (0, 8, 24, 77), (0, 8, 24, 71)])) B.pre
  have htab : c.exceptionTable.toList = tableOf [(0, 8, 11, 7), (0, 8, 24, 68), (0, 8, 24, 74), (0, 8, 24, 77), (0, 8, 24, 71)] := vx_table (x := yX1_performOne) B (hts _ List.mem_cons_self)
  have hts : ∀ w ∈ lw_all, w.before _ s = true := fun w h => hts w (List.mem_cons_of_mem _ h)
  have hown : s.vm.findClass RX1 = some m.cls := findClass_of_methodNamed B.named
  have hlocks := B.notSynchronized
  subst hsz
  have hD := hD0.self (sz := s.heap.size)
  generalize hAe : va_A ((SW E o sc ar) ++ ([(ch, .inl (E.2 (3000 + 17), 2, .inl (fun zk : Nat => iI (if zk = 0 then t else n9))))] : va_W)) s.heap.size = A at hD hE ⊢
  have hA : ∀ q : Nat, s.heap.size ≤ q → A q := fun q h => by rw [← hAe]; exact Or.inr h
  have hS : va_S A s.heap s.heap [] := va_S.rf
  have hl := lv_entry ([.ref (o 0), .ref ch, iv i9]) (n := 4) (Nat.le_of_ble_eq_true rfl)
  rw [lg_entry_eq]
  generalize (lg_sl ([.ref (o 0), .ref ch, iv i9]) ++ List.replicate (4 - (lg_sl ([.ref (o 0), .ref ch, iv i9])).length) Slot.unset).toArray = ls at hl ⊢
  have hl : lv_has ls 4 [(0, .ref (o 0)), (1, .ref ch), (2, iv i9)] := hl
  refine lv_aload_n hx hb dX1_performOne_0 rfl (lv_at hl 1 rfl) ?_
  refine lv_aload_n hx hb dX1_performOne_1 rfl (lv_at hl 0 rfl) ?_
  have hg_1 : gpick [SW E o sc ar, [(ch, .inl (E.2 (3000 + 17), 2, .inl (fun zk : Nat => iI (if zk = 0 then t else n9))))]] ([SW E o sc ar] ++ [[(ch, .inl (E.2 (3000 + 17), 2, .inl (fun zk : Nat => iI (if zk = 0 then t else n9))))]]) [0, 1] := ⟨rfl, (show List.Perm [0, 1] (List.range 2) from by decide)⟩
  have hg_1P : va_P E.1 CL (SW E o sc ar) s.heap := (g_out hg_1 hP hD).1
  have hg_1D : va_D A (SW E o sc ar) := (g_out hg_1 hP hD).2
  have hg_1F : ∀ q, va_A (SW E o sc ar) s.heap.size q → A q := g_free hg_1 hP hD hS hA
  have hlt_2 := P_lts hP
  have hz_3 : s.heap.size ≤ s.heap.size := hS.1
  have hj_6 : ∀ u_4 : SU, gpick ([SW E o u_4.1 u_4.2] ++ [[(ch, .inl (E.2 (3000 + 17), 2, .inl (fun zk : Nat => iI (if zk = 0 then t else n9))))]]) [SW E o u_4.1 u_4.2, [(ch, .inl (E.2 (3000 + 17), 2, .inl (fun zk : Nat => iI (if zk = 0 then t else n9))))]] [0, 1] := fun u_4 => ⟨rfl, (show List.Perm [0, 1] (List.range 2) from by decide)⟩
  have hj_7 : ∀ u_5 : SUX, gpick ([SW E o u_5.1 u_5.2.1] ++ [[(ch, .inl (E.2 (3000 + 17), 2, .inl (fun zk : Nat => iI (if zk = 0 then t else n9))))]]) [SW E o u_5.1 u_5.2.1, [(ch, .inl (E.2 (3000 + 17), 2, .inl (fun zk : Nat => iI (if zk = 0 then t else n9))))]] [0, 1] := fun u_5 => ⟨rfl, (show List.Perm [0, 1] (List.range 2) from by decide)⟩
  refine n_tx5B (x := fun u_4 => rs_val 0 (A_rem g t n9)) (w2 := fun u_4 => (SW E o u_4.1 u_4.2) ++ ([(ch, .inl (E.2 (3000 + 17), 2, .inl (fun zk : Nat => iI (if zk = 0 then t else n9))))] : va_W)) (w3 := fun u_5 => (SW E o u_5.1 u_5.2.1) ++ ([(ch, .inl (E.2 (3000 + 17), 2, .inl (fun zk : Nat => iI (if zk = 0 then t else n9))))] : va_W)) (n_fwS3 (rest := []) hx hb (hl.1.trans hml.symm) hts hK hown (hts _ q924) ls_17 rfl (by decide +kernel) lk_17 ⟨rfl, rfl, by decide +kernel⟩ (y := yX4_lambda_cutting_3) ⟨rfl, rfl, by decide +kernel, rfl⟩ ⟨by decide +kernel, by decide +kernel⟩ q1872 q103 (sig := ⟨[.char, .char, .object "ClockworkTailor$State"], some .int⟩) (by decide +kernel) rfl (mt_X4_lambda_cutting_3 l E o sc ar t n9 g (by exact hst) (by assumption) (by omega) (by omega) (by assumption) (by assumption) _) rfl rfl q1871 (hP 17 _ rfl) rfl rfl rfl rfl (UX_S hg_1P hK (hg_1D) hE hS hg_1F) (Nat.le_of_ble_eq_true rfl) (Nat.le_of_ble_eq_true rfl) (Nat.le_of_ble_eq_true rfl) (Nat.le_of_ble_eq_true rfl) dX1_performOne_2) hS hg_1F ?_ ?_ ?_ ?_
  · exact (fun u_4 _ hk9 hp9 hd9 => g_back hg_1 (hj_6 u_4) hP hD hg_1F hk9 hp9 hd9)
  · exact (fun u_5 _ hk9 hp9 hd9 => g_back hg_1 (hj_7 u_5) hP hD hg_1F hk9 hp9 hd9)
  · intro En ce q9 u_5 H locs hCx hP hD hS hxf hq9 hce hcv hcl
    have hCx : XC1 (nmX "java/lang/IllegalArgumentException" "java/util/NoSuchElementException" "") (A_rem g t n9) En u_5.2.2 := hCx
    have hP : va_P E.1 CL ((SW E o u_5.1 u_5.2.1) ++ ([(ch, .inl (E.2 (3000 + 17), 2, .inl (fun zk : Nat => iI (if zk = 0 then t else n9))))] : va_W)) H := hP
    have hD : va_D A ((SW E o u_5.1 u_5.2.1) ++ ([(ch, .inl (E.2 (3000 + 17), 2, .inl (fun zk : Nat => iI (if zk = 0 then t else n9))))] : va_W)) := hD
    rcases hCx with ⟨c9, hc9, hEn9⟩ | ⟨wd9, hA9, hEn9, hz9x⟩
    · have hNM : En = "java/lang/IllegalArgumentException" ∨ En = "java/util/NoSuchElementException" := by
        rw [hEn9]
        rcases hnm_rem hc9 with rfl | rfl
        all_goals first | exact Or.inl rfl | exact Or.inr rfl | exact Or.inr (Or.inl rfl) | exact Or.inr (Or.inr rfl)
      clear hEn9
      rcases hNM with rfl | rfl
      · refine vx_catch (own := "ClockworkTailor") hown [_] _ [_, _, _] htab (fun z hz => by
            simp only [List.mem_cons, List.not_mem_nil, or_false] at hz
            rcases hz with rfl
            · exact Or.inr ⟨by decide, "ClockworkTailor$Refusal", hts _ q815, hK.kx.2.2.2.2.2 (_, _) (by decide)⟩) (by decide) (by decide) (name := "java/lang/IllegalArgumentException") (hts _ q892) (hK.nw q894) hce hcv hcl ?_
        refine lv_astore_n (lv' := [(3, .ref q9), (0, .ref (o 0)), (1, .ref ch), (2, iv i9)]) hx hb dX1_performOne_24 rfl hl (by decide) rfl (fun ls hl => ?_)
        have hz9_q_8 : s.heap.size ≤ (H).size := hS.1
        refine n_newK (ci := 5) (fs := [.null, .null, .null, .null, .null, iv 0, iv 0, iv 0, .null]) (C := RX6) (T := TX6) (N := 9) hx hb hts in_X6 tyX6 tyX6_ok hown (hts _ q815) (hts _ q816) (hts _ q117) hK hP hD hS hA rfl (fun j hj => by rcases (show j = 0 ∨ j = 1 ∨ j = 2 ∨ j = 3 ∨ j = 4 ∨ j = 5 ∨ j = 6 ∨ j = 7 ∨ j = 8 by omega) with rfl | rfl | rfl | rfl | rfl | rfl | rfl | rfl | rfl <;> rfl) (Nat.le_of_ble_eq_true rfl) (Nat.le_of_ble_eq_true rfl) dX1_performOne_25 (fun q_8 H hfr_q_8 o_9 hsz_q_8 hP hD hS => ?_)
        have hge_q_8 : s.heap.size ≤ q_8 := Nat.le_trans hz9_q_8 hsz_q_8
        have hP : va_P E.1 CL ((SW E o u_5.1 u_5.2.1) ++ ([(ch, .inl (E.2 (3000 + 17), 2, .inl (fun zk : Nat => iI (if zk = 0 then t else n9))))] : va_W) ++ ([(q_8, .inr (5, [.null, .null, .null, .null, .null, iv 0, iv 0, iv 0, .null]))] : va_W)) H := hP
        have hD : va_D A ((SW E o u_5.1 u_5.2.1) ++ ([(ch, .inl (E.2 (3000 + 17), 2, .inl (fun zk : Nat => iI (if zk = 0 then t else n9))))] : va_W) ++ ([(q_8, .inr (5, [.null, .null, .null, .null, .null, iv 0, iv 0, iv 0, .null]))] : va_W)) := hD
        refine lv_dup hx hb dX1_performOne_28 rfl ?_
        refine lv_bipush (v := iI 8) hx hb dX1_performOne_29 (by decide) ?_
        refine lv_iload_n hx hb dX1_performOne_31 rfl (lv_at hl 3 rfl) ?_
        have hz9_q_10 : s.heap.size ≤ (H).size := hS.1
        refine n_newK (ci := 5) (fs := [.null, .null, .null, .null, .null, iv 0, iv 0, iv 0, .null]) (C := RX6) (T := TX6) (N := 9) hx hb hts in_X6 tyX6 tyX6_ok hown (hts _ q815) (hts _ q816) (hts _ q117) hK hP hD hS hA rfl (fun j hj => by rcases (show j = 0 ∨ j = 1 ∨ j = 2 ∨ j = 3 ∨ j = 4 ∨ j = 5 ∨ j = 6 ∨ j = 7 ∨ j = 8 by omega) with rfl | rfl | rfl | rfl | rfl | rfl | rfl | rfl | rfl <;> rfl) (Nat.le_of_ble_eq_true rfl) (Nat.le_of_ble_eq_true rfl) dX1_performOne_32 (fun q_10 H hfr_q_10 o_11 hsz_q_10 hP hD hS => ?_)
        have hge_q_10 : s.heap.size ≤ q_10 := Nat.le_trans hz9_q_10 hsz_q_10
        have hne_q_8_q_10 : q_8 ≠ q_10 := Nat.ne_of_lt (Nat.lt_of_lt_of_le hfr_q_8.lt hsz_q_10)
        have hfr_q_8 := hfr_q_8.kept (o_11 q_8 hfr_q_8.lt)
        have hP : va_P E.1 CL ((SW E o u_5.1 u_5.2.1) ++ ([(ch, .inl (E.2 (3000 + 17), 2, .inl (fun zk : Nat => iI (if zk = 0 then t else n9))))] : va_W) ++ ([(q_8, .inr (5, [.null, .null, .null, .null, .null, iv 0, iv 0, iv 0, .null]))] : va_W) ++ ([(q_10, .inr (5, [.null, .null, .null, .null, .null, iv 0, iv 0, iv 0, .null]))] : va_W)) H := hP
        have hD : va_D A ((SW E o u_5.1 u_5.2.1) ++ ([(ch, .inl (E.2 (3000 + 17), 2, .inl (fun zk : Nat => iI (if zk = 0 then t else n9))))] : va_W) ++ ([(q_8, .inr (5, [.null, .null, .null, .null, .null, iv 0, iv 0, iv 0, .null]))] : va_W) ++ ([(q_10, .inr (5, [.null, .null, .null, .null, .null, iv 0, iv 0, iv 0, .null]))] : va_W)) := hD
        refine lv_dup hx hb dX1_performOne_35 rfl ?_
        refine lv_bipush (v := iI 9) hx hb dX1_performOne_36 (by decide) ?_
        refine lv_iconst (v := iI 0) hx hb dX1_performOne_38 rfl ?_
        refine n_cuxvSK (w2 := fun u_12 => (SW E o u_5.1 u_5.2.1) ++ ([(ch, .inl (E.2 (3000 + 17), 2, .inl (fun zk : Nat => iI (if zk = 0 then t else n9))))] : va_W) ++ ([(q_8, .inr (5, [.null, .null, .null, .null, .null, iv 0, iv 0, iv 0, .null]))] : va_W) ++ ([(q_10, .inr (5, u_12 ++ [iv 9, iv 0, va_rf none]))] : va_W)) (va_runI (As := [iv 9, iv 0]) (rest := [.ref q_10, iv i9, iv 8, .ref q_8, .ref q_8]) ⟨hx, hb, hml, hown, hts⟩ (mt_X6_init l E q_10 [.null, .null, .null, .null, .null, iv 0, iv 0, iv 0, .null] 9 0 hst _) (n_cwI 2 hts q824 q825 q117 q826 rfl rfl rfl (by decide +kernel) ⟨Nat.le_of_ble_eq_true rfl, Nat.le_of_ble_eq_true rfl⟩) (UF_S (hP.sub (ws' := [(q_10, .inr (5, [.null, .null, .null, .null, .null, iv 0, iv 0, iv 0, .null]))]) [19] rfl) hK (hD.sub (ws' := [(q_10, .inr (5, [.null, .null, .null, .null, .null, iv 0, iv 0, iv 0, .null]))]) [19] rfl rfl) hE hS (va_sub_free hD hS hA [19] rfl) hfr_q_10) rfl rfl hl.1 rfl (lv_room (Nat.le_of_ble_eq_true rfl)) dX1_performOne_39 ⟨Nat.le_of_ble_eq_true rfl, Nat.le_of_ble_eq_true rfl⟩) hP hD hS hA [19] [0, 1, 2, 3, 4, 5, 6, 7, 8, 9, 10, 11, 12, 13, 14, 15, 16, 17, 18] [0, 1, 2, 3, 4, 5, 6, 7, 8, 9, 10, 11, 12, 13, 14, 15, 16, 17, 18, 19] rfl rfl rfl rfl rfl (fun _ => rfl) (fun u_12 H locs hk_13 hu_12 hP hD hS => ?_)
        have hfr_q_8 := hfr_q_8.kept (hk_13 q_8 hfr_q_8.lt (n_notA hfr_q_8.lt hne_q_8_q_10))
        have hu_12 : u_12.length = 6 := hu_12
        have hP : va_P E.1 CL ((SW E o u_5.1 u_5.2.1) ++ ([(ch, .inl (E.2 (3000 + 17), 2, .inl (fun zk : Nat => iI (if zk = 0 then t else n9))))] : va_W) ++ ([(q_8, .inr (5, [.null, .null, .null, .null, .null, iv 0, iv 0, iv 0, .null]))] : va_W) ++ ([(q_10, .inr (5, u_12 ++ [iv 9, iv 0, va_rf none]))] : va_W)) H := hP
        have hD : va_D A ((SW E o u_5.1 u_5.2.1) ++ ([(ch, .inl (E.2 (3000 + 17), 2, .inl (fun zk : Nat => iI (if zk = 0 then t else n9))))] : va_W) ++ ([(q_8, .inr (5, [.null, .null, .null, .null, .null, iv 0, iv 0, iv 0, .null]))] : va_W) ++ ([(q_10, .inr (5, u_12 ++ [iv 9, iv 0, va_rf none]))] : va_W)) := hD
        refine n_cuxvSK (w2 := fun u_14 => (SW E o u_5.1 u_5.2.1) ++ ([(ch, .inl (E.2 (3000 + 17), 2, .inl (fun zk : Nat => iI (if zk = 0 then t else n9))))] : va_W) ++ ([(q_8, .inr (5, u_14 ++ [iv 8, iv i9, va_rf (some q_10)]))] : va_W) ++ ([(q_10, .inr (5, u_12 ++ [iv 9, iv 0, va_rf none]))] : va_W)) (va_runI (As := [iv 8, iv i9, .ref q_10]) (rest := [.ref q_8]) ⟨hx, hb, hml, hown, hts⟩ (mt_X6_init_2 l E q_8 [.null, .null, .null, .null, .null, iv 0, iv 0, iv 0, .null] 8 i9 (some q_10) hst _) (n_cwI 3 hts q1993 q828 q117 q829 rfl rfl rfl (by decide +kernel) ⟨Nat.le_of_ble_eq_true rfl, Nat.le_of_ble_eq_true rfl⟩) (UF_S (hP.sub (ws' := [(q_8, .inr (5, [.null, .null, .null, .null, .null, iv 0, iv 0, iv 0, .null]))]) [18] rfl) hK (hD.sub (ws' := [(q_8, .inr (5, [.null, .null, .null, .null, .null, iv 0, iv 0, iv 0, .null]))]) [18] rfl rfl) hE hS (va_sub_free hD hS hA [18] rfl) hfr_q_8) rfl rfl hl.1 rfl (lv_room (Nat.le_of_ble_eq_true rfl)) dX1_performOne_42 ⟨Nat.le_of_ble_eq_true rfl, Nat.le_of_ble_eq_true rfl⟩) hP hD hS hA [18] [0, 1, 2, 3, 4, 5, 6, 7, 8, 9, 10, 11, 12, 13, 14, 15, 16, 17, 19] [0, 1, 2, 3, 4, 5, 6, 7, 8, 9, 10, 11, 12, 13, 14, 15, 16, 17, 19, 18] rfl rfl rfl rfl rfl (fun _ => rfl) (fun u_14 H locs hk_15 hu_14 hP hD hS => ?_)
        have hu_14 : u_14.length = 6 := hu_14
        have hP : va_P E.1 CL ((SW E o u_5.1 u_5.2.1) ++ ([(ch, .inl (E.2 (3000 + 17), 2, .inl (fun zk : Nat => iI (if zk = 0 then t else n9))))] : va_W) ++ ([(q_8, .inr (5, u_14 ++ [iv 8, iv i9, va_rf (some q_10)]))] : va_W) ++ ([(q_10, .inr (5, u_12 ++ [iv 9, iv 0, va_rf none]))] : va_W)) H := hP
        have hD : va_D A ((SW E o u_5.1 u_5.2.1) ++ ([(ch, .inl (E.2 (3000 + 17), 2, .inl (fun zk : Nat => iI (if zk = 0 then t else n9))))] : va_W) ++ ([(q_8, .inr (5, u_14 ++ [iv 8, iv i9, va_rf (some q_10)]))] : va_W) ++ ([(q_10, .inr (5, u_12 ++ [iv 9, iv 0, va_rf none]))] : va_W)) := hD
        have hP9 := hP.sub (ws' := (SW E o u_5.1 u_5.2.1) ++ ([(ch, .inl (E.2 (3000 + 17), 2, .inl (fun zk : Nat => iI (if zk = 0 then t else n9))))] : va_W) ++ ([(q_10, .inr (5, u_12 ++ [iv 9, iv 0, va_rf none]))] : va_W)) [0, 1, 2, 3, 4, 5, 6, 7, 8, 9, 10, 11, 12, 13, 14, 15, 16, 17, 19] rfl
        have hD9 := hD.sub (ws' := (SW E o u_5.1 u_5.2.1) ++ ([(ch, .inl (E.2 (3000 + 17), 2, .inl (fun zk : Nat => iI (if zk = 0 then t else n9))))] : va_W) ++ ([(q_10, .inr (5, u_12 ++ [iv 9, iv 0, va_rf none]))] : va_W)) [0, 1, 2, 3, 4, 5, 6, 7, 8, 9, 10, 11, 12, 13, 14, 15, 16, 17, 19] (by decide) rfl
        have hPq := hP.sub (ws' := [(q_8, .inr (5, u_14 ++ [iv 8, iv i9, va_rf (some q_10)]))]) [18] rfl
        exact n_athrow ((u_5.1, u_5.2.1), q_10, u_12 ++ [iv 9, iv 0, va_rf none]) hx hb dX1_performOne_45 (k0 := 18) (ci := 5) (C0 := "ClockworkTailor$Refusal") (T0 := TX6) (N0 := 9) rfl rfl hK hP (by exact ⟨rfl, OSH_c hc9 hu_12⟩) hP9 hD9 hS (by exact fun y hy => by cases hy; exact ⟨u_14, hu_14, hPq⟩) hge_q_8 (by rw [htab]; decide) hlocks (Nat.le_of_ble_eq_true rfl) (Nat.le_of_ble_eq_true rfl)
      · refine vx_catch (own := "ClockworkTailor") hown [_, _, _, _] _ [] htab (fun z hz => by
            simp only [List.mem_cons, List.not_mem_nil, or_false] at hz
            rcases hz with rfl | rfl | rfl | rfl
            · exact Or.inr ⟨by decide, "ClockworkTailor$Refusal", hts _ q815, hK.kx.2.2.2.2.2 (_, _) (by decide)⟩
            · exact Or.inr ⟨by decide, "java/lang/IllegalArgumentException", hts _ q892, hK.kx.2.2.2.2.2 (_, _) (by decide)⟩
            · exact Or.inr ⟨by decide, "java/lang/IllegalStateException", hts _ q913, hK.kx.2.2.2.2.2 (_, _) (by decide)⟩
            · exact Or.inr ⟨by decide, "java/lang/IndexOutOfBoundsException", hts _ q1110, hK.kx.2.2.2.2.2 (_, _) (by decide)⟩) (by decide) (by decide) (name := "java/util/NoSuchElementException") (hts _ q974) (hK.nw q976) hce hcv hcl ?_
        refine lv_astore_n (lv' := [(3, .ref q9), (0, .ref (o 0)), (1, .ref ch), (2, iv i9)]) hx hb dX1_performOne_24 rfl hl (by decide) rfl (fun ls hl => ?_)
        have hz9_q_16 : s.heap.size ≤ (H).size := hS.1
        refine n_newK (ci := 5) (fs := [.null, .null, .null, .null, .null, iv 0, iv 0, iv 0, .null]) (C := RX6) (T := TX6) (N := 9) hx hb hts in_X6 tyX6 tyX6_ok hown (hts _ q815) (hts _ q816) (hts _ q117) hK hP hD hS hA rfl (fun j hj => by rcases (show j = 0 ∨ j = 1 ∨ j = 2 ∨ j = 3 ∨ j = 4 ∨ j = 5 ∨ j = 6 ∨ j = 7 ∨ j = 8 by omega) with rfl | rfl | rfl | rfl | rfl | rfl | rfl | rfl | rfl <;> rfl) (Nat.le_of_ble_eq_true rfl) (Nat.le_of_ble_eq_true rfl) dX1_performOne_25 (fun q_16 H hfr_q_16 o_17 hsz_q_16 hP hD hS => ?_)
        have hge_q_16 : s.heap.size ≤ q_16 := Nat.le_trans hz9_q_16 hsz_q_16
        have hP : va_P E.1 CL ((SW E o u_5.1 u_5.2.1) ++ ([(ch, .inl (E.2 (3000 + 17), 2, .inl (fun zk : Nat => iI (if zk = 0 then t else n9))))] : va_W) ++ ([(q_16, .inr (5, [.null, .null, .null, .null, .null, iv 0, iv 0, iv 0, .null]))] : va_W)) H := hP
        have hD : va_D A ((SW E o u_5.1 u_5.2.1) ++ ([(ch, .inl (E.2 (3000 + 17), 2, .inl (fun zk : Nat => iI (if zk = 0 then t else n9))))] : va_W) ++ ([(q_16, .inr (5, [.null, .null, .null, .null, .null, iv 0, iv 0, iv 0, .null]))] : va_W)) := hD
        refine lv_dup hx hb dX1_performOne_28 rfl ?_
        refine lv_bipush (v := iI 8) hx hb dX1_performOne_29 (by decide) ?_
        refine lv_iload_n hx hb dX1_performOne_31 rfl (lv_at hl 3 rfl) ?_
        have hz9_q_18 : s.heap.size ≤ (H).size := hS.1
        refine n_newK (ci := 5) (fs := [.null, .null, .null, .null, .null, iv 0, iv 0, iv 0, .null]) (C := RX6) (T := TX6) (N := 9) hx hb hts in_X6 tyX6 tyX6_ok hown (hts _ q815) (hts _ q816) (hts _ q117) hK hP hD hS hA rfl (fun j hj => by rcases (show j = 0 ∨ j = 1 ∨ j = 2 ∨ j = 3 ∨ j = 4 ∨ j = 5 ∨ j = 6 ∨ j = 7 ∨ j = 8 by omega) with rfl | rfl | rfl | rfl | rfl | rfl | rfl | rfl | rfl <;> rfl) (Nat.le_of_ble_eq_true rfl) (Nat.le_of_ble_eq_true rfl) dX1_performOne_32 (fun q_18 H hfr_q_18 o_19 hsz_q_18 hP hD hS => ?_)
        have hge_q_18 : s.heap.size ≤ q_18 := Nat.le_trans hz9_q_18 hsz_q_18
        have hne_q_16_q_18 : q_16 ≠ q_18 := Nat.ne_of_lt (Nat.lt_of_lt_of_le hfr_q_16.lt hsz_q_18)
        have hfr_q_16 := hfr_q_16.kept (o_19 q_16 hfr_q_16.lt)
        have hP : va_P E.1 CL ((SW E o u_5.1 u_5.2.1) ++ ([(ch, .inl (E.2 (3000 + 17), 2, .inl (fun zk : Nat => iI (if zk = 0 then t else n9))))] : va_W) ++ ([(q_16, .inr (5, [.null, .null, .null, .null, .null, iv 0, iv 0, iv 0, .null]))] : va_W) ++ ([(q_18, .inr (5, [.null, .null, .null, .null, .null, iv 0, iv 0, iv 0, .null]))] : va_W)) H := hP
        have hD : va_D A ((SW E o u_5.1 u_5.2.1) ++ ([(ch, .inl (E.2 (3000 + 17), 2, .inl (fun zk : Nat => iI (if zk = 0 then t else n9))))] : va_W) ++ ([(q_16, .inr (5, [.null, .null, .null, .null, .null, iv 0, iv 0, iv 0, .null]))] : va_W) ++ ([(q_18, .inr (5, [.null, .null, .null, .null, .null, iv 0, iv 0, iv 0, .null]))] : va_W)) := hD
        refine lv_dup hx hb dX1_performOne_35 rfl ?_
        refine lv_bipush (v := iI 9) hx hb dX1_performOne_36 (by decide) ?_
        refine lv_iconst (v := iI 0) hx hb dX1_performOne_38 rfl ?_
        refine n_cuxvSK (w2 := fun u_20 => (SW E o u_5.1 u_5.2.1) ++ ([(ch, .inl (E.2 (3000 + 17), 2, .inl (fun zk : Nat => iI (if zk = 0 then t else n9))))] : va_W) ++ ([(q_16, .inr (5, [.null, .null, .null, .null, .null, iv 0, iv 0, iv 0, .null]))] : va_W) ++ ([(q_18, .inr (5, u_20 ++ [iv 9, iv 0, va_rf none]))] : va_W)) (va_runI (As := [iv 9, iv 0]) (rest := [.ref q_18, iv i9, iv 8, .ref q_16, .ref q_16]) ⟨hx, hb, hml, hown, hts⟩ (mt_X6_init l E q_18 [.null, .null, .null, .null, .null, iv 0, iv 0, iv 0, .null] 9 0 hst _) (n_cwI 2 hts q824 q825 q117 q826 rfl rfl rfl (by decide +kernel) ⟨Nat.le_of_ble_eq_true rfl, Nat.le_of_ble_eq_true rfl⟩) (UF_S (hP.sub (ws' := [(q_18, .inr (5, [.null, .null, .null, .null, .null, iv 0, iv 0, iv 0, .null]))]) [19] rfl) hK (hD.sub (ws' := [(q_18, .inr (5, [.null, .null, .null, .null, .null, iv 0, iv 0, iv 0, .null]))]) [19] rfl rfl) hE hS (va_sub_free hD hS hA [19] rfl) hfr_q_18) rfl rfl hl.1 rfl (lv_room (Nat.le_of_ble_eq_true rfl)) dX1_performOne_39 ⟨Nat.le_of_ble_eq_true rfl, Nat.le_of_ble_eq_true rfl⟩) hP hD hS hA [19] [0, 1, 2, 3, 4, 5, 6, 7, 8, 9, 10, 11, 12, 13, 14, 15, 16, 17, 18] [0, 1, 2, 3, 4, 5, 6, 7, 8, 9, 10, 11, 12, 13, 14, 15, 16, 17, 18, 19] rfl rfl rfl rfl rfl (fun _ => rfl) (fun u_20 H locs hk_21 hu_20 hP hD hS => ?_)
        have hfr_q_16 := hfr_q_16.kept (hk_21 q_16 hfr_q_16.lt (n_notA hfr_q_16.lt hne_q_16_q_18))
        have hu_20 : u_20.length = 6 := hu_20
        have hP : va_P E.1 CL ((SW E o u_5.1 u_5.2.1) ++ ([(ch, .inl (E.2 (3000 + 17), 2, .inl (fun zk : Nat => iI (if zk = 0 then t else n9))))] : va_W) ++ ([(q_16, .inr (5, [.null, .null, .null, .null, .null, iv 0, iv 0, iv 0, .null]))] : va_W) ++ ([(q_18, .inr (5, u_20 ++ [iv 9, iv 0, va_rf none]))] : va_W)) H := hP
        have hD : va_D A ((SW E o u_5.1 u_5.2.1) ++ ([(ch, .inl (E.2 (3000 + 17), 2, .inl (fun zk : Nat => iI (if zk = 0 then t else n9))))] : va_W) ++ ([(q_16, .inr (5, [.null, .null, .null, .null, .null, iv 0, iv 0, iv 0, .null]))] : va_W) ++ ([(q_18, .inr (5, u_20 ++ [iv 9, iv 0, va_rf none]))] : va_W)) := hD
        refine n_cuxvSK (w2 := fun u_22 => (SW E o u_5.1 u_5.2.1) ++ ([(ch, .inl (E.2 (3000 + 17), 2, .inl (fun zk : Nat => iI (if zk = 0 then t else n9))))] : va_W) ++ ([(q_16, .inr (5, u_22 ++ [iv 8, iv i9, va_rf (some q_18)]))] : va_W) ++ ([(q_18, .inr (5, u_20 ++ [iv 9, iv 0, va_rf none]))] : va_W)) (va_runI (As := [iv 8, iv i9, .ref q_18]) (rest := [.ref q_16]) ⟨hx, hb, hml, hown, hts⟩ (mt_X6_init_2 l E q_16 [.null, .null, .null, .null, .null, iv 0, iv 0, iv 0, .null] 8 i9 (some q_18) hst _) (n_cwI 3 hts q1993 q828 q117 q829 rfl rfl rfl (by decide +kernel) ⟨Nat.le_of_ble_eq_true rfl, Nat.le_of_ble_eq_true rfl⟩) (UF_S (hP.sub (ws' := [(q_16, .inr (5, [.null, .null, .null, .null, .null, iv 0, iv 0, iv 0, .null]))]) [18] rfl) hK (hD.sub (ws' := [(q_16, .inr (5, [.null, .null, .null, .null, .null, iv 0, iv 0, iv 0, .null]))]) [18] rfl rfl) hE hS (va_sub_free hD hS hA [18] rfl) hfr_q_16) rfl rfl hl.1 rfl (lv_room (Nat.le_of_ble_eq_true rfl)) dX1_performOne_42 ⟨Nat.le_of_ble_eq_true rfl, Nat.le_of_ble_eq_true rfl⟩) hP hD hS hA [18] [0, 1, 2, 3, 4, 5, 6, 7, 8, 9, 10, 11, 12, 13, 14, 15, 16, 17, 19] [0, 1, 2, 3, 4, 5, 6, 7, 8, 9, 10, 11, 12, 13, 14, 15, 16, 17, 19, 18] rfl rfl rfl rfl rfl (fun _ => rfl) (fun u_22 H locs hk_23 hu_22 hP hD hS => ?_)
        have hu_22 : u_22.length = 6 := hu_22
        have hP : va_P E.1 CL ((SW E o u_5.1 u_5.2.1) ++ ([(ch, .inl (E.2 (3000 + 17), 2, .inl (fun zk : Nat => iI (if zk = 0 then t else n9))))] : va_W) ++ ([(q_16, .inr (5, u_22 ++ [iv 8, iv i9, va_rf (some q_18)]))] : va_W) ++ ([(q_18, .inr (5, u_20 ++ [iv 9, iv 0, va_rf none]))] : va_W)) H := hP
        have hD : va_D A ((SW E o u_5.1 u_5.2.1) ++ ([(ch, .inl (E.2 (3000 + 17), 2, .inl (fun zk : Nat => iI (if zk = 0 then t else n9))))] : va_W) ++ ([(q_16, .inr (5, u_22 ++ [iv 8, iv i9, va_rf (some q_18)]))] : va_W) ++ ([(q_18, .inr (5, u_20 ++ [iv 9, iv 0, va_rf none]))] : va_W)) := hD
        have hP9 := hP.sub (ws' := (SW E o u_5.1 u_5.2.1) ++ ([(ch, .inl (E.2 (3000 + 17), 2, .inl (fun zk : Nat => iI (if zk = 0 then t else n9))))] : va_W) ++ ([(q_18, .inr (5, u_20 ++ [iv 9, iv 0, va_rf none]))] : va_W)) [0, 1, 2, 3, 4, 5, 6, 7, 8, 9, 10, 11, 12, 13, 14, 15, 16, 17, 19] rfl
        have hD9 := hD.sub (ws' := (SW E o u_5.1 u_5.2.1) ++ ([(ch, .inl (E.2 (3000 + 17), 2, .inl (fun zk : Nat => iI (if zk = 0 then t else n9))))] : va_W) ++ ([(q_18, .inr (5, u_20 ++ [iv 9, iv 0, va_rf none]))] : va_W)) [0, 1, 2, 3, 4, 5, 6, 7, 8, 9, 10, 11, 12, 13, 14, 15, 16, 17, 19] (by decide) rfl
        have hPq := hP.sub (ws' := [(q_16, .inr (5, u_22 ++ [iv 8, iv i9, va_rf (some q_18)]))]) [18] rfl
        exact n_athrow ((u_5.1, u_5.2.1), q_18, u_20 ++ [iv 9, iv 0, va_rf none]) hx hb dX1_performOne_45 (k0 := 18) (ci := 5) (C0 := "ClockworkTailor$Refusal") (T0 := TX6) (N0 := 9) rfl rfl hK hP (by exact ⟨rfl, OSH_c hc9 hu_20⟩) hP9 hD9 hS (by exact fun y hy => by cases hy; exact ⟨u_22, hu_22, hPq⟩) hge_q_16 (by rw [htab]; decide) hlocks (Nat.le_of_ble_eq_true rfl) (Nat.le_of_ble_eq_true rfl)
    · subst hEn9
      obtain ⟨pre9, hpre9, hPq9⟩ := hxf _ hz9x
      refine vx_catch (own := "ClockworkTailor") hown [] _ [_, _, _, _] htab (fun z hz => by cases hz) (by decide) (by decide) (name := "ClockworkTailor$Refusal") (hts _ q815) (hK.nw q817) hce hcv hcl ?_
      obtain ⟨hP, hD⟩ := n_joinX hlt_2 (show List.map Prod.fst ((SW E o u_5.1 u_5.2.1) ++ ([(ch, .inl (E.2 (3000 + 17), 2, .inl (fun zk : Nat => iI (if zk = 0 then t else n9))))] : va_W)) = _ from rfl) hP hD hq9 (hA _ (Nat.le_trans hz_3 hq9)) hPq9
      have hP : va_P E.1 CL ((SW E o u_5.1 u_5.2.1) ++ ([(ch, .inl (E.2 (3000 + 17), 2, .inl (fun zk : Nat => iI (if zk = 0 then t else n9))))] : va_W) ++ ([(q9, .inr (5, (pre9 ++ [iv wd9.1, iv wd9.2, .null])))] : va_W)) H := hP
      have hD : va_D A ((SW E o u_5.1 u_5.2.1) ++ ([(ch, .inl (E.2 (3000 + 17), 2, .inl (fun zk : Nat => iI (if zk = 0 then t else n9))))] : va_W) ++ ([(q9, .inr (5, (pre9 ++ [iv wd9.1, iv wd9.2, .null])))] : va_W)) := hD
      refine lv_astore_n (lv' := [(3, .ref q9), (0, .ref (o 0)), (1, .ref ch), (2, iv i9)]) hx hb dX1_performOne_11 rfl hl (by decide) rfl (fun ls hl => ?_)
      have hz9_q_24 : s.heap.size ≤ (H).size := hS.1
      refine n_newK (ci := 5) (fs := [.null, .null, .null, .null, .null, iv 0, iv 0, iv 0, .null]) (C := RX6) (T := TX6) (N := 9) hx hb hts in_X6 tyX6 tyX6_ok hown (hts _ q815) (hts _ q816) (hts _ q117) hK hP hD hS hA rfl (fun j hj => by rcases (show j = 0 ∨ j = 1 ∨ j = 2 ∨ j = 3 ∨ j = 4 ∨ j = 5 ∨ j = 6 ∨ j = 7 ∨ j = 8 by omega) with rfl | rfl | rfl | rfl | rfl | rfl | rfl | rfl | rfl <;> rfl) (Nat.le_of_ble_eq_true rfl) (Nat.le_of_ble_eq_true rfl) dX1_performOne_12 (fun q_24 H hfr_q_24 o_25 hsz_q_24 hP hD hS => ?_)
      have hge_q_24 : s.heap.size ≤ q_24 := Nat.le_trans hz9_q_24 hsz_q_24
      have hP : va_P E.1 CL ((SW E o u_5.1 u_5.2.1) ++ ([(ch, .inl (E.2 (3000 + 17), 2, .inl (fun zk : Nat => iI (if zk = 0 then t else n9))))] : va_W) ++ ([(q9, .inr (5, (pre9 ++ [iv wd9.1, iv wd9.2, .null])))] : va_W) ++ ([(q_24, .inr (5, [.null, .null, .null, .null, .null, iv 0, iv 0, iv 0, .null]))] : va_W)) H := hP
      have hD : va_D A ((SW E o u_5.1 u_5.2.1) ++ ([(ch, .inl (E.2 (3000 + 17), 2, .inl (fun zk : Nat => iI (if zk = 0 then t else n9))))] : va_W) ++ ([(q9, .inr (5, (pre9 ++ [iv wd9.1, iv wd9.2, .null])))] : va_W) ++ ([(q_24, .inr (5, [.null, .null, .null, .null, .null, iv 0, iv 0, iv 0, .null]))] : va_W)) := hD
      refine lv_dup hx hb dX1_performOne_15 rfl ?_
      refine lv_bipush (v := iI 8) hx hb dX1_performOne_16 (by decide) ?_
      refine lv_iload_n hx hb dX1_performOne_18 rfl (lv_at hl 3 rfl) ?_
      refine lv_aload_n hx hb dX1_performOne_19 rfl (lv_at hl 0 rfl) ?_
      refine n_cuxvSK (w2 := fun u_26 => (SW E o u_5.1 u_5.2.1) ++ ([(ch, .inl (E.2 (3000 + 17), 2, .inl (fun zk : Nat => iI (if zk = 0 then t else n9))))] : va_W) ++ ([(q9, .inr (5, (pre9 ++ [iv wd9.1, iv wd9.2, .null])))] : va_W) ++ ([(q_24, .inr (5, u_26 ++ [iv 8, iv i9, va_rf (some q9)]))] : va_W)) (va_runI (As := [iv 8, iv i9, .ref q9]) (rest := [.ref q_24]) ⟨hx, hb, hml, hown, hts⟩ (mt_X6_init_2 l E q_24 [.null, .null, .null, .null, .null, iv 0, iv 0, iv 0, .null] 8 i9 (some q9) hst _) (n_cwI 3 hts q1993 q828 q117 q829 rfl rfl rfl (by decide +kernel) ⟨Nat.le_of_ble_eq_true rfl, Nat.le_of_ble_eq_true rfl⟩) (UF_S (hP.sub (ws' := [(q_24, .inr (5, [.null, .null, .null, .null, .null, iv 0, iv 0, iv 0, .null]))]) [19] rfl) hK (hD.sub (ws' := [(q_24, .inr (5, [.null, .null, .null, .null, .null, iv 0, iv 0, iv 0, .null]))]) [19] rfl rfl) hE hS (va_sub_free hD hS hA [19] rfl) hfr_q_24) rfl rfl hl.1 rfl (lv_room (Nat.le_of_ble_eq_true rfl)) dX1_performOne_20 ⟨Nat.le_of_ble_eq_true rfl, Nat.le_of_ble_eq_true rfl⟩) hP hD hS hA [19] [0, 1, 2, 3, 4, 5, 6, 7, 8, 9, 10, 11, 12, 13, 14, 15, 16, 17, 18] [0, 1, 2, 3, 4, 5, 6, 7, 8, 9, 10, 11, 12, 13, 14, 15, 16, 17, 18, 19] rfl rfl rfl rfl rfl (fun _ => rfl) (fun u_26 H locs hk_27 hu_26 hP hD hS => ?_)
      have hu_26 : u_26.length = 6 := hu_26
      have hP : va_P E.1 CL ((SW E o u_5.1 u_5.2.1) ++ ([(ch, .inl (E.2 (3000 + 17), 2, .inl (fun zk : Nat => iI (if zk = 0 then t else n9))))] : va_W) ++ ([(q9, .inr (5, (pre9 ++ [iv wd9.1, iv wd9.2, .null])))] : va_W) ++ ([(q_24, .inr (5, u_26 ++ [iv 8, iv i9, va_rf (some q9)]))] : va_W)) H := hP
      have hD : va_D A ((SW E o u_5.1 u_5.2.1) ++ ([(ch, .inl (E.2 (3000 + 17), 2, .inl (fun zk : Nat => iI (if zk = 0 then t else n9))))] : va_W) ++ ([(q9, .inr (5, (pre9 ++ [iv wd9.1, iv wd9.2, .null])))] : va_W) ++ ([(q_24, .inr (5, u_26 ++ [iv 8, iv i9, va_rf (some q9)]))] : va_W)) := hD
      have hP9 := hP.sub (ws' := (SW E o u_5.1 u_5.2.1) ++ ([(ch, .inl (E.2 (3000 + 17), 2, .inl (fun zk : Nat => iI (if zk = 0 then t else n9))))] : va_W) ++ ([(q9, .inr (5, (pre9 ++ [iv wd9.1, iv wd9.2, .null])))] : va_W)) [0, 1, 2, 3, 4, 5, 6, 7, 8, 9, 10, 11, 12, 13, 14, 15, 16, 17, 18] rfl
      have hD9 := hD.sub (ws' := (SW E o u_5.1 u_5.2.1) ++ ([(ch, .inl (E.2 (3000 + 17), 2, .inl (fun zk : Nat => iI (if zk = 0 then t else n9))))] : va_W) ++ ([(q9, .inr (5, (pre9 ++ [iv wd9.1, iv wd9.2, .null])))] : va_W)) [0, 1, 2, 3, 4, 5, 6, 7, 8, 9, 10, 11, 12, 13, 14, 15, 16, 17, 18] (by decide) rfl
      have hPq := hP.sub (ws' := [(q_24, .inr (5, u_26 ++ [iv 8, iv i9, va_rf (some q9)]))]) [19] rfl
      exact n_athrow ((u_5.1, u_5.2.1), q9, (pre9 ++ [iv wd9.1, iv wd9.2, .null])) hx hb dX1_performOne_23 (k0 := 19) (ci := 5) (C0 := "ClockworkTailor$Refusal") (T0 := TX6) (N0 := 9) rfl rfl hK hP (by exact ⟨rfl, OSH_w hA9 hpre9⟩) hP9 hD9 hS (by exact fun y hy => by cases hy; exact ⟨u_26, hu_26, hPq⟩) hge_q_24 (by rw [htab]; decide) hlocks (Nat.le_of_ble_eq_true rfl) (Nat.le_of_ble_eq_true rfl)
  · intro u_4 H locs hC hP hD hS
    have hu_4 : (∃ q, A_rem g t n9 = .inr (.inr q)) ∧ SR (rs_g g (A_rem g t n9)) u_4.1 u_4.2 := hC
    have hP : va_P E.1 CL ((SW E o u_4.1 u_4.2) ++ ([(ch, .inl (E.2 (3000 + 17), 2, .inl (fun zk : Nat => iI (if zk = 0 then t else n9))))] : va_W)) H := hP
    have hD : va_D A ((SW E o u_4.1 u_4.2) ++ ([(ch, .inl (E.2 (3000 + 17), 2, .inl (fun zk : Nat => iI (if zk = 0 then t else n9))))] : va_W)) := hD
    refine lv_istore_n (lv' := [(3, iv (rs_val 0 (A_rem g t n9))), (0, .ref (o 0)), (1, .ref ch), (2, iv i9)]) hx hb dX1_performOne_7 rfl hl (by decide) rfl (fun ls hl => ?_)
    refine lv_goto (tgt := 46) hx hb dX1_performOne_8 (by decide) ?_
    refine vx_ret ?_
    refine W.widen (k := 6) (n := 42) (Nat.le_of_ble_eq_true rfl) (Nat.le_of_ble_eq_true rfl) ?_
    exact W.vret hx hb hr (fun tt_ ht_ hW_ => ⟨⟨(u_4.1, u_4.2), rfl, hu_4, by rw [ht_]; exact hP, hD⟩, hS.F ht_⟩) hS.2.2 dX1_performOne_46
set_option maxHeartbeats 2000000 in
set_option maxRecDepth 100000 in
theorem mt_X1_performOne_18 (l : Launch) (E : EE) (o : Nat → Nat) (sc : Nat → Int) (ar : Nat → Int → Int) (ch : Nat) (t : Int) (n9 : Int) (i9 : Int) (g : Int → Int) (hst : l.stackTraces = false) (hsr : SR g sc ar) (ht : 0 ≤ t ∧ t < 65536) (hn : 0 ≤ n9 ∧ n9 < 65536) (htw : TW g) (hsw : SwOK g) (hhn : HN g) (hi9 : -2147483648 ≤ i9 ∧ i9 < 2147483648) (sz : Nat) : vx_Met l yX1_performOne (wsW_ yX1_performOne cX1_performOne 4 none [(0, 8, 11, 7), (0, 8, 24, 68), (0, 8, 24, 74), (0, 8, 24, 77), (0, 8, 24, 71)]) { frames := 11, cells := 47, slots := 350, locals := 3197 } (va_Pc [.ref (o 0), .ref ch, iv i9] (UX E ((SW E o sc ar) ++ ([(ch, .inl (E.2 (3000 + 18), 2, .inl (fun zk : Nat => iI (if zk = 0 then t else n9))))] : va_W)) sz)) (UQxv E (fun u : SU => (∃ q, A_repl g t n9 = .inr (.inr q)) ∧ SR (rs_g g (A_repl g t n9)) u.1 u.2) (fun u : SU => (SW E o u.1 u.2) ++ ([(ch, .inl (E.2 (3000 + 18), 2, .inl (fun zk : Nat => iI (if zk = 0 then t else n9))))] : va_W)) (va_A ((SW E o sc ar) ++ ([(ch, .inl (E.2 (3000 + 18), 2, .inl (fun zk : Nat => iI (if zk = 0 then t else n9))))] : va_W)) sz)) (UXx E (fun (En : String) (u : SU × Nat × List Value) => En = "ClockworkTailor$Refusal" ∧ OSH (A_repl g t n9) u.2.1 u.2.2) (fun u : SU × Nat × List Value => (SW E o u.1.1 u.1.2) ++ ([(ch, .inl (E.2 (3000 + 18), 2, .inl (fun zk : Nat => iI (if zk = 0 then t else n9))))] : va_W) ++ (([(u.2.1, .inr (5, u.2.2))] : va_W))) (fun u : SU × Nat × List Value => some (5, [iv 8, iv i9, .ref u.2.1])) (va_A ((SW E o sc ar) ++ ([(ch, .inl (E.2 (3000 + 18), 2, .inl (fun zk : Nat => iI (if zk = 0 then t else n9))))] : va_W)) sz)) 47 350 (va_A ((SW E o sc ar) ++ ([(ch, .inl (E.2 (3000 + 18), 2, .inl (fun zk : Nat => iI (if zk = 0 then t else n9))))] : va_W)) sz) := by
  refine vx_ofWH (hh := [(0, 8, 11, 7), (0, 8, 24, 68), (0, 8, 24, 74), (0, 8, 24, 77), (0, 8, 24, 71)]) (cc := cX1_performOne) (maxL := 4) (ret := none) (by decide) rfl ?_
  intro p e s m args below meth c s₁ B hml hv
  obtain ⟨rfl, hsz, hP, hK, hD0, hE⟩ := hv
  have hx := B.exec
  have hb := B.bytes
  have hr := B.returns
  have hts := atoms_spec (ws := (wsW_ yX1_performOne cX1_performOne 4 none [(0, 8, 11, 7), (0, 8, 24, 68), (0, 8, 24, 74), (0, 8, 24, 77), (0, 8, 24, 71)])) B.pre
  have htab : c.exceptionTable.toList = tableOf [(0, 8, 11, 7), (0, 8, 24, 68), (0, 8, 24, 74), (0, 8, 24, 77), (0, 8, 24, 71)] := vx_table (x := yX1_performOne) B (hts _ List.mem_cons_self)
  have hts : ∀ w ∈ lw_all, w.before _ s = true := fun w h => hts w (List.mem_cons_of_mem _ h)
  have hown : s.vm.findClass RX1 = some m.cls := findClass_of_methodNamed B.named
  have hlocks := B.notSynchronized
  subst hsz
  have hD := hD0.self (sz := s.heap.size)
  generalize hAe : va_A ((SW E o sc ar) ++ ([(ch, .inl (E.2 (3000 + 18), 2, .inl (fun zk : Nat => iI (if zk = 0 then t else n9))))] : va_W)) s.heap.size = A at hD hE ⊢
  have hA : ∀ q : Nat, s.heap.size ≤ q → A q := fun q h => by rw [← hAe]; exact Or.inr h
  have hS : va_S A s.heap s.heap [] := va_S.rf
  have hl := lv_entry ([.ref (o 0), .ref ch, iv i9]) (n := 4) (Nat.le_of_ble_eq_true rfl)
  rw [lg_entry_eq]
  generalize (lg_sl ([.ref (o 0), .ref ch, iv i9]) ++ List.replicate (4 - (lg_sl ([.ref (o 0), .ref ch, iv i9])).length) Slot.unset).toArray = ls at hl ⊢
  have hl : lv_has ls 4 [(0, .ref (o 0)), (1, .ref ch), (2, iv i9)] := hl
  refine lv_aload_n hx hb dX1_performOne_0 rfl (lv_at hl 1 rfl) ?_
  refine lv_aload_n hx hb dX1_performOne_1 rfl (lv_at hl 0 rfl) ?_
  have hg_1 : gpick [SW E o sc ar, [(ch, .inl (E.2 (3000 + 18), 2, .inl (fun zk : Nat => iI (if zk = 0 then t else n9))))]] ([SW E o sc ar] ++ [[(ch, .inl (E.2 (3000 + 18), 2, .inl (fun zk : Nat => iI (if zk = 0 then t else n9))))]]) [0, 1] := ⟨rfl, (show List.Perm [0, 1] (List.range 2) from by decide)⟩
  have hg_1P : va_P E.1 CL (SW E o sc ar) s.heap := (g_out hg_1 hP hD).1
  have hg_1D : va_D A (SW E o sc ar) := (g_out hg_1 hP hD).2
  have hg_1F : ∀ q, va_A (SW E o sc ar) s.heap.size q → A q := g_free hg_1 hP hD hS hA
  have hlt_2 := P_lts hP
  have hz_3 : s.heap.size ≤ s.heap.size := hS.1
  have hj_6 : ∀ u_4 : SU, gpick ([SW E o u_4.1 u_4.2] ++ [[(ch, .inl (E.2 (3000 + 18), 2, .inl (fun zk : Nat => iI (if zk = 0 then t else n9))))]]) [SW E o u_4.1 u_4.2, [(ch, .inl (E.2 (3000 + 18), 2, .inl (fun zk : Nat => iI (if zk = 0 then t else n9))))]] [0, 1] := fun u_4 => ⟨rfl, (show List.Perm [0, 1] (List.range 2) from by decide)⟩
  have hj_7 : ∀ u_5 : SUX, gpick ([SW E o u_5.1 u_5.2.1] ++ [[(ch, .inl (E.2 (3000 + 18), 2, .inl (fun zk : Nat => iI (if zk = 0 then t else n9))))]]) [SW E o u_5.1 u_5.2.1, [(ch, .inl (E.2 (3000 + 18), 2, .inl (fun zk : Nat => iI (if zk = 0 then t else n9))))]] [0, 1] := fun u_5 => ⟨rfl, (show List.Perm [0, 1] (List.range 2) from by decide)⟩
  refine n_tx5B (x := fun u_4 => rs_val 0 (A_repl g t n9)) (w2 := fun u_4 => (SW E o u_4.1 u_4.2) ++ ([(ch, .inl (E.2 (3000 + 18), 2, .inl (fun zk : Nat => iI (if zk = 0 then t else n9))))] : va_W)) (w3 := fun u_5 => (SW E o u_5.1 u_5.2.1) ++ ([(ch, .inl (E.2 (3000 + 18), 2, .inl (fun zk : Nat => iI (if zk = 0 then t else n9))))] : va_W)) (n_fwS3 (rest := []) hx hb (hl.1.trans hml.symm) hts hK hown (hts _ q924) ls_18 rfl (by decide +kernel) lk_18 ⟨rfl, rfl, by decide +kernel⟩ (y := yX4_lambda_swapping_4) ⟨rfl, rfl, by decide +kernel, rfl⟩ ⟨by decide +kernel, by decide +kernel⟩ q1880 q103 (sig := ⟨[.char, .char, .object "ClockworkTailor$State"], some .int⟩) (by decide +kernel) rfl (mt_X4_lambda_swapping_4 l E o sc ar t n9 g (by exact hst) (by assumption) (by omega) (by omega) (by assumption) (by assumption) (by assumption) _) rfl rfl q1879 (hP 17 _ rfl) rfl rfl rfl rfl (UX_S hg_1P hK (hg_1D) hE hS hg_1F) (Nat.le_of_ble_eq_true rfl) (Nat.le_of_ble_eq_true rfl) (Nat.le_of_ble_eq_true rfl) (Nat.le_of_ble_eq_true rfl) dX1_performOne_2) hS hg_1F ?_ ?_ ?_ ?_
  · exact (fun u_4 _ hk9 hp9 hd9 => g_back hg_1 (hj_6 u_4) hP hD hg_1F hk9 hp9 hd9)
  · exact (fun u_5 _ hk9 hp9 hd9 => g_back hg_1 (hj_7 u_5) hP hD hg_1F hk9 hp9 hd9)
  · intro En ce q9 u_5 H locs hCx hP hD hS hxf hq9 hce hcv hcl
    have hCx : XC1 (nmX "java/lang/IllegalArgumentException" "" "") (A_repl g t n9) En u_5.2.2 := hCx
    have hP : va_P E.1 CL ((SW E o u_5.1 u_5.2.1) ++ ([(ch, .inl (E.2 (3000 + 18), 2, .inl (fun zk : Nat => iI (if zk = 0 then t else n9))))] : va_W)) H := hP
    have hD : va_D A ((SW E o u_5.1 u_5.2.1) ++ ([(ch, .inl (E.2 (3000 + 18), 2, .inl (fun zk : Nat => iI (if zk = 0 then t else n9))))] : va_W)) := hD
    rcases hCx with ⟨c9, hc9, hEn9⟩ | ⟨wd9, hA9, hEn9, hz9x⟩
    · have hNM : En = "java/lang/IllegalArgumentException" := by
        rw [hEn9]
        have h9 := hnm_repl hc9
        subst h9
        rfl
      clear hEn9
      subst hNM
      refine vx_catch (own := "ClockworkTailor") hown [_] _ [_, _, _] htab (fun z hz => by
          simp only [List.mem_cons, List.not_mem_nil, or_false] at hz
          rcases hz with rfl
          · exact Or.inr ⟨by decide, "ClockworkTailor$Refusal", hts _ q815, hK.kx.2.2.2.2.2 (_, _) (by decide)⟩) (by decide) (by decide) (name := "java/lang/IllegalArgumentException") (hts _ q892) (hK.nw q894) hce hcv hcl ?_
      refine lv_astore_n (lv' := [(3, .ref q9), (0, .ref (o 0)), (1, .ref ch), (2, iv i9)]) hx hb dX1_performOne_24 rfl hl (by decide) rfl (fun ls hl => ?_)
      have hz9_q_8 : s.heap.size ≤ (H).size := hS.1
      refine n_newK (ci := 5) (fs := [.null, .null, .null, .null, .null, iv 0, iv 0, iv 0, .null]) (C := RX6) (T := TX6) (N := 9) hx hb hts in_X6 tyX6 tyX6_ok hown (hts _ q815) (hts _ q816) (hts _ q117) hK hP hD hS hA rfl (fun j hj => by rcases (show j = 0 ∨ j = 1 ∨ j = 2 ∨ j = 3 ∨ j = 4 ∨ j = 5 ∨ j = 6 ∨ j = 7 ∨ j = 8 by omega) with rfl | rfl | rfl | rfl | rfl | rfl | rfl | rfl | rfl <;> rfl) (Nat.le_of_ble_eq_true rfl) (Nat.le_of_ble_eq_true rfl) dX1_performOne_25 (fun q_8 H hfr_q_8 o_9 hsz_q_8 hP hD hS => ?_)
      have hge_q_8 : s.heap.size ≤ q_8 := Nat.le_trans hz9_q_8 hsz_q_8
      have hP : va_P E.1 CL ((SW E o u_5.1 u_5.2.1) ++ ([(ch, .inl (E.2 (3000 + 18), 2, .inl (fun zk : Nat => iI (if zk = 0 then t else n9))))] : va_W) ++ ([(q_8, .inr (5, [.null, .null, .null, .null, .null, iv 0, iv 0, iv 0, .null]))] : va_W)) H := hP
      have hD : va_D A ((SW E o u_5.1 u_5.2.1) ++ ([(ch, .inl (E.2 (3000 + 18), 2, .inl (fun zk : Nat => iI (if zk = 0 then t else n9))))] : va_W) ++ ([(q_8, .inr (5, [.null, .null, .null, .null, .null, iv 0, iv 0, iv 0, .null]))] : va_W)) := hD
      refine lv_dup hx hb dX1_performOne_28 rfl ?_
      refine lv_bipush (v := iI 8) hx hb dX1_performOne_29 (by decide) ?_
      refine lv_iload_n hx hb dX1_performOne_31 rfl (lv_at hl 3 rfl) ?_
      have hz9_q_10 : s.heap.size ≤ (H).size := hS.1
      refine n_newK (ci := 5) (fs := [.null, .null, .null, .null, .null, iv 0, iv 0, iv 0, .null]) (C := RX6) (T := TX6) (N := 9) hx hb hts in_X6 tyX6 tyX6_ok hown (hts _ q815) (hts _ q816) (hts _ q117) hK hP hD hS hA rfl (fun j hj => by rcases (show j = 0 ∨ j = 1 ∨ j = 2 ∨ j = 3 ∨ j = 4 ∨ j = 5 ∨ j = 6 ∨ j = 7 ∨ j = 8 by omega) with rfl | rfl | rfl | rfl | rfl | rfl | rfl | rfl | rfl <;> rfl) (Nat.le_of_ble_eq_true rfl) (Nat.le_of_ble_eq_true rfl) dX1_performOne_32 (fun q_10 H hfr_q_10 o_11 hsz_q_10 hP hD hS => ?_)
      have hge_q_10 : s.heap.size ≤ q_10 := Nat.le_trans hz9_q_10 hsz_q_10
      have hne_q_8_q_10 : q_8 ≠ q_10 := Nat.ne_of_lt (Nat.lt_of_lt_of_le hfr_q_8.lt hsz_q_10)
      have hfr_q_8 := hfr_q_8.kept (o_11 q_8 hfr_q_8.lt)
      have hP : va_P E.1 CL ((SW E o u_5.1 u_5.2.1) ++ ([(ch, .inl (E.2 (3000 + 18), 2, .inl (fun zk : Nat => iI (if zk = 0 then t else n9))))] : va_W) ++ ([(q_8, .inr (5, [.null, .null, .null, .null, .null, iv 0, iv 0, iv 0, .null]))] : va_W) ++ ([(q_10, .inr (5, [.null, .null, .null, .null, .null, iv 0, iv 0, iv 0, .null]))] : va_W)) H := hP
      have hD : va_D A ((SW E o u_5.1 u_5.2.1) ++ ([(ch, .inl (E.2 (3000 + 18), 2, .inl (fun zk : Nat => iI (if zk = 0 then t else n9))))] : va_W) ++ ([(q_8, .inr (5, [.null, .null, .null, .null, .null, iv 0, iv 0, iv 0, .null]))] : va_W) ++ ([(q_10, .inr (5, [.null, .null, .null, .null, .null, iv 0, iv 0, iv 0, .null]))] : va_W)) := hD
      refine lv_dup hx hb dX1_performOne_35 rfl ?_
      refine lv_bipush (v := iI 9) hx hb dX1_performOne_36 (by decide) ?_
      refine lv_iconst (v := iI 0) hx hb dX1_performOne_38 rfl ?_
      refine n_cuxvSK (w2 := fun u_12 => (SW E o u_5.1 u_5.2.1) ++ ([(ch, .inl (E.2 (3000 + 18), 2, .inl (fun zk : Nat => iI (if zk = 0 then t else n9))))] : va_W) ++ ([(q_8, .inr (5, [.null, .null, .null, .null, .null, iv 0, iv 0, iv 0, .null]))] : va_W) ++ ([(q_10, .inr (5, u_12 ++ [iv 9, iv 0, va_rf none]))] : va_W)) (va_runI (As := [iv 9, iv 0]) (rest := [.ref q_10, iv i9, iv 8, .ref q_8, .ref q_8]) ⟨hx, hb, hml, hown, hts⟩ (mt_X6_init l E q_10 [.null, .null, .null, .null, .null, iv 0, iv 0, iv 0, .null] 9 0 hst _) (n_cwI 2 hts q824 q825 q117 q826 rfl rfl rfl (by decide +kernel) ⟨Nat.le_of_ble_eq_true rfl, Nat.le_of_ble_eq_true rfl⟩) (UF_S (hP.sub (ws' := [(q_10, .inr (5, [.null, .null, .null, .null, .null, iv 0, iv 0, iv 0, .null]))]) [19] rfl) hK (hD.sub (ws' := [(q_10, .inr (5, [.null, .null, .null, .null, .null, iv 0, iv 0, iv 0, .null]))]) [19] rfl rfl) hE hS (va_sub_free hD hS hA [19] rfl) hfr_q_10) rfl rfl hl.1 rfl (lv_room (Nat.le_of_ble_eq_true rfl)) dX1_performOne_39 ⟨Nat.le_of_ble_eq_true rfl, Nat.le_of_ble_eq_true rfl⟩) hP hD hS hA [19] [0, 1, 2, 3, 4, 5, 6, 7, 8, 9, 10, 11, 12, 13, 14, 15, 16, 17, 18] [0, 1, 2, 3, 4, 5, 6, 7, 8, 9, 10, 11, 12, 13, 14, 15, 16, 17, 18, 19] rfl rfl rfl rfl rfl (fun _ => rfl) (fun u_12 H locs hk_13 hu_12 hP hD hS => ?_)
      have hfr_q_8 := hfr_q_8.kept (hk_13 q_8 hfr_q_8.lt (n_notA hfr_q_8.lt hne_q_8_q_10))
      have hu_12 : u_12.length = 6 := hu_12
      have hP : va_P E.1 CL ((SW E o u_5.1 u_5.2.1) ++ ([(ch, .inl (E.2 (3000 + 18), 2, .inl (fun zk : Nat => iI (if zk = 0 then t else n9))))] : va_W) ++ ([(q_8, .inr (5, [.null, .null, .null, .null, .null, iv 0, iv 0, iv 0, .null]))] : va_W) ++ ([(q_10, .inr (5, u_12 ++ [iv 9, iv 0, va_rf none]))] : va_W)) H := hP
      have hD : va_D A ((SW E o u_5.1 u_5.2.1) ++ ([(ch, .inl (E.2 (3000 + 18), 2, .inl (fun zk : Nat => iI (if zk = 0 then t else n9))))] : va_W) ++ ([(q_8, .inr (5, [.null, .null, .null, .null, .null, iv 0, iv 0, iv 0, .null]))] : va_W) ++ ([(q_10, .inr (5, u_12 ++ [iv 9, iv 0, va_rf none]))] : va_W)) := hD
      refine n_cuxvSK (w2 := fun u_14 => (SW E o u_5.1 u_5.2.1) ++ ([(ch, .inl (E.2 (3000 + 18), 2, .inl (fun zk : Nat => iI (if zk = 0 then t else n9))))] : va_W) ++ ([(q_8, .inr (5, u_14 ++ [iv 8, iv i9, va_rf (some q_10)]))] : va_W) ++ ([(q_10, .inr (5, u_12 ++ [iv 9, iv 0, va_rf none]))] : va_W)) (va_runI (As := [iv 8, iv i9, .ref q_10]) (rest := [.ref q_8]) ⟨hx, hb, hml, hown, hts⟩ (mt_X6_init_2 l E q_8 [.null, .null, .null, .null, .null, iv 0, iv 0, iv 0, .null] 8 i9 (some q_10) hst _) (n_cwI 3 hts q1993 q828 q117 q829 rfl rfl rfl (by decide +kernel) ⟨Nat.le_of_ble_eq_true rfl, Nat.le_of_ble_eq_true rfl⟩) (UF_S (hP.sub (ws' := [(q_8, .inr (5, [.null, .null, .null, .null, .null, iv 0, iv 0, iv 0, .null]))]) [18] rfl) hK (hD.sub (ws' := [(q_8, .inr (5, [.null, .null, .null, .null, .null, iv 0, iv 0, iv 0, .null]))]) [18] rfl rfl) hE hS (va_sub_free hD hS hA [18] rfl) hfr_q_8) rfl rfl hl.1 rfl (lv_room (Nat.le_of_ble_eq_true rfl)) dX1_performOne_42 ⟨Nat.le_of_ble_eq_true rfl, Nat.le_of_ble_eq_true rfl⟩) hP hD hS hA [18] [0, 1, 2, 3, 4, 5, 6, 7, 8, 9, 10, 11, 12, 13, 14, 15, 16, 17, 19] [0, 1, 2, 3, 4, 5, 6, 7, 8, 9, 10, 11, 12, 13, 14, 15, 16, 17, 19, 18] rfl rfl rfl rfl rfl (fun _ => rfl) (fun u_14 H locs hk_15 hu_14 hP hD hS => ?_)
      have hu_14 : u_14.length = 6 := hu_14
      have hP : va_P E.1 CL ((SW E o u_5.1 u_5.2.1) ++ ([(ch, .inl (E.2 (3000 + 18), 2, .inl (fun zk : Nat => iI (if zk = 0 then t else n9))))] : va_W) ++ ([(q_8, .inr (5, u_14 ++ [iv 8, iv i9, va_rf (some q_10)]))] : va_W) ++ ([(q_10, .inr (5, u_12 ++ [iv 9, iv 0, va_rf none]))] : va_W)) H := hP
      have hD : va_D A ((SW E o u_5.1 u_5.2.1) ++ ([(ch, .inl (E.2 (3000 + 18), 2, .inl (fun zk : Nat => iI (if zk = 0 then t else n9))))] : va_W) ++ ([(q_8, .inr (5, u_14 ++ [iv 8, iv i9, va_rf (some q_10)]))] : va_W) ++ ([(q_10, .inr (5, u_12 ++ [iv 9, iv 0, va_rf none]))] : va_W)) := hD
      have hP9 := hP.sub (ws' := (SW E o u_5.1 u_5.2.1) ++ ([(ch, .inl (E.2 (3000 + 18), 2, .inl (fun zk : Nat => iI (if zk = 0 then t else n9))))] : va_W) ++ ([(q_10, .inr (5, u_12 ++ [iv 9, iv 0, va_rf none]))] : va_W)) [0, 1, 2, 3, 4, 5, 6, 7, 8, 9, 10, 11, 12, 13, 14, 15, 16, 17, 19] rfl
      have hD9 := hD.sub (ws' := (SW E o u_5.1 u_5.2.1) ++ ([(ch, .inl (E.2 (3000 + 18), 2, .inl (fun zk : Nat => iI (if zk = 0 then t else n9))))] : va_W) ++ ([(q_10, .inr (5, u_12 ++ [iv 9, iv 0, va_rf none]))] : va_W)) [0, 1, 2, 3, 4, 5, 6, 7, 8, 9, 10, 11, 12, 13, 14, 15, 16, 17, 19] (by decide) rfl
      have hPq := hP.sub (ws' := [(q_8, .inr (5, u_14 ++ [iv 8, iv i9, va_rf (some q_10)]))]) [18] rfl
      exact n_athrow ((u_5.1, u_5.2.1), q_10, u_12 ++ [iv 9, iv 0, va_rf none]) hx hb dX1_performOne_45 (k0 := 18) (ci := 5) (C0 := "ClockworkTailor$Refusal") (T0 := TX6) (N0 := 9) rfl rfl hK hP (by exact ⟨rfl, OSH_c hc9 hu_12⟩) hP9 hD9 hS (by exact fun y hy => by cases hy; exact ⟨u_14, hu_14, hPq⟩) hge_q_8 (by rw [htab]; decide) hlocks (Nat.le_of_ble_eq_true rfl) (Nat.le_of_ble_eq_true rfl)
    · subst hEn9
      obtain ⟨pre9, hpre9, hPq9⟩ := hxf _ hz9x
      refine vx_catch (own := "ClockworkTailor") hown [] _ [_, _, _, _] htab (fun z hz => by cases hz) (by decide) (by decide) (name := "ClockworkTailor$Refusal") (hts _ q815) (hK.nw q817) hce hcv hcl ?_
      obtain ⟨hP, hD⟩ := n_joinX hlt_2 (show List.map Prod.fst ((SW E o u_5.1 u_5.2.1) ++ ([(ch, .inl (E.2 (3000 + 18), 2, .inl (fun zk : Nat => iI (if zk = 0 then t else n9))))] : va_W)) = _ from rfl) hP hD hq9 (hA _ (Nat.le_trans hz_3 hq9)) hPq9
      have hP : va_P E.1 CL ((SW E o u_5.1 u_5.2.1) ++ ([(ch, .inl (E.2 (3000 + 18), 2, .inl (fun zk : Nat => iI (if zk = 0 then t else n9))))] : va_W) ++ ([(q9, .inr (5, (pre9 ++ [iv wd9.1, iv wd9.2, .null])))] : va_W)) H := hP
      have hD : va_D A ((SW E o u_5.1 u_5.2.1) ++ ([(ch, .inl (E.2 (3000 + 18), 2, .inl (fun zk : Nat => iI (if zk = 0 then t else n9))))] : va_W) ++ ([(q9, .inr (5, (pre9 ++ [iv wd9.1, iv wd9.2, .null])))] : va_W)) := hD
      refine lv_astore_n (lv' := [(3, .ref q9), (0, .ref (o 0)), (1, .ref ch), (2, iv i9)]) hx hb dX1_performOne_11 rfl hl (by decide) rfl (fun ls hl => ?_)
      have hz9_q_16 : s.heap.size ≤ (H).size := hS.1
      refine n_newK (ci := 5) (fs := [.null, .null, .null, .null, .null, iv 0, iv 0, iv 0, .null]) (C := RX6) (T := TX6) (N := 9) hx hb hts in_X6 tyX6 tyX6_ok hown (hts _ q815) (hts _ q816) (hts _ q117) hK hP hD hS hA rfl (fun j hj => by rcases (show j = 0 ∨ j = 1 ∨ j = 2 ∨ j = 3 ∨ j = 4 ∨ j = 5 ∨ j = 6 ∨ j = 7 ∨ j = 8 by omega) with rfl | rfl | rfl | rfl | rfl | rfl | rfl | rfl | rfl <;> rfl) (Nat.le_of_ble_eq_true rfl) (Nat.le_of_ble_eq_true rfl) dX1_performOne_12 (fun q_16 H hfr_q_16 o_17 hsz_q_16 hP hD hS => ?_)
      have hge_q_16 : s.heap.size ≤ q_16 := Nat.le_trans hz9_q_16 hsz_q_16
      have hP : va_P E.1 CL ((SW E o u_5.1 u_5.2.1) ++ ([(ch, .inl (E.2 (3000 + 18), 2, .inl (fun zk : Nat => iI (if zk = 0 then t else n9))))] : va_W) ++ ([(q9, .inr (5, (pre9 ++ [iv wd9.1, iv wd9.2, .null])))] : va_W) ++ ([(q_16, .inr (5, [.null, .null, .null, .null, .null, iv 0, iv 0, iv 0, .null]))] : va_W)) H := hP
      have hD : va_D A ((SW E o u_5.1 u_5.2.1) ++ ([(ch, .inl (E.2 (3000 + 18), 2, .inl (fun zk : Nat => iI (if zk = 0 then t else n9))))] : va_W) ++ ([(q9, .inr (5, (pre9 ++ [iv wd9.1, iv wd9.2, .null])))] : va_W) ++ ([(q_16, .inr (5, [.null, .null, .null, .null, .null, iv 0, iv 0, iv 0, .null]))] : va_W)) := hD
      refine lv_dup hx hb dX1_performOne_15 rfl ?_
      refine lv_bipush (v := iI 8) hx hb dX1_performOne_16 (by decide) ?_
      refine lv_iload_n hx hb dX1_performOne_18 rfl (lv_at hl 3 rfl) ?_
      refine lv_aload_n hx hb dX1_performOne_19 rfl (lv_at hl 0 rfl) ?_
      refine n_cuxvSK (w2 := fun u_18 => (SW E o u_5.1 u_5.2.1) ++ ([(ch, .inl (E.2 (3000 + 18), 2, .inl (fun zk : Nat => iI (if zk = 0 then t else n9))))] : va_W) ++ ([(q9, .inr (5, (pre9 ++ [iv wd9.1, iv wd9.2, .null])))] : va_W) ++ ([(q_16, .inr (5, u_18 ++ [iv 8, iv i9, va_rf (some q9)]))] : va_W)) (va_runI (As := [iv 8, iv i9, .ref q9]) (rest := [.ref q_16]) ⟨hx, hb, hml, hown, hts⟩ (mt_X6_init_2 l E q_16 [.null, .null, .null, .null, .null, iv 0, iv 0, iv 0, .null] 8 i9 (some q9) hst _) (n_cwI 3 hts q1993 q828 q117 q829 rfl rfl rfl (by decide +kernel) ⟨Nat.le_of_ble_eq_true rfl, Nat.le_of_ble_eq_true rfl⟩) (UF_S (hP.sub (ws' := [(q_16, .inr (5, [.null, .null, .null, .null, .null, iv 0, iv 0, iv 0, .null]))]) [19] rfl) hK (hD.sub (ws' := [(q_16, .inr (5, [.null, .null, .null, .null, .null, iv 0, iv 0, iv 0, .null]))]) [19] rfl rfl) hE hS (va_sub_free hD hS hA [19] rfl) hfr_q_16) rfl rfl hl.1 rfl (lv_room (Nat.le_of_ble_eq_true rfl)) dX1_performOne_20 ⟨Nat.le_of_ble_eq_true rfl, Nat.le_of_ble_eq_true rfl⟩) hP hD hS hA [19] [0, 1, 2, 3, 4, 5, 6, 7, 8, 9, 10, 11, 12, 13, 14, 15, 16, 17, 18] [0, 1, 2, 3, 4, 5, 6, 7, 8, 9, 10, 11, 12, 13, 14, 15, 16, 17, 18, 19] rfl rfl rfl rfl rfl (fun _ => rfl) (fun u_18 H locs hk_19 hu_18 hP hD hS => ?_)
      have hu_18 : u_18.length = 6 := hu_18
      have hP : va_P E.1 CL ((SW E o u_5.1 u_5.2.1) ++ ([(ch, .inl (E.2 (3000 + 18), 2, .inl (fun zk : Nat => iI (if zk = 0 then t else n9))))] : va_W) ++ ([(q9, .inr (5, (pre9 ++ [iv wd9.1, iv wd9.2, .null])))] : va_W) ++ ([(q_16, .inr (5, u_18 ++ [iv 8, iv i9, va_rf (some q9)]))] : va_W)) H := hP
      have hD : va_D A ((SW E o u_5.1 u_5.2.1) ++ ([(ch, .inl (E.2 (3000 + 18), 2, .inl (fun zk : Nat => iI (if zk = 0 then t else n9))))] : va_W) ++ ([(q9, .inr (5, (pre9 ++ [iv wd9.1, iv wd9.2, .null])))] : va_W) ++ ([(q_16, .inr (5, u_18 ++ [iv 8, iv i9, va_rf (some q9)]))] : va_W)) := hD
      have hP9 := hP.sub (ws' := (SW E o u_5.1 u_5.2.1) ++ ([(ch, .inl (E.2 (3000 + 18), 2, .inl (fun zk : Nat => iI (if zk = 0 then t else n9))))] : va_W) ++ ([(q9, .inr (5, (pre9 ++ [iv wd9.1, iv wd9.2, .null])))] : va_W)) [0, 1, 2, 3, 4, 5, 6, 7, 8, 9, 10, 11, 12, 13, 14, 15, 16, 17, 18] rfl
      have hD9 := hD.sub (ws' := (SW E o u_5.1 u_5.2.1) ++ ([(ch, .inl (E.2 (3000 + 18), 2, .inl (fun zk : Nat => iI (if zk = 0 then t else n9))))] : va_W) ++ ([(q9, .inr (5, (pre9 ++ [iv wd9.1, iv wd9.2, .null])))] : va_W)) [0, 1, 2, 3, 4, 5, 6, 7, 8, 9, 10, 11, 12, 13, 14, 15, 16, 17, 18] (by decide) rfl
      have hPq := hP.sub (ws' := [(q_16, .inr (5, u_18 ++ [iv 8, iv i9, va_rf (some q9)]))]) [19] rfl
      exact n_athrow ((u_5.1, u_5.2.1), q9, (pre9 ++ [iv wd9.1, iv wd9.2, .null])) hx hb dX1_performOne_23 (k0 := 19) (ci := 5) (C0 := "ClockworkTailor$Refusal") (T0 := TX6) (N0 := 9) rfl rfl hK hP (by exact ⟨rfl, OSH_w hA9 hpre9⟩) hP9 hD9 hS (by exact fun y hy => by cases hy; exact ⟨u_18, hu_18, hPq⟩) hge_q_16 (by rw [htab]; decide) hlocks (Nat.le_of_ble_eq_true rfl) (Nat.le_of_ble_eq_true rfl)
  · intro u_4 H locs hC hP hD hS
    have hu_4 : (∃ q, A_repl g t n9 = .inr (.inr q)) ∧ SR (rs_g g (A_repl g t n9)) u_4.1 u_4.2 := hC
    have hP : va_P E.1 CL ((SW E o u_4.1 u_4.2) ++ ([(ch, .inl (E.2 (3000 + 18), 2, .inl (fun zk : Nat => iI (if zk = 0 then t else n9))))] : va_W)) H := hP
    have hD : va_D A ((SW E o u_4.1 u_4.2) ++ ([(ch, .inl (E.2 (3000 + 18), 2, .inl (fun zk : Nat => iI (if zk = 0 then t else n9))))] : va_W)) := hD
    refine lv_istore_n (lv' := [(3, iv (rs_val 0 (A_repl g t n9))), (0, .ref (o 0)), (1, .ref ch), (2, iv i9)]) hx hb dX1_performOne_7 rfl hl (by decide) rfl (fun ls hl => ?_)
    refine lv_goto (tgt := 46) hx hb dX1_performOne_8 (by decide) ?_
    refine vx_ret ?_
    refine W.widen (k := 47) (n := 350) (Nat.le_of_ble_eq_true rfl) (Nat.le_of_ble_eq_true rfl) ?_
    exact W.vret hx hb hr (fun tt_ ht_ hW_ => ⟨⟨(u_4.1, u_4.2), rfl, hu_4, by rw [ht_]; exact hP, hD⟩, hS.F ht_⟩) hS.2.2 dX1_performOne_46
set_option maxHeartbeats 2000000 in
set_option maxRecDepth 100000 in
theorem mt_X1_performOne_19 (l : Launch) (E : EE) (o : Nat → Nat) (sc : Nat → Int) (ar : Nat → Int → Int) (ch : Nat) (t : Int) (i9 : Int) (g : Int → Int) (hst : l.stackTraces = false) (hsr : SR g sc ar) (ht : 0 ≤ t ∧ t < 65536) (htw : TW g) (hsw : SwOK g) (hhn : HN g) (hi9 : -2147483648 ≤ i9 ∧ i9 < 2147483648) (sz : Nat) : vx_Met l yX1_performOne (wsW_ yX1_performOne cX1_performOne 4 none [(0, 8, 11, 7), (0, 8, 24, 68), (0, 8, 24, 74), (0, 8, 24, 77), (0, 8, 24, 71)]) { frames := 11, cells := 45, slots := 335, locals := 3194 } (va_Pc [.ref (o 0), .ref ch, iv i9] (UX E ((SW E o sc ar) ++ ([(ch, .inl (E.2 (3000 + 19), 1, .inl (fun zk : Nat => iI ( t))))] : va_W)) sz)) (UQxv E (fun u : SU => (∃ q, A_back g t = .inr (.inr q)) ∧ SR (rs_g g (A_back g t)) u.1 u.2) (fun u : SU => (SW E o u.1 u.2) ++ ([(ch, .inl (E.2 (3000 + 19), 1, .inl (fun zk : Nat => iI ( t))))] : va_W)) (va_A ((SW E o sc ar) ++ ([(ch, .inl (E.2 (3000 + 19), 1, .inl (fun zk : Nat => iI ( t))))] : va_W)) sz)) (UXx E (fun (En : String) (u : SU × Nat × List Value) => En = "ClockworkTailor$Refusal" ∧ OSH (A_back g t) u.2.1 u.2.2) (fun u : SU × Nat × List Value => (SW E o u.1.1 u.1.2) ++ ([(ch, .inl (E.2 (3000 + 19), 1, .inl (fun zk : Nat => iI ( t))))] : va_W) ++ (([(u.2.1, .inr (5, u.2.2))] : va_W))) (fun u : SU × Nat × List Value => some (5, [iv 8, iv i9, .ref u.2.1])) (va_A ((SW E o sc ar) ++ ([(ch, .inl (E.2 (3000 + 19), 1, .inl (fun zk : Nat => iI ( t))))] : va_W)) sz)) 45 335 (va_A ((SW E o sc ar) ++ ([(ch, .inl (E.2 (3000 + 19), 1, .inl (fun zk : Nat => iI ( t))))] : va_W)) sz) := by
  refine vx_ofWH (hh := [(0, 8, 11, 7), (0, 8, 24, 68), (0, 8, 24, 74), (0, 8, 24, 77), (0, 8, 24, 71)]) (cc := cX1_performOne) (maxL := 4) (ret := none) (by decide) rfl ?_
  intro p e s m args below meth c s₁ B hml hv
  obtain ⟨rfl, hsz, hP, hK, hD0, hE⟩ := hv
  have hx := B.exec
  have hb := B.bytes
  have hr := B.returns
  have hts := atoms_spec (ws := (wsW_ yX1_performOne cX1_performOne 4 none [(0, 8, 11, 7), (0, 8, 24, 68), (0, 8, 24, 74), (0, 8, 24, 77), (0, 8, 24, 71)])) B.pre
  have htab : c.exceptionTable.toList = tableOf [(0, 8, 11, 7), (0, 8, 24, 68), (0, 8, 24, 74), (0, 8, 24, 77), (0, 8, 24, 71)] := vx_table (x := yX1_performOne) B (hts _ List.mem_cons_self)
  have hts : ∀ w ∈ lw_all, w.before _ s = true := fun w h => hts w (List.mem_cons_of_mem _ h)
  have hown : s.vm.findClass RX1 = some m.cls := findClass_of_methodNamed B.named
  have hlocks := B.notSynchronized
  subst hsz
  have hD := hD0.self (sz := s.heap.size)
  generalize hAe : va_A ((SW E o sc ar) ++ ([(ch, .inl (E.2 (3000 + 19), 1, .inl (fun zk : Nat => iI ( t))))] : va_W)) s.heap.size = A at hD hE ⊢
  have hA : ∀ q : Nat, s.heap.size ≤ q → A q := fun q h => by rw [← hAe]; exact Or.inr h
  have hS : va_S A s.heap s.heap [] := va_S.rf
  have hl := lv_entry ([.ref (o 0), .ref ch, iv i9]) (n := 4) (Nat.le_of_ble_eq_true rfl)
  rw [lg_entry_eq]
  generalize (lg_sl ([.ref (o 0), .ref ch, iv i9]) ++ List.replicate (4 - (lg_sl ([.ref (o 0), .ref ch, iv i9])).length) Slot.unset).toArray = ls at hl ⊢
  have hl : lv_has ls 4 [(0, .ref (o 0)), (1, .ref ch), (2, iv i9)] := hl
  refine lv_aload_n hx hb dX1_performOne_0 rfl (lv_at hl 1 rfl) ?_
  refine lv_aload_n hx hb dX1_performOne_1 rfl (lv_at hl 0 rfl) ?_
  have hg_1 : gpick [SW E o sc ar, [(ch, .inl (E.2 (3000 + 19), 1, .inl (fun zk : Nat => iI ( t))))]] ([SW E o sc ar] ++ [[(ch, .inl (E.2 (3000 + 19), 1, .inl (fun zk : Nat => iI ( t))))]]) [0, 1] := ⟨rfl, (show List.Perm [0, 1] (List.range 2) from by decide)⟩
  have hg_1P : va_P E.1 CL (SW E o sc ar) s.heap := (g_out hg_1 hP hD).1
  have hg_1D : va_D A (SW E o sc ar) := (g_out hg_1 hP hD).2
  have hg_1F : ∀ q, va_A (SW E o sc ar) s.heap.size q → A q := g_free hg_1 hP hD hS hA
  have hlt_2 := P_lts hP
  have hz_3 : s.heap.size ≤ s.heap.size := hS.1
  have hj_6 : ∀ u_4 : SU, gpick ([SW E o u_4.1 u_4.2] ++ [[(ch, .inl (E.2 (3000 + 19), 1, .inl (fun zk : Nat => iI ( t))))]]) [SW E o u_4.1 u_4.2, [(ch, .inl (E.2 (3000 + 19), 1, .inl (fun zk : Nat => iI ( t))))]] [0, 1] := fun u_4 => ⟨rfl, (show List.Perm [0, 1] (List.range 2) from by decide)⟩
  have hj_7 : ∀ u_5 : SUX, gpick ([SW E o u_5.1 u_5.2.1] ++ [[(ch, .inl (E.2 (3000 + 19), 1, .inl (fun zk : Nat => iI ( t))))]]) [SW E o u_5.1 u_5.2.1, [(ch, .inl (E.2 (3000 + 19), 1, .inl (fun zk : Nat => iI ( t))))]] [0, 1] := fun u_5 => ⟨rfl, (show List.Perm [0, 1] (List.range 2) from by decide)⟩
  refine n_tx5B (x := fun u_4 => rs_val 0 (A_back g t)) (w2 := fun u_4 => (SW E o u_4.1 u_4.2) ++ ([(ch, .inl (E.2 (3000 + 19), 1, .inl (fun zk : Nat => iI ( t))))] : va_W)) (w3 := fun u_5 => (SW E o u_5.1 u_5.2.1) ++ ([(ch, .inl (E.2 (3000 + 19), 1, .inl (fun zk : Nat => iI ( t))))] : va_W)) (n_fwS2 (rest := []) hx hb (hl.1.trans hml.symm) hts hK hown (hts _ q924) ls_19 rfl (by decide +kernel) lk_19 ⟨rfl, rfl, by decide +kernel⟩ (y := yX4_lambda_puttingBack_5) ⟨rfl, rfl, by decide +kernel, rfl⟩ ⟨by decide +kernel, by decide +kernel⟩ q1888 q103 (sig := ⟨[.char, .object "ClockworkTailor$State"], some .int⟩) (by decide +kernel) rfl (mt_X4_lambda_puttingBack_5 l E o sc ar t g (by exact hst) (by assumption) (by omega) (by assumption) (by assumption) (by assumption) _) rfl rfl q1887 (hP 17 _ rfl) rfl rfl rfl (UX_S hg_1P hK (hg_1D) hE hS hg_1F) (Nat.le_of_ble_eq_true rfl) (Nat.le_of_ble_eq_true rfl) (Nat.le_of_ble_eq_true rfl) (Nat.le_of_ble_eq_true rfl) dX1_performOne_2) hS hg_1F ?_ ?_ ?_ ?_
  · exact (fun u_4 _ hk9 hp9 hd9 => g_back hg_1 (hj_6 u_4) hP hD hg_1F hk9 hp9 hd9)
  · exact (fun u_5 _ hk9 hp9 hd9 => g_back hg_1 (hj_7 u_5) hP hD hg_1F hk9 hp9 hd9)
  · intro En ce q9 u_5 H locs hCx hP hD hS hxf hq9 hce hcv hcl
    have hCx : XC1 (nmX "java/lang/IllegalArgumentException" "java/util/NoSuchElementException" "") (A_back g t) En u_5.2.2 := hCx
    have hP : va_P E.1 CL ((SW E o u_5.1 u_5.2.1) ++ ([(ch, .inl (E.2 (3000 + 19), 1, .inl (fun zk : Nat => iI ( t))))] : va_W)) H := hP
    have hD : va_D A ((SW E o u_5.1 u_5.2.1) ++ ([(ch, .inl (E.2 (3000 + 19), 1, .inl (fun zk : Nat => iI ( t))))] : va_W)) := hD
    rcases hCx with ⟨c9, hc9, hEn9⟩ | ⟨wd9, hA9, hEn9, hz9x⟩
    · have hNM : En = "java/lang/IllegalArgumentException" ∨ En = "java/util/NoSuchElementException" := by
        rw [hEn9]
        rcases hnm_back hc9 with rfl | rfl
        all_goals first | exact Or.inl rfl | exact Or.inr rfl | exact Or.inr (Or.inl rfl) | exact Or.inr (Or.inr rfl)
      clear hEn9
      rcases hNM with rfl | rfl
      · refine vx_catch (own := "ClockworkTailor") hown [_] _ [_, _, _] htab (fun z hz => by
            simp only [List.mem_cons, List.not_mem_nil, or_false] at hz
            rcases hz with rfl
            · exact Or.inr ⟨by decide, "ClockworkTailor$Refusal", hts _ q815, hK.kx.2.2.2.2.2 (_, _) (by decide)⟩) (by decide) (by decide) (name := "java/lang/IllegalArgumentException") (hts _ q892) (hK.nw q894) hce hcv hcl ?_
        refine lv_astore_n (lv' := [(3, .ref q9), (0, .ref (o 0)), (1, .ref ch), (2, iv i9)]) hx hb dX1_performOne_24 rfl hl (by decide) rfl (fun ls hl => ?_)
        have hz9_q_8 : s.heap.size ≤ (H).size := hS.1
        refine n_newK (ci := 5) (fs := [.null, .null, .null, .null, .null, iv 0, iv 0, iv 0, .null]) (C := RX6) (T := TX6) (N := 9) hx hb hts in_X6 tyX6 tyX6_ok hown (hts _ q815) (hts _ q816) (hts _ q117) hK hP hD hS hA rfl (fun j hj => by rcases (show j = 0 ∨ j = 1 ∨ j = 2 ∨ j = 3 ∨ j = 4 ∨ j = 5 ∨ j = 6 ∨ j = 7 ∨ j = 8 by omega) with rfl | rfl | rfl | rfl | rfl | rfl | rfl | rfl | rfl <;> rfl) (Nat.le_of_ble_eq_true rfl) (Nat.le_of_ble_eq_true rfl) dX1_performOne_25 (fun q_8 H hfr_q_8 o_9 hsz_q_8 hP hD hS => ?_)
        have hge_q_8 : s.heap.size ≤ q_8 := Nat.le_trans hz9_q_8 hsz_q_8
        have hP : va_P E.1 CL ((SW E o u_5.1 u_5.2.1) ++ ([(ch, .inl (E.2 (3000 + 19), 1, .inl (fun zk : Nat => iI ( t))))] : va_W) ++ ([(q_8, .inr (5, [.null, .null, .null, .null, .null, iv 0, iv 0, iv 0, .null]))] : va_W)) H := hP
        have hD : va_D A ((SW E o u_5.1 u_5.2.1) ++ ([(ch, .inl (E.2 (3000 + 19), 1, .inl (fun zk : Nat => iI ( t))))] : va_W) ++ ([(q_8, .inr (5, [.null, .null, .null, .null, .null, iv 0, iv 0, iv 0, .null]))] : va_W)) := hD
        refine lv_dup hx hb dX1_performOne_28 rfl ?_
        refine lv_bipush (v := iI 8) hx hb dX1_performOne_29 (by decide) ?_
        refine lv_iload_n hx hb dX1_performOne_31 rfl (lv_at hl 3 rfl) ?_
        have hz9_q_10 : s.heap.size ≤ (H).size := hS.1
        refine n_newK (ci := 5) (fs := [.null, .null, .null, .null, .null, iv 0, iv 0, iv 0, .null]) (C := RX6) (T := TX6) (N := 9) hx hb hts in_X6 tyX6 tyX6_ok hown (hts _ q815) (hts _ q816) (hts _ q117) hK hP hD hS hA rfl (fun j hj => by rcases (show j = 0 ∨ j = 1 ∨ j = 2 ∨ j = 3 ∨ j = 4 ∨ j = 5 ∨ j = 6 ∨ j = 7 ∨ j = 8 by omega) with rfl | rfl | rfl | rfl | rfl | rfl | rfl | rfl | rfl <;> rfl) (Nat.le_of_ble_eq_true rfl) (Nat.le_of_ble_eq_true rfl) dX1_performOne_32 (fun q_10 H hfr_q_10 o_11 hsz_q_10 hP hD hS => ?_)
        have hge_q_10 : s.heap.size ≤ q_10 := Nat.le_trans hz9_q_10 hsz_q_10
        have hne_q_8_q_10 : q_8 ≠ q_10 := Nat.ne_of_lt (Nat.lt_of_lt_of_le hfr_q_8.lt hsz_q_10)
        have hfr_q_8 := hfr_q_8.kept (o_11 q_8 hfr_q_8.lt)
        have hP : va_P E.1 CL ((SW E o u_5.1 u_5.2.1) ++ ([(ch, .inl (E.2 (3000 + 19), 1, .inl (fun zk : Nat => iI ( t))))] : va_W) ++ ([(q_8, .inr (5, [.null, .null, .null, .null, .null, iv 0, iv 0, iv 0, .null]))] : va_W) ++ ([(q_10, .inr (5, [.null, .null, .null, .null, .null, iv 0, iv 0, iv 0, .null]))] : va_W)) H := hP
        have hD : va_D A ((SW E o u_5.1 u_5.2.1) ++ ([(ch, .inl (E.2 (3000 + 19), 1, .inl (fun zk : Nat => iI ( t))))] : va_W) ++ ([(q_8, .inr (5, [.null, .null, .null, .null, .null, iv 0, iv 0, iv 0, .null]))] : va_W) ++ ([(q_10, .inr (5, [.null, .null, .null, .null, .null, iv 0, iv 0, iv 0, .null]))] : va_W)) := hD
        refine lv_dup hx hb dX1_performOne_35 rfl ?_
        refine lv_bipush (v := iI 9) hx hb dX1_performOne_36 (by decide) ?_
        refine lv_iconst (v := iI 0) hx hb dX1_performOne_38 rfl ?_
        refine n_cuxvSK (w2 := fun u_12 => (SW E o u_5.1 u_5.2.1) ++ ([(ch, .inl (E.2 (3000 + 19), 1, .inl (fun zk : Nat => iI ( t))))] : va_W) ++ ([(q_8, .inr (5, [.null, .null, .null, .null, .null, iv 0, iv 0, iv 0, .null]))] : va_W) ++ ([(q_10, .inr (5, u_12 ++ [iv 9, iv 0, va_rf none]))] : va_W)) (va_runI (As := [iv 9, iv 0]) (rest := [.ref q_10, iv i9, iv 8, .ref q_8, .ref q_8]) ⟨hx, hb, hml, hown, hts⟩ (mt_X6_init l E q_10 [.null, .null, .null, .null, .null, iv 0, iv 0, iv 0, .null] 9 0 hst _) (n_cwI 2 hts q824 q825 q117 q826 rfl rfl rfl (by decide +kernel) ⟨Nat.le_of_ble_eq_true rfl, Nat.le_of_ble_eq_true rfl⟩) (UF_S (hP.sub (ws' := [(q_10, .inr (5, [.null, .null, .null, .null, .null, iv 0, iv 0, iv 0, .null]))]) [19] rfl) hK (hD.sub (ws' := [(q_10, .inr (5, [.null, .null, .null, .null, .null, iv 0, iv 0, iv 0, .null]))]) [19] rfl rfl) hE hS (va_sub_free hD hS hA [19] rfl) hfr_q_10) rfl rfl hl.1 rfl (lv_room (Nat.le_of_ble_eq_true rfl)) dX1_performOne_39 ⟨Nat.le_of_ble_eq_true rfl, Nat.le_of_ble_eq_true rfl⟩) hP hD hS hA [19] [0, 1, 2, 3, 4, 5, 6, 7, 8, 9, 10, 11, 12, 13, 14, 15, 16, 17, 18] [0, 1, 2, 3, 4, 5, 6, 7, 8, 9, 10, 11, 12, 13, 14, 15, 16, 17, 18, 19] rfl rfl rfl rfl rfl (fun _ => rfl) (fun u_12 H locs hk_13 hu_12 hP hD hS => ?_)
        have hfr_q_8 := hfr_q_8.kept (hk_13 q_8 hfr_q_8.lt (n_notA hfr_q_8.lt hne_q_8_q_10))
        have hu_12 : u_12.length = 6 := hu_12
        have hP : va_P E.1 CL ((SW E o u_5.1 u_5.2.1) ++ ([(ch, .inl (E.2 (3000 + 19), 1, .inl (fun zk : Nat => iI ( t))))] : va_W) ++ ([(q_8, .inr (5, [.null, .null, .null, .null, .null, iv 0, iv 0, iv 0, .null]))] : va_W) ++ ([(q_10, .inr (5, u_12 ++ [iv 9, iv 0, va_rf none]))] : va_W)) H := hP
        have hD : va_D A ((SW E o u_5.1 u_5.2.1) ++ ([(ch, .inl (E.2 (3000 + 19), 1, .inl (fun zk : Nat => iI ( t))))] : va_W) ++ ([(q_8, .inr (5, [.null, .null, .null, .null, .null, iv 0, iv 0, iv 0, .null]))] : va_W) ++ ([(q_10, .inr (5, u_12 ++ [iv 9, iv 0, va_rf none]))] : va_W)) := hD
        refine n_cuxvSK (w2 := fun u_14 => (SW E o u_5.1 u_5.2.1) ++ ([(ch, .inl (E.2 (3000 + 19), 1, .inl (fun zk : Nat => iI ( t))))] : va_W) ++ ([(q_8, .inr (5, u_14 ++ [iv 8, iv i9, va_rf (some q_10)]))] : va_W) ++ ([(q_10, .inr (5, u_12 ++ [iv 9, iv 0, va_rf none]))] : va_W)) (va_runI (As := [iv 8, iv i9, .ref q_10]) (rest := [.ref q_8]) ⟨hx, hb, hml, hown, hts⟩ (mt_X6_init_2 l E q_8 [.null, .null, .null, .null, .null, iv 0, iv 0, iv 0, .null] 8 i9 (some q_10) hst _) (n_cwI 3 hts q1993 q828 q117 q829 rfl rfl rfl (by decide +kernel) ⟨Nat.le_of_ble_eq_true rfl, Nat.le_of_ble_eq_true rfl⟩) (UF_S (hP.sub (ws' := [(q_8, .inr (5, [.null, .null, .null, .null, .null, iv 0, iv 0, iv 0, .null]))]) [18] rfl) hK (hD.sub (ws' := [(q_8, .inr (5, [.null, .null, .null, .null, .null, iv 0, iv 0, iv 0, .null]))]) [18] rfl rfl) hE hS (va_sub_free hD hS hA [18] rfl) hfr_q_8) rfl rfl hl.1 rfl (lv_room (Nat.le_of_ble_eq_true rfl)) dX1_performOne_42 ⟨Nat.le_of_ble_eq_true rfl, Nat.le_of_ble_eq_true rfl⟩) hP hD hS hA [18] [0, 1, 2, 3, 4, 5, 6, 7, 8, 9, 10, 11, 12, 13, 14, 15, 16, 17, 19] [0, 1, 2, 3, 4, 5, 6, 7, 8, 9, 10, 11, 12, 13, 14, 15, 16, 17, 19, 18] rfl rfl rfl rfl rfl (fun _ => rfl) (fun u_14 H locs hk_15 hu_14 hP hD hS => ?_)
        have hu_14 : u_14.length = 6 := hu_14
        have hP : va_P E.1 CL ((SW E o u_5.1 u_5.2.1) ++ ([(ch, .inl (E.2 (3000 + 19), 1, .inl (fun zk : Nat => iI ( t))))] : va_W) ++ ([(q_8, .inr (5, u_14 ++ [iv 8, iv i9, va_rf (some q_10)]))] : va_W) ++ ([(q_10, .inr (5, u_12 ++ [iv 9, iv 0, va_rf none]))] : va_W)) H := hP
        have hD : va_D A ((SW E o u_5.1 u_5.2.1) ++ ([(ch, .inl (E.2 (3000 + 19), 1, .inl (fun zk : Nat => iI ( t))))] : va_W) ++ ([(q_8, .inr (5, u_14 ++ [iv 8, iv i9, va_rf (some q_10)]))] : va_W) ++ ([(q_10, .inr (5, u_12 ++ [iv 9, iv 0, va_rf none]))] : va_W)) := hD
        have hP9 := hP.sub (ws' := (SW E o u_5.1 u_5.2.1) ++ ([(ch, .inl (E.2 (3000 + 19), 1, .inl (fun zk : Nat => iI ( t))))] : va_W) ++ ([(q_10, .inr (5, u_12 ++ [iv 9, iv 0, va_rf none]))] : va_W)) [0, 1, 2, 3, 4, 5, 6, 7, 8, 9, 10, 11, 12, 13, 14, 15, 16, 17, 19] rfl
        have hD9 := hD.sub (ws' := (SW E o u_5.1 u_5.2.1) ++ ([(ch, .inl (E.2 (3000 + 19), 1, .inl (fun zk : Nat => iI ( t))))] : va_W) ++ ([(q_10, .inr (5, u_12 ++ [iv 9, iv 0, va_rf none]))] : va_W)) [0, 1, 2, 3, 4, 5, 6, 7, 8, 9, 10, 11, 12, 13, 14, 15, 16, 17, 19] (by decide) rfl
        have hPq := hP.sub (ws' := [(q_8, .inr (5, u_14 ++ [iv 8, iv i9, va_rf (some q_10)]))]) [18] rfl
        exact n_athrow ((u_5.1, u_5.2.1), q_10, u_12 ++ [iv 9, iv 0, va_rf none]) hx hb dX1_performOne_45 (k0 := 18) (ci := 5) (C0 := "ClockworkTailor$Refusal") (T0 := TX6) (N0 := 9) rfl rfl hK hP (by exact ⟨rfl, OSH_c hc9 hu_12⟩) hP9 hD9 hS (by exact fun y hy => by cases hy; exact ⟨u_14, hu_14, hPq⟩) hge_q_8 (by rw [htab]; decide) hlocks (Nat.le_of_ble_eq_true rfl) (Nat.le_of_ble_eq_true rfl)
      · refine vx_catch (own := "ClockworkTailor") hown [_, _, _, _] _ [] htab (fun z hz => by
            simp only [List.mem_cons, List.not_mem_nil, or_false] at hz
            rcases hz with rfl | rfl | rfl | rfl
            · exact Or.inr ⟨by decide, "ClockworkTailor$Refusal", hts _ q815, hK.kx.2.2.2.2.2 (_, _) (by decide)⟩
            · exact Or.inr ⟨by decide, "java/lang/IllegalArgumentException", hts _ q892, hK.kx.2.2.2.2.2 (_, _) (by decide)⟩
            · exact Or.inr ⟨by decide, "java/lang/IllegalStateException", hts _ q913, hK.kx.2.2.2.2.2 (_, _) (by decide)⟩
            · exact Or.inr ⟨by decide, "java/lang/IndexOutOfBoundsException", hts _ q1110, hK.kx.2.2.2.2.2 (_, _) (by decide)⟩) (by decide) (by decide) (name := "java/util/NoSuchElementException") (hts _ q974) (hK.nw q976) hce hcv hcl ?_
        refine lv_astore_n (lv' := [(3, .ref q9), (0, .ref (o 0)), (1, .ref ch), (2, iv i9)]) hx hb dX1_performOne_24 rfl hl (by decide) rfl (fun ls hl => ?_)
        have hz9_q_16 : s.heap.size ≤ (H).size := hS.1
        refine n_newK (ci := 5) (fs := [.null, .null, .null, .null, .null, iv 0, iv 0, iv 0, .null]) (C := RX6) (T := TX6) (N := 9) hx hb hts in_X6 tyX6 tyX6_ok hown (hts _ q815) (hts _ q816) (hts _ q117) hK hP hD hS hA rfl (fun j hj => by rcases (show j = 0 ∨ j = 1 ∨ j = 2 ∨ j = 3 ∨ j = 4 ∨ j = 5 ∨ j = 6 ∨ j = 7 ∨ j = 8 by omega) with rfl | rfl | rfl | rfl | rfl | rfl | rfl | rfl | rfl <;> rfl) (Nat.le_of_ble_eq_true rfl) (Nat.le_of_ble_eq_true rfl) dX1_performOne_25 (fun q_16 H hfr_q_16 o_17 hsz_q_16 hP hD hS => ?_)
        have hge_q_16 : s.heap.size ≤ q_16 := Nat.le_trans hz9_q_16 hsz_q_16
        have hP : va_P E.1 CL ((SW E o u_5.1 u_5.2.1) ++ ([(ch, .inl (E.2 (3000 + 19), 1, .inl (fun zk : Nat => iI ( t))))] : va_W) ++ ([(q_16, .inr (5, [.null, .null, .null, .null, .null, iv 0, iv 0, iv 0, .null]))] : va_W)) H := hP
        have hD : va_D A ((SW E o u_5.1 u_5.2.1) ++ ([(ch, .inl (E.2 (3000 + 19), 1, .inl (fun zk : Nat => iI ( t))))] : va_W) ++ ([(q_16, .inr (5, [.null, .null, .null, .null, .null, iv 0, iv 0, iv 0, .null]))] : va_W)) := hD
        refine lv_dup hx hb dX1_performOne_28 rfl ?_
        refine lv_bipush (v := iI 8) hx hb dX1_performOne_29 (by decide) ?_
        refine lv_iload_n hx hb dX1_performOne_31 rfl (lv_at hl 3 rfl) ?_
        have hz9_q_18 : s.heap.size ≤ (H).size := hS.1
        refine n_newK (ci := 5) (fs := [.null, .null, .null, .null, .null, iv 0, iv 0, iv 0, .null]) (C := RX6) (T := TX6) (N := 9) hx hb hts in_X6 tyX6 tyX6_ok hown (hts _ q815) (hts _ q816) (hts _ q117) hK hP hD hS hA rfl (fun j hj => by rcases (show j = 0 ∨ j = 1 ∨ j = 2 ∨ j = 3 ∨ j = 4 ∨ j = 5 ∨ j = 6 ∨ j = 7 ∨ j = 8 by omega) with rfl | rfl | rfl | rfl | rfl | rfl | rfl | rfl | rfl <;> rfl) (Nat.le_of_ble_eq_true rfl) (Nat.le_of_ble_eq_true rfl) dX1_performOne_32 (fun q_18 H hfr_q_18 o_19 hsz_q_18 hP hD hS => ?_)
        have hge_q_18 : s.heap.size ≤ q_18 := Nat.le_trans hz9_q_18 hsz_q_18
        have hne_q_16_q_18 : q_16 ≠ q_18 := Nat.ne_of_lt (Nat.lt_of_lt_of_le hfr_q_16.lt hsz_q_18)
        have hfr_q_16 := hfr_q_16.kept (o_19 q_16 hfr_q_16.lt)
        have hP : va_P E.1 CL ((SW E o u_5.1 u_5.2.1) ++ ([(ch, .inl (E.2 (3000 + 19), 1, .inl (fun zk : Nat => iI ( t))))] : va_W) ++ ([(q_16, .inr (5, [.null, .null, .null, .null, .null, iv 0, iv 0, iv 0, .null]))] : va_W) ++ ([(q_18, .inr (5, [.null, .null, .null, .null, .null, iv 0, iv 0, iv 0, .null]))] : va_W)) H := hP
        have hD : va_D A ((SW E o u_5.1 u_5.2.1) ++ ([(ch, .inl (E.2 (3000 + 19), 1, .inl (fun zk : Nat => iI ( t))))] : va_W) ++ ([(q_16, .inr (5, [.null, .null, .null, .null, .null, iv 0, iv 0, iv 0, .null]))] : va_W) ++ ([(q_18, .inr (5, [.null, .null, .null, .null, .null, iv 0, iv 0, iv 0, .null]))] : va_W)) := hD
        refine lv_dup hx hb dX1_performOne_35 rfl ?_
        refine lv_bipush (v := iI 9) hx hb dX1_performOne_36 (by decide) ?_
        refine lv_iconst (v := iI 0) hx hb dX1_performOne_38 rfl ?_
        refine n_cuxvSK (w2 := fun u_20 => (SW E o u_5.1 u_5.2.1) ++ ([(ch, .inl (E.2 (3000 + 19), 1, .inl (fun zk : Nat => iI ( t))))] : va_W) ++ ([(q_16, .inr (5, [.null, .null, .null, .null, .null, iv 0, iv 0, iv 0, .null]))] : va_W) ++ ([(q_18, .inr (5, u_20 ++ [iv 9, iv 0, va_rf none]))] : va_W)) (va_runI (As := [iv 9, iv 0]) (rest := [.ref q_18, iv i9, iv 8, .ref q_16, .ref q_16]) ⟨hx, hb, hml, hown, hts⟩ (mt_X6_init l E q_18 [.null, .null, .null, .null, .null, iv 0, iv 0, iv 0, .null] 9 0 hst _) (n_cwI 2 hts q824 q825 q117 q826 rfl rfl rfl (by decide +kernel) ⟨Nat.le_of_ble_eq_true rfl, Nat.le_of_ble_eq_true rfl⟩) (UF_S (hP.sub (ws' := [(q_18, .inr (5, [.null, .null, .null, .null, .null, iv 0, iv 0, iv 0, .null]))]) [19] rfl) hK (hD.sub (ws' := [(q_18, .inr (5, [.null, .null, .null, .null, .null, iv 0, iv 0, iv 0, .null]))]) [19] rfl rfl) hE hS (va_sub_free hD hS hA [19] rfl) hfr_q_18) rfl rfl hl.1 rfl (lv_room (Nat.le_of_ble_eq_true rfl)) dX1_performOne_39 ⟨Nat.le_of_ble_eq_true rfl, Nat.le_of_ble_eq_true rfl⟩) hP hD hS hA [19] [0, 1, 2, 3, 4, 5, 6, 7, 8, 9, 10, 11, 12, 13, 14, 15, 16, 17, 18] [0, 1, 2, 3, 4, 5, 6, 7, 8, 9, 10, 11, 12, 13, 14, 15, 16, 17, 18, 19] rfl rfl rfl rfl rfl (fun _ => rfl) (fun u_20 H locs hk_21 hu_20 hP hD hS => ?_)
        have hfr_q_16 := hfr_q_16.kept (hk_21 q_16 hfr_q_16.lt (n_notA hfr_q_16.lt hne_q_16_q_18))
        have hu_20 : u_20.length = 6 := hu_20
        have hP : va_P E.1 CL ((SW E o u_5.1 u_5.2.1) ++ ([(ch, .inl (E.2 (3000 + 19), 1, .inl (fun zk : Nat => iI ( t))))] : va_W) ++ ([(q_16, .inr (5, [.null, .null, .null, .null, .null, iv 0, iv 0, iv 0, .null]))] : va_W) ++ ([(q_18, .inr (5, u_20 ++ [iv 9, iv 0, va_rf none]))] : va_W)) H := hP
        have hD : va_D A ((SW E o u_5.1 u_5.2.1) ++ ([(ch, .inl (E.2 (3000 + 19), 1, .inl (fun zk : Nat => iI ( t))))] : va_W) ++ ([(q_16, .inr (5, [.null, .null, .null, .null, .null, iv 0, iv 0, iv 0, .null]))] : va_W) ++ ([(q_18, .inr (5, u_20 ++ [iv 9, iv 0, va_rf none]))] : va_W)) := hD
        refine n_cuxvSK (w2 := fun u_22 => (SW E o u_5.1 u_5.2.1) ++ ([(ch, .inl (E.2 (3000 + 19), 1, .inl (fun zk : Nat => iI ( t))))] : va_W) ++ ([(q_16, .inr (5, u_22 ++ [iv 8, iv i9, va_rf (some q_18)]))] : va_W) ++ ([(q_18, .inr (5, u_20 ++ [iv 9, iv 0, va_rf none]))] : va_W)) (va_runI (As := [iv 8, iv i9, .ref q_18]) (rest := [.ref q_16]) ⟨hx, hb, hml, hown, hts⟩ (mt_X6_init_2 l E q_16 [.null, .null, .null, .null, .null, iv 0, iv 0, iv 0, .null] 8 i9 (some q_18) hst _) (n_cwI 3 hts q1993 q828 q117 q829 rfl rfl rfl (by decide +kernel) ⟨Nat.le_of_ble_eq_true rfl, Nat.le_of_ble_eq_true rfl⟩) (UF_S (hP.sub (ws' := [(q_16, .inr (5, [.null, .null, .null, .null, .null, iv 0, iv 0, iv 0, .null]))]) [18] rfl) hK (hD.sub (ws' := [(q_16, .inr (5, [.null, .null, .null, .null, .null, iv 0, iv 0, iv 0, .null]))]) [18] rfl rfl) hE hS (va_sub_free hD hS hA [18] rfl) hfr_q_16) rfl rfl hl.1 rfl (lv_room (Nat.le_of_ble_eq_true rfl)) dX1_performOne_42 ⟨Nat.le_of_ble_eq_true rfl, Nat.le_of_ble_eq_true rfl⟩) hP hD hS hA [18] [0, 1, 2, 3, 4, 5, 6, 7, 8, 9, 10, 11, 12, 13, 14, 15, 16, 17, 19] [0, 1, 2, 3, 4, 5, 6, 7, 8, 9, 10, 11, 12, 13, 14, 15, 16, 17, 19, 18] rfl rfl rfl rfl rfl (fun _ => rfl) (fun u_22 H locs hk_23 hu_22 hP hD hS => ?_)
        have hu_22 : u_22.length = 6 := hu_22
        have hP : va_P E.1 CL ((SW E o u_5.1 u_5.2.1) ++ ([(ch, .inl (E.2 (3000 + 19), 1, .inl (fun zk : Nat => iI ( t))))] : va_W) ++ ([(q_16, .inr (5, u_22 ++ [iv 8, iv i9, va_rf (some q_18)]))] : va_W) ++ ([(q_18, .inr (5, u_20 ++ [iv 9, iv 0, va_rf none]))] : va_W)) H := hP
        have hD : va_D A ((SW E o u_5.1 u_5.2.1) ++ ([(ch, .inl (E.2 (3000 + 19), 1, .inl (fun zk : Nat => iI ( t))))] : va_W) ++ ([(q_16, .inr (5, u_22 ++ [iv 8, iv i9, va_rf (some q_18)]))] : va_W) ++ ([(q_18, .inr (5, u_20 ++ [iv 9, iv 0, va_rf none]))] : va_W)) := hD
        have hP9 := hP.sub (ws' := (SW E o u_5.1 u_5.2.1) ++ ([(ch, .inl (E.2 (3000 + 19), 1, .inl (fun zk : Nat => iI ( t))))] : va_W) ++ ([(q_18, .inr (5, u_20 ++ [iv 9, iv 0, va_rf none]))] : va_W)) [0, 1, 2, 3, 4, 5, 6, 7, 8, 9, 10, 11, 12, 13, 14, 15, 16, 17, 19] rfl
        have hD9 := hD.sub (ws' := (SW E o u_5.1 u_5.2.1) ++ ([(ch, .inl (E.2 (3000 + 19), 1, .inl (fun zk : Nat => iI ( t))))] : va_W) ++ ([(q_18, .inr (5, u_20 ++ [iv 9, iv 0, va_rf none]))] : va_W)) [0, 1, 2, 3, 4, 5, 6, 7, 8, 9, 10, 11, 12, 13, 14, 15, 16, 17, 19] (by decide) rfl
        have hPq := hP.sub (ws' := [(q_16, .inr (5, u_22 ++ [iv 8, iv i9, va_rf (some q_18)]))]) [18] rfl
        exact n_athrow ((u_5.1, u_5.2.1), q_18, u_20 ++ [iv 9, iv 0, va_rf none]) hx hb dX1_performOne_45 (k0 := 18) (ci := 5) (C0 := "ClockworkTailor$Refusal") (T0 := TX6) (N0 := 9) rfl rfl hK hP (by exact ⟨rfl, OSH_c hc9 hu_20⟩) hP9 hD9 hS (by exact fun y hy => by cases hy; exact ⟨u_22, hu_22, hPq⟩) hge_q_16 (by rw [htab]; decide) hlocks (Nat.le_of_ble_eq_true rfl) (Nat.le_of_ble_eq_true rfl)
    · subst hEn9
      obtain ⟨pre9, hpre9, hPq9⟩ := hxf _ hz9x
      refine vx_catch (own := "ClockworkTailor") hown [] _ [_, _, _, _] htab (fun z hz => by cases hz) (by decide) (by decide) (name := "ClockworkTailor$Refusal") (hts _ q815) (hK.nw q817) hce hcv hcl ?_
      obtain ⟨hP, hD⟩ := n_joinX hlt_2 (show List.map Prod.fst ((SW E o u_5.1 u_5.2.1) ++ ([(ch, .inl (E.2 (3000 + 19), 1, .inl (fun zk : Nat => iI ( t))))] : va_W)) = _ from rfl) hP hD hq9 (hA _ (Nat.le_trans hz_3 hq9)) hPq9
      have hP : va_P E.1 CL ((SW E o u_5.1 u_5.2.1) ++ ([(ch, .inl (E.2 (3000 + 19), 1, .inl (fun zk : Nat => iI ( t))))] : va_W) ++ ([(q9, .inr (5, (pre9 ++ [iv wd9.1, iv wd9.2, .null])))] : va_W)) H := hP
      have hD : va_D A ((SW E o u_5.1 u_5.2.1) ++ ([(ch, .inl (E.2 (3000 + 19), 1, .inl (fun zk : Nat => iI ( t))))] : va_W) ++ ([(q9, .inr (5, (pre9 ++ [iv wd9.1, iv wd9.2, .null])))] : va_W)) := hD
      refine lv_astore_n (lv' := [(3, .ref q9), (0, .ref (o 0)), (1, .ref ch), (2, iv i9)]) hx hb dX1_performOne_11 rfl hl (by decide) rfl (fun ls hl => ?_)
      have hz9_q_24 : s.heap.size ≤ (H).size := hS.1
      refine n_newK (ci := 5) (fs := [.null, .null, .null, .null, .null, iv 0, iv 0, iv 0, .null]) (C := RX6) (T := TX6) (N := 9) hx hb hts in_X6 tyX6 tyX6_ok hown (hts _ q815) (hts _ q816) (hts _ q117) hK hP hD hS hA rfl (fun j hj => by rcases (show j = 0 ∨ j = 1 ∨ j = 2 ∨ j = 3 ∨ j = 4 ∨ j = 5 ∨ j = 6 ∨ j = 7 ∨ j = 8 by omega) with rfl | rfl | rfl | rfl | rfl | rfl | rfl | rfl | rfl <;> rfl) (Nat.le_of_ble_eq_true rfl) (Nat.le_of_ble_eq_true rfl) dX1_performOne_12 (fun q_24 H hfr_q_24 o_25 hsz_q_24 hP hD hS => ?_)
      have hge_q_24 : s.heap.size ≤ q_24 := Nat.le_trans hz9_q_24 hsz_q_24
      have hP : va_P E.1 CL ((SW E o u_5.1 u_5.2.1) ++ ([(ch, .inl (E.2 (3000 + 19), 1, .inl (fun zk : Nat => iI ( t))))] : va_W) ++ ([(q9, .inr (5, (pre9 ++ [iv wd9.1, iv wd9.2, .null])))] : va_W) ++ ([(q_24, .inr (5, [.null, .null, .null, .null, .null, iv 0, iv 0, iv 0, .null]))] : va_W)) H := hP
      have hD : va_D A ((SW E o u_5.1 u_5.2.1) ++ ([(ch, .inl (E.2 (3000 + 19), 1, .inl (fun zk : Nat => iI ( t))))] : va_W) ++ ([(q9, .inr (5, (pre9 ++ [iv wd9.1, iv wd9.2, .null])))] : va_W) ++ ([(q_24, .inr (5, [.null, .null, .null, .null, .null, iv 0, iv 0, iv 0, .null]))] : va_W)) := hD
      refine lv_dup hx hb dX1_performOne_15 rfl ?_
      refine lv_bipush (v := iI 8) hx hb dX1_performOne_16 (by decide) ?_
      refine lv_iload_n hx hb dX1_performOne_18 rfl (lv_at hl 3 rfl) ?_
      refine lv_aload_n hx hb dX1_performOne_19 rfl (lv_at hl 0 rfl) ?_
      refine n_cuxvSK (w2 := fun u_26 => (SW E o u_5.1 u_5.2.1) ++ ([(ch, .inl (E.2 (3000 + 19), 1, .inl (fun zk : Nat => iI ( t))))] : va_W) ++ ([(q9, .inr (5, (pre9 ++ [iv wd9.1, iv wd9.2, .null])))] : va_W) ++ ([(q_24, .inr (5, u_26 ++ [iv 8, iv i9, va_rf (some q9)]))] : va_W)) (va_runI (As := [iv 8, iv i9, .ref q9]) (rest := [.ref q_24]) ⟨hx, hb, hml, hown, hts⟩ (mt_X6_init_2 l E q_24 [.null, .null, .null, .null, .null, iv 0, iv 0, iv 0, .null] 8 i9 (some q9) hst _) (n_cwI 3 hts q1993 q828 q117 q829 rfl rfl rfl (by decide +kernel) ⟨Nat.le_of_ble_eq_true rfl, Nat.le_of_ble_eq_true rfl⟩) (UF_S (hP.sub (ws' := [(q_24, .inr (5, [.null, .null, .null, .null, .null, iv 0, iv 0, iv 0, .null]))]) [19] rfl) hK (hD.sub (ws' := [(q_24, .inr (5, [.null, .null, .null, .null, .null, iv 0, iv 0, iv 0, .null]))]) [19] rfl rfl) hE hS (va_sub_free hD hS hA [19] rfl) hfr_q_24) rfl rfl hl.1 rfl (lv_room (Nat.le_of_ble_eq_true rfl)) dX1_performOne_20 ⟨Nat.le_of_ble_eq_true rfl, Nat.le_of_ble_eq_true rfl⟩) hP hD hS hA [19] [0, 1, 2, 3, 4, 5, 6, 7, 8, 9, 10, 11, 12, 13, 14, 15, 16, 17, 18] [0, 1, 2, 3, 4, 5, 6, 7, 8, 9, 10, 11, 12, 13, 14, 15, 16, 17, 18, 19] rfl rfl rfl rfl rfl (fun _ => rfl) (fun u_26 H locs hk_27 hu_26 hP hD hS => ?_)
      have hu_26 : u_26.length = 6 := hu_26
      have hP : va_P E.1 CL ((SW E o u_5.1 u_5.2.1) ++ ([(ch, .inl (E.2 (3000 + 19), 1, .inl (fun zk : Nat => iI ( t))))] : va_W) ++ ([(q9, .inr (5, (pre9 ++ [iv wd9.1, iv wd9.2, .null])))] : va_W) ++ ([(q_24, .inr (5, u_26 ++ [iv 8, iv i9, va_rf (some q9)]))] : va_W)) H := hP
      have hD : va_D A ((SW E o u_5.1 u_5.2.1) ++ ([(ch, .inl (E.2 (3000 + 19), 1, .inl (fun zk : Nat => iI ( t))))] : va_W) ++ ([(q9, .inr (5, (pre9 ++ [iv wd9.1, iv wd9.2, .null])))] : va_W) ++ ([(q_24, .inr (5, u_26 ++ [iv 8, iv i9, va_rf (some q9)]))] : va_W)) := hD
      have hP9 := hP.sub (ws' := (SW E o u_5.1 u_5.2.1) ++ ([(ch, .inl (E.2 (3000 + 19), 1, .inl (fun zk : Nat => iI ( t))))] : va_W) ++ ([(q9, .inr (5, (pre9 ++ [iv wd9.1, iv wd9.2, .null])))] : va_W)) [0, 1, 2, 3, 4, 5, 6, 7, 8, 9, 10, 11, 12, 13, 14, 15, 16, 17, 18] rfl
      have hD9 := hD.sub (ws' := (SW E o u_5.1 u_5.2.1) ++ ([(ch, .inl (E.2 (3000 + 19), 1, .inl (fun zk : Nat => iI ( t))))] : va_W) ++ ([(q9, .inr (5, (pre9 ++ [iv wd9.1, iv wd9.2, .null])))] : va_W)) [0, 1, 2, 3, 4, 5, 6, 7, 8, 9, 10, 11, 12, 13, 14, 15, 16, 17, 18] (by decide) rfl
      have hPq := hP.sub (ws' := [(q_24, .inr (5, u_26 ++ [iv 8, iv i9, va_rf (some q9)]))]) [19] rfl
      exact n_athrow ((u_5.1, u_5.2.1), q9, (pre9 ++ [iv wd9.1, iv wd9.2, .null])) hx hb dX1_performOne_23 (k0 := 19) (ci := 5) (C0 := "ClockworkTailor$Refusal") (T0 := TX6) (N0 := 9) rfl rfl hK hP (by exact ⟨rfl, OSH_w hA9 hpre9⟩) hP9 hD9 hS (by exact fun y hy => by cases hy; exact ⟨u_26, hu_26, hPq⟩) hge_q_24 (by rw [htab]; decide) hlocks (Nat.le_of_ble_eq_true rfl) (Nat.le_of_ble_eq_true rfl)
  · intro u_4 H locs hC hP hD hS
    have hu_4 : (∃ q, A_back g t = .inr (.inr q)) ∧ SR (rs_g g (A_back g t)) u_4.1 u_4.2 := hC
    have hP : va_P E.1 CL ((SW E o u_4.1 u_4.2) ++ ([(ch, .inl (E.2 (3000 + 19), 1, .inl (fun zk : Nat => iI ( t))))] : va_W)) H := hP
    have hD : va_D A ((SW E o u_4.1 u_4.2) ++ ([(ch, .inl (E.2 (3000 + 19), 1, .inl (fun zk : Nat => iI ( t))))] : va_W)) := hD
    refine lv_istore_n (lv' := [(3, iv (rs_val 0 (A_back g t))), (0, .ref (o 0)), (1, .ref ch), (2, iv i9)]) hx hb dX1_performOne_7 rfl hl (by decide) rfl (fun ls hl => ?_)
    refine lv_goto (tgt := 46) hx hb dX1_performOne_8 (by decide) ?_
    refine vx_ret ?_
    refine W.widen (k := 45) (n := 335) (Nat.le_of_ble_eq_true rfl) (Nat.le_of_ble_eq_true rfl) ?_
    exact W.vret hx hb hr (fun tt_ ht_ hW_ => ⟨⟨(u_4.1, u_4.2), rfl, hu_4, by rw [ht_]; exact hP, hD⟩, hS.F ht_⟩) hS.2.2 dX1_performOne_46
