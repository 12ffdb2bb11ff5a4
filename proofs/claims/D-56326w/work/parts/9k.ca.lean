set_option maxHeartbeats 2000000 in
set_option maxRecDepth 100000 in
theorem mt_X2_addNeed (l : Launch) (E : EE) (o : Nat → Nat) (sc : Nat → Int) (ar : Nat → Int → Int) (t : Int) (n9 : Int) (z : Bool) (g : Int → Int) (r : Int → Nat) (hst : l.stackTraces = false) (hsr : SR g sc ar) (ht : 0 ≤ t ∧ t < 65536) (hn : 0 ≤ n9 ∧ n9 < 65536) (htw : TW g) (hsw : SwOK g) (hhn : HN g) (hrk : RK g r) (sz : Nat) : vx_Met l yX2_addNeed (ws_ yX2_addNeed cX2_addNeed 7 (some .int)) { frames := 8, cells := 46, slots := 341, locals := 3137 } (va_Pc [.ref (o 0), iv t, iv n9, iv (b2 z)] (UX E (SW E o sc ar) sz)) (UQx E (fun u : SU => (∃ q, A_add g t n9 z = .inr (.inr q)) ∧ SR (rs_g g (A_add g t n9 z)) u.1 u.2) (fun u : SU => rs_val 0 (A_add g t n9 z)) (fun u : SU => SW E o u.1 u.2) (va_A (SW E o sc ar) sz)) (UXx E (fun (En : String) (u : SUX) => XC1 (nmX "java/lang/IllegalArgumentException" "java/util/NoSuchElementException" "") (A_add g t n9 z) En u.2.2) (fun u : SUX => SW E o u.1 u.2.1) (fun u : SUX => u.2.2) (va_A (SW E o sc ar) sz)) 46 341 (va_A (SW E o sc ar) sz) := by
  refine vx_ofW (cc := cX2_addNeed) (maxL := 7) (ret := (some .int)) (by decide) rfl ?_
  intro p e s m args below meth c s₁ B hml htb hv
  obtain ⟨rfl, hsz, hP, hK, hD0, hE⟩ := hv
  have hx := B.exec
  have hb := B.bytes
  have hr := B.returns
  have hts := atoms_spec (ws := (ws_ yX2_addNeed cX2_addNeed 7 (some .int))) B.pre
  have hts : ∀ w ∈ lw_all, w.before _ s = true := fun w h => hts w (List.mem_cons_of_mem _ h)
  have hown : s.vm.findClass RX2 = some m.cls := findClass_of_methodNamed B.named
  have hlocks := B.notSynchronized
  subst hsz
  have hD := hD0.self (sz := s.heap.size)
  generalize hAe : va_A (SW E o sc ar) s.heap.size = A at hD hE ⊢
  have hA : ∀ q : Nat, s.heap.size ≤ q → A q := fun q h => by rw [← hAe]; exact Or.inr h
  have hS : va_S A s.heap s.heap [] := va_S.rf
  have hl := lv_entry ([.ref (o 0), iv t, iv n9, iv (b2 z)]) (n := 7) (Nat.le_of_ble_eq_true rfl)
  rw [lg_entry_eq]
  generalize (lg_sl ([.ref (o 0), iv t, iv n9, iv (b2 z)]) ++ List.replicate (7 - (lg_sl ([.ref (o 0), iv t, iv n9, iv (b2 z)])).length) Slot.unset).toArray = ls at hl ⊢
  have hl : lv_has ls 7 [(0, .ref (o 0)), (1, iv t), (2, iv n9), (3, iv (b2 z))] := hl
  have hbr := hsr.br
  refine lv_iload_n hx hb dX2_addNeed_0 rfl (lv_at hl 1 rfl) ?_
  have hz_1 : s.heap.size ≤ s.heap.size := hS.1
  refine n_txS (x := fun u_2 => t - 97) (w2 := fun u_2 => SW E o sc ar) (w3 := fun u_3 => SW E o sc ar) (vx_runSN (As := [iv t]) (rest := []) ⟨hx, hb, hml, hown, hts⟩ (mt_X1_indexOf l E t (by exact hst) (by omega) _) ⟨(va_cnB 1 hts (lw_meth q964) rfl rfl rfl (hK.nv q962) (hts _ q94) (by decide +kernel) ⟨Nat.le_of_ble_eq_true rfl, Nat.le_of_ble_eq_true rfl⟩), hts _ q963, trivial⟩ (UX_S (hP.sub (ws' := []) [] rfl) hK (hD.sub (ws' := []) [] rfl rfl) hE hS (va_sub_free hD hS hA [] rfl)) rfl rfl hl.1 rfl (lv_room (Nat.le_of_ble_eq_true rfl)) dX2_addNeed_1 ⟨Nat.le_of_ble_eq_true rfl, Nat.le_of_ble_eq_true rfl⟩) hP hD hS hA [] [0, 1, 2, 3, 4, 5, 6, 7, 8, 9, 10, 11, 12, 13, 14, 15, 16] [0, 1, 2, 3, 4, 5, 6, 7, 8, 9, 10, 11, 12, 13, 14, 15, 16] [0, 1, 2, 3, 4, 5, 6, 7, 8, 9, 10, 11, 12, 13, 14, 15, 16] rfl rfl rfl rfl rfl (fun _ => rfl) rfl (fun _ => rfl) ?_ ?_
  · intro En ce q9 u_3 H locs hCx hP hD hS hxf hq9 hce hcv hcl
    have hCx : En = "java/lang/IllegalArgumentException" ∧ ¬ (97 ≤ t ∧ t ≤ 104) := hCx
    have hP : va_P E.1 CL (SW E o sc ar) H := hP
    have hD : va_D A (SW E o sc ar) := hD
    exact n_out (sc, ar, none) (by exact Or.inl ⟨1, by have hz := hCx.2; have hz : c_add g t n9 = 1 := (by unfold c_add; rw [if_neg (by omega)]); unfold A_add; rw [if_pos (by omega), hz], hCx.1⟩) hP hD hS hxf (Nat.le_trans hz_1 hq9) hce hcv hcl (fun x hx9 => (htb x hx9).elim) hlocks (Nat.le_of_ble_eq_true rfl) (Nat.le_of_ble_eq_true rfl)
  · intro u_2 H locs hC hP hD hS
    have hu_2 : 97 ≤ t ∧ t ≤ 104 := hC
    have hP : va_P E.1 CL (SW E o sc ar) H := hP
    have hD : va_D A (SW E o sc ar) := hD
    have hti : 97 ≤ t ∧ t ≤ 104 := by assumption
    refine lv_istore (lv' := [(4, iv (t - 97)), (0, .ref (o 0)), (1, iv t), (2, iv n9), (3, iv (b2 z))]) hx hb dX2_addNeed_4 hl (by decide) rfl (fun ls hl => ?_)
    refine lv_iload_n hx hb dX2_addNeed_6 rfl (lv_at hl 3 rfl) ?_
    have hz_4 : s.heap.size ≤ H.size := hS.1
    refine n_txS (x := fun u_5 => n9 - 97) (w2 := fun u_5 => SW E o sc ar) (w3 := fun u_6 => SW E o sc ar) (vx_runSN (As := [iv n9]) (rest := []) ⟨hx, hb, hml, hown, hts⟩ (mt_X1_indexOf l E n9 (by exact hst) (by omega) _) ⟨(va_cnB 1 hts (lw_meth q964) rfl rfl rfl (hK.nv q962) (hts _ q94) (by decide +kernel) ⟨Nat.le_of_ble_eq_true rfl, Nat.le_of_ble_eq_true rfl⟩), hts _ q963, trivial⟩ (UX_S (hP.sub (ws' := []) [] rfl) hK (hD.sub (ws' := []) [] rfl rfl) hE hS (va_sub_free hD hS hA [] rfl)) rfl rfl hl.1 rfl (lv_room (Nat.le_of_ble_eq_true rfl)) dX2_addNeed_7 ⟨Nat.le_of_ble_eq_true rfl, Nat.le_of_ble_eq_true rfl⟩) hP hD hS hA [] [0, 1, 2, 3, 4, 5, 6, 7, 8, 9, 10, 11, 12, 13, 14, 15, 16] [0, 1, 2, 3, 4, 5, 6, 7, 8, 9, 10, 11, 12, 13, 14, 15, 16] [0, 1, 2, 3, 4, 5, 6, 7, 8, 9, 10, 11, 12, 13, 14, 15, 16] rfl rfl rfl rfl rfl (fun _ => rfl) rfl (fun _ => rfl) ?_ ?_
    · intro En ce q9 u_6 H locs hCx hP hD hS hxf hq9 hce hcv hcl
      have hCx : En = "java/lang/IllegalArgumentException" ∧ ¬ (97 ≤ n9 ∧ n9 ≤ 104) := hCx
      have hP : va_P E.1 CL (SW E o sc ar) H := hP
      have hD : va_D A (SW E o sc ar) := hD
      exact n_out (sc, ar, none) (by exact Or.inl ⟨1, by have hz := hCx.2; have hz : c_add g t n9 = 1 := (by unfold c_add; rw [if_neg (by omega)]); unfold A_add; rw [if_pos (by omega), hz], hCx.1⟩) hP hD hS hxf (Nat.le_trans hz_4 hq9) hce hcv hcl (fun x hx9 => (htb x hx9).elim) hlocks (Nat.le_of_ble_eq_true rfl) (Nat.le_of_ble_eq_true rfl)
    · intro u_5 H locs hC hP hD hS
      have hu_5 : 97 ≤ n9 ∧ n9 ≤ 104 := hC
      have hP : va_P E.1 CL (SW E o sc ar) H := hP
      have hD : va_D A (SW E o sc ar) := hD
      have hni : 97 ≤ n9 ∧ n9 ≤ 104 := by assumption
      refine lv_istore (lv' := [(5, iv (n9 - 97)), (4, iv (t - 97)), (0, .ref (o 0)), (1, iv t), (2, iv n9), (3, iv (b2 z))]) hx hb dX2_addNeed_10 hl (by decide) rfl (fun ls hl => ?_)
      refine lv_aload_n hx hb dX2_addNeed_12 rfl (lv_at hl 2 rfl) ?_
      refine lv_iload hx hb dX2_addNeed_13 (lv_at hl 1 rfl) ?_
      have hz_7 : s.heap.size ≤ H.size := hS.1
      refine n_txvS (w2 := fun u_8 => SW E o sc ar) (w3 := fun u_9 => SW E o sc ar) (vx_runV (As := [iv (t - 97)]) (rest := []) ⟨hx, hb, hml, hown, hts⟩ (mt_X2_checkRecipe l E o sc ar (t - 97) g (by exact hst) (by omega) (by assumption) _) (cwV 1 hts (lw_V q967 q968 q969 q95 q970) rfl rfl rfl (by decide +kernel) ⟨Nat.le_of_ble_eq_true rfl, Nat.le_of_ble_eq_true rfl⟩) (UX_V hP hK (hD) hE hS (va_A_in hD hS hA) (va_recv hK.1 hP (ci := 2) (q0 := 0) rfl rfl)) rfl rfl hl.1 rfl (lv_room (Nat.le_of_ble_eq_true rfl)) dX2_addNeed_15 ⟨Nat.le_of_ble_eq_true rfl, Nat.le_of_ble_eq_true rfl⟩) hP hD hS hA [0, 1, 2, 3, 4, 5, 6, 7, 8, 9, 10, 11, 12, 13, 14, 15, 16] [] [0, 1, 2, 3, 4, 5, 6, 7, 8, 9, 10, 11, 12, 13, 14, 15, 16] [0, 1, 2, 3, 4, 5, 6, 7, 8, 9, 10, 11, 12, 13, 14, 15, 16] rfl rfl rfl rfl rfl (fun _ => rfl) rfl (fun _ => rfl) ?_ ?_
      · intro En ce q9 u_9 H locs hCx hP hD hS hxf hq9 hce hcv hcl
        have hCx : En = "java/util/NoSuchElementException" ∧ m_has g (t - 97) = false := hCx
        have hP : va_P E.1 CL (SW E o sc ar) H := hP
        have hD : va_D A (SW E o sc ar) := hD
        exact n_out (sc, ar, none) (by exact Or.inl ⟨2, by have hz : c_add g t n9 = 2 := (by unfold c_add; rw [if_pos (by omega), if_neg (by rw [hCx.2]; decide)]); unfold A_add; rw [if_pos (by omega), hz], hCx.1⟩) hP hD hS hxf (Nat.le_trans hz_7 hq9) hce hcv hcl (fun x hx9 => (htb x hx9).elim) hlocks (Nat.le_of_ble_eq_true rfl) (Nat.le_of_ble_eq_true rfl)
      · intro u_8 H locs hC hP hD hS
        have hu_8 : m_has g (t - 97) = true := hC
        have hP : va_P E.1 CL (SW E o sc ar) H := hP
        have hD : va_D A (SW E o sc ar) := hD
        have hha : m_has g (t - 97) = true := by assumption
        have hz0 : c_add g t n9 = 0 := by unfold c_add; rw [if_pos (by omega), if_pos hha]
        have hq3 := htw (t - 97) (by omega) (by omega)
        have hplr := m_place_r (g := g) htw (t := t - 97) (n := n9 - 97) (by omega)
        refine lv_aload_n hx hb dX2_addNeed_18 rfl (lv_at hl 2 rfl) ?_
        refine va_get (D := E.1) (ci := 2) (v := .ref (o 1)) (C := RX2) (T := TX2) (N := 14) hx hb hts in_X2 hown hK.1 hP 0 rfl rfl 0 (by decide) (hts _ q188) (fun _ h9 => h9) rfl dX2_addNeed_19 ?_
        refine lv_iload hx hb dX2_addNeed_22 (lv_at hl 1 rfl) ?_
        refine lv_iload hx hb dX2_addNeed_24 (lv_at hl 0 rfl) ?_
        refine n_csi (x := m_place g (t - 97) (n9 - 97)) (va_runV (As := [iv (t - 97), iv (n9 - 97)]) (rest := []) ⟨hx, hb, hml, hown, hts⟩ (mt_X3_positionOf l E o sc ar (t - 97) (n9 - 97) g (by omega) (by omega) (by assumption) (by assumption) (by assumption)) (cwV 2 hts (lw_V q1007 q1008 q1009 q96 q1010) rfl rfl rfl (by decide +kernel) ⟨Nat.le_of_ble_eq_true rfl, Nat.le_of_ble_eq_true rfl⟩) (PW_V (hP.sub (ws' := BW E o sc ar) [1, 2, 3, 4, 5, 6, 7, 8] rfl) hK (va_recv hK.1 hP (ci := 3) (q0 := 1) rfl rfl)) rfl rfl hl.1 rfl (lv_room (Nat.le_of_ble_eq_true rfl)) dX2_addNeed_26 ⟨Nat.le_of_ble_eq_true rfl, Nat.le_of_ble_eq_true rfl⟩) ?_
        refine lv_istore (lv' := [(6, iv (m_place g (t - 97) (n9 - 97))), (5, iv (n9 - 97)), (4, iv (t - 97)), (0, .ref (o 0)), (1, iv t), (2, iv n9), (3, iv (b2 z))]) hx hb dX2_addNeed_29 hl (by decide) rfl (fun ls hl => ?_)
        have j_10 : W p l e (headSpec (ws_ yX2_addNeed cX2_addNeed 7 (some .int)) { frames := 8, cells := 46, slots := 341, locals := 3137 }).room s m ([.ref (o 0), iv t, iv n9, iv (b2 z)] : List Value).toArray below meth c H locs 3 18 (vx_MQ below (UQx E (fun u : SU => (∃ q, A_add g t n9 z = .inr (.inr q)) ∧ SR (rs_g g (A_add g t n9 z)) u.1 u.2) (fun u : SU => rs_val 0 (A_add g t n9 z)) (fun u : SU => SW E o u.1 u.2) A) (UXx E (fun (En : String) (u : SUX) => XC1 (nmX "java/lang/IllegalArgumentException" "java/util/NoSuchElementException" "") (A_add g t n9 z) En u.2.2) (fun u : SUX => SW E o u.1 u.2.1) (fun u : SUX => u.2.2) A) ([.ref (o 0), iv t, iv n9, iv (b2 z)] : List Value).toArray s 46 341 A) (F0 m 42 ls [iv (b2 (!(decide (m_place g (t - 97) (n9 - 97) = -1))))]) := by
          refine lv_iconst (v := iI 1) hx hb dX2_addNeed_42 rfl ?_
          refine lv_iload hx hb dX2_addNeed_43 (lv_at hl 0 rfl) ?_
          have b_11 := m_place_r (g := g) (by assumption) (t := (t - 97)) (n := (n9 - 97)) (by omega)
          have hz_12 : s.heap.size ≤ H.size := hS.1
          refine n_txvS (w2 := fun u_13 => SW E o sc ar) (w3 := fun u_14 => SW E o sc ar) (vx_runSN (As := [iv (b2 (!(decide (m_place g (t - 97) (n9 - 97) = -1)))), iv 1, iv (m_place g (t - 97) (n9 - 97))]) (rest := []) ⟨hx, hb, hml, hown, hts⟩ (mt_X1_refuseIf l E (!(decide (m_place g (t - 97) (n9 - 97) = -1))) 1 (m_place g (t - 97) (n9 - 97)) (by exact hst) _) ⟨(va_cnB 3 hts (lw_meth q814) rfl rfl rfl (hK.nv q812) (hts _ q94) (by decide +kernel) ⟨Nat.le_of_ble_eq_true rfl, Nat.le_of_ble_eq_true rfl⟩), hts _ q813, trivial⟩ (UX_S (hP.sub (ws' := []) [] rfl) hK (hD.sub (ws' := []) [] rfl rfl) hE hS (va_sub_free hD hS hA [] rfl)) rfl rfl hl.1 rfl (lv_room (Nat.le_of_ble_eq_true rfl)) dX2_addNeed_45 ⟨Nat.le_of_ble_eq_true rfl, Nat.le_of_ble_eq_true rfl⟩) hP hD hS hA [] [0, 1, 2, 3, 4, 5, 6, 7, 8, 9, 10, 11, 12, 13, 14, 15, 16] [0, 1, 2, 3, 4, 5, 6, 7, 8, 9, 10, 11, 12, 13, 14, 15, 16] [0, 1, 2, 3, 4, 5, 6, 7, 8, 9, 10, 11, 12, 13, 14, 15, 16] rfl rfl rfl rfl rfl (fun _ => rfl) rfl (fun _ => rfl) ?_ ?_
          · intro En ce q9 u_14 H locs hCx hP hD hS hxf hq9 hce hcv hcl
            have hCx : En = "ClockworkTailor$Refusal" ∧ (!(decide (m_place g (t - 97) (n9 - 97) = -1))) = true := hCx
            have hP : va_P E.1 CL (SW E o sc ar) H := hP
            have hD : va_D A (SW E o sc ar) := hD
            exact n_out (sc, ar, some (5, [iv 1, iv (m_place g (t - 97) (n9 - 97)), .null])) (by exact Or.inr ⟨(1, m_place g (t - 97) (n9 - 97)), by unfold A_add; rw [if_neg (by omega), if_pos (pl_pos hplr hCx.2)], hCx.1, rfl⟩) hP hD hS hxf (Nat.le_trans hz_12 hq9) hce hcv hcl (fun x hx9 => (htb x hx9).elim) hlocks (Nat.le_of_ble_eq_true rfl) (Nat.le_of_ble_eq_true rfl)
          · intro u_13 H locs hC hP hD hS
            have hu_13 : (!(decide (m_place g (t - 97) (n9 - 97) = -1))) = false := hC
            have hP : va_P E.1 CL (SW E o sc ar) H := hP
            have hD : va_D A (SW E o sc ar) := hD
            have hpn : m_place g (t - 97) (n9 - 97) = -1 := by have q9 := hu_13; simpa using q9
            have j_15 : W p l e (headSpec (ws_ yX2_addNeed cX2_addNeed 7 (some .int)) { frames := 8, cells := 46, slots := 341, locals := 3137 }).room s m ([.ref (o 0), iv t, iv n9, iv (b2 z)] : List Value).toArray below meth c H locs 4 27 (vx_MQ below (UQx E (fun u : SU => (∃ q, A_add g t n9 z = .inr (.inr q)) ∧ SR (rs_g g (A_add g t n9 z)) u.1 u.2) (fun u : SU => rs_val 0 (A_add g t n9 z)) (fun u : SU => SW E o u.1 u.2) A) (UXx E (fun (En : String) (u : SUX) => XC1 (nmX "java/lang/IllegalArgumentException" "java/util/NoSuchElementException" "") (A_add g t n9 z) En u.2.2) (fun u : SUX => SW E o u.1 u.2.1) (fun u : SUX => u.2.2) A) ([.ref (o 0), iv t, iv n9, iv (b2 z)] : List Value).toArray s 46 341 A) (F0 m 67 ls [iv (b2 (decide (m_of g (t - 97) 2 = 3)))]) := by
              refine lv_iconst (v := iI 2) hx hb dX2_addNeed_67 rfl ?_
              refine lv_iconst (v := iI 3) hx hb dX2_addNeed_68 rfl ?_
              have hz_16 : s.heap.size ≤ H.size := hS.1
              refine n_txvS (w2 := fun u_17 => SW E o sc ar) (w3 := fun u_18 => SW E o sc ar) (vx_runSN (As := [iv (b2 (decide (m_of g (t - 97) 2 = 3))), iv 2, iv 3]) (rest := []) ⟨hx, hb, hml, hown, hts⟩ (mt_X1_refuseIf l E (decide (m_of g (t - 97) 2 = 3)) 2 3 (by exact hst) _) ⟨(va_cnB 3 hts (lw_meth q814) rfl rfl rfl (hK.nv q812) (hts _ q94) (by decide +kernel) ⟨Nat.le_of_ble_eq_true rfl, Nat.le_of_ble_eq_true rfl⟩), hts _ q813, trivial⟩ (UX_S (hP.sub (ws' := []) [] rfl) hK (hD.sub (ws' := []) [] rfl rfl) hE hS (va_sub_free hD hS hA [] rfl)) rfl rfl hl.1 rfl (lv_room (Nat.le_of_ble_eq_true rfl)) dX2_addNeed_69 ⟨Nat.le_of_ble_eq_true rfl, Nat.le_of_ble_eq_true rfl⟩) hP hD hS hA [] [0, 1, 2, 3, 4, 5, 6, 7, 8, 9, 10, 11, 12, 13, 14, 15, 16] [0, 1, 2, 3, 4, 5, 6, 7, 8, 9, 10, 11, 12, 13, 14, 15, 16] [0, 1, 2, 3, 4, 5, 6, 7, 8, 9, 10, 11, 12, 13, 14, 15, 16] rfl rfl rfl rfl rfl (fun _ => rfl) rfl (fun _ => rfl) ?_ ?_
              · intro En ce q9 u_18 H locs hCx hP hD hS hxf hq9 hce hcv hcl
                have hCx : En = "ClockworkTailor$Refusal" ∧ (decide (m_of g (t - 97) 2 = 3)) = true := hCx
                have hP : va_P E.1 CL (SW E o sc ar) H := hP
                have hD : va_D A (SW E o sc ar) := hD
                exact n_out (sc, ar, some (5, [iv 2, iv (3), .null])) (by exact Or.inr ⟨(2, 3), by unfold A_add; rw [if_neg (by omega), if_neg (by omega), if_pos (of_decide_eq_true hCx.2)], hCx.1, rfl⟩) hP hD hS hxf (Nat.le_trans hz_16 hq9) hce hcv hcl (fun x hx9 => (htb x hx9).elim) hlocks (Nat.le_of_ble_eq_true rfl) (Nat.le_of_ble_eq_true rfl)
              · intro u_17 H locs hC hP hD hS
                have hu_17 : (decide (m_of g (t - 97) 2 = 3)) = false := hC
                have hP : va_P E.1 CL (SW E o sc ar) H := hP
                have hD : va_D A (SW E o sc ar) := hD
                have hc3 : ¬ m_of g (t - 97) 2 = 3 := of_decide_eq_false hu_17
                refine lv_aload_n hx hb dX2_addNeed_72 rfl (lv_at hl 3 rfl) ?_
                refine va_get (D := E.1) (ci := 2) (v := .ref (o 1)) (C := RX2) (T := TX2) (N := 14) hx hb hts in_X2 hown hK.1 hP 0 rfl rfl 0 (by decide) (hts _ q188) (fun _ h9 => h9) rfl dX2_addNeed_73 ?_
                refine lv_iload hx hb dX2_addNeed_76 (lv_at hl 2 rfl) ?_
                refine lv_iload hx hb dX2_addNeed_78 (lv_at hl 1 rfl) ?_
                refine lv_iload_n hx hb dX2_addNeed_80 rfl (lv_at hl 6 rfl) ?_
                refine n_cuvS (w2 := SW E o sc (ua (ua (ua ar 5 (ui (ar 5) (t - 97) (m_of g (t - 97) 2 + 1))) 6 (ui (ar 6) (3 * (t - 97) + m_of g (t - 97) 2) (n9 - 97))) 7 (ui (ar 7) (3 * (t - 97) + m_of g (t - 97) 2) (b2 z)))) (va_runV (As := [iv (t - 97), iv (n9 - 97), iv (b2 z)]) (rest := []) ⟨hx, hb, hml, hown, hts⟩ (mt_X3_add l E o sc ar (t - 97) (n9 - 97) z g (by omega) (by omega) (by assumption) (by assumption) (by first | assumption | exact HN_pos hhn (t := t - 97) (by omega) (by omega)) (by omega) _) (cwV 3 hts (lw_V q1011 q1012 q1013 q96 q1014) rfl rfl rfl (by decide +kernel) ⟨Nat.le_of_ble_eq_true rfl, Nat.le_of_ble_eq_true rfl⟩) (UW_V (hP.sub (ws' := BW E o sc ar) [1, 2, 3, 4, 5, 6, 7, 8] rfl) hK (hD.sub (ws' := BW E o sc ar) [1, 2, 3, 4, 5, 6, 7, 8] rfl rfl) (va_recv hK.1 hP (ci := 3) (q0 := 1) rfl rfl)) rfl rfl hl.1 rfl (lv_room (Nat.le_of_ble_eq_true rfl)) dX2_addNeed_81 ⟨Nat.le_of_ble_eq_true rfl, Nat.le_of_ble_eq_true rfl⟩) hP hD hS hA [1, 2, 3, 4, 5, 6, 7, 8] [0, 9, 10, 11, 12, 13, 14, 15, 16] [0, 9, 10, 11, 12, 13, 14, 15, 16, 1, 2, 3, 4, 5, 6, 7, 8] rfl rfl rfl rfl rfl rfl (fun H locs hP hD hS => ?_)
                have hP : va_P E.1 CL (SW E o sc (ua (ua (ua ar 5 (ui (ar 5) (t - 97) (m_of g (t - 97) 2 + 1))) 6 (ui (ar 6) (3 * (t - 97) + m_of g (t - 97) 2) (n9 - 97))) 7 (ui (ar 7) (3 * (t - 97) + m_of g (t - 97) 2) (b2 z)))) H := hP
                have hD : va_D A (SW E o sc (ua (ua (ua ar 5 (ui (ar 5) (t - 97) (m_of g (t - 97) 2 + 1))) 6 (ui (ar 6) (3 * (t - 97) + m_of g (t - 97) 2) (n9 - 97))) 7 (ui (ar 7) (3 * (t - 97) + m_of g (t - 97) 2) (b2 z)))) := hD
                have hsr9 : SR (s_add g (t - 97) (n9 - 97) z) sc (ua (ua (ua ar 5 (ui (ar 5) (t - 97) (m_of g (t - 97) 2 + 1))) 6 (ui (ar 6) (3 * (t - 97) + m_of g (t - 97) 2) (n9 - 97))) 7 (ui (ar 7) (3 * (t - 97) + m_of g (t - 97) 2) (b2 z))) := SR_add hsr (by omega) (by omega) (by omega)
                have hbr9 := hsr9.br
                have hhn9 : HN (s_add g (t - 97) (n9 - 97) z) := HN_add hhn (by omega) hha
                have htw9 : TW (s_add g (t - 97) (n9 - 97) z) := s_add_tw htw (by omega)
                have hsw9 : SwOK (s_add g (t - 97) (n9 - 97) z) := s_add_sw hsw (by omega)
                have hcc : c_cir (s_add g (t - 97) (n9 - 97) z) z = m_circ (s_add g (t - 97) (n9 - 97) z) := add_circ hrk htw hsw (by omega) (by omega) (by omega)
                refine lv_aload_n hx hb dX2_addNeed_84 rfl (lv_at hl 3 rfl) ?_
                refine va_get (D := E.1) (ci := 2) (v := .ref (o 1)) (C := RX2) (T := TX2) (N := 14) hx hb hts in_X2 hown hK.1 hP 0 rfl rfl 0 (by decide) (hts _ q188) (fun _ h9 => h9) rfl dX2_addNeed_85 ?_
                have hz_19 : s.heap.size ≤ H.size := hS.1
                refine n_txvS (w2 := fun u_20 => SW E o sc (ua (ua (ua ar 5 (ui (ar 5) (t - 97) (m_of g (t - 97) 2 + 1))) 6 (ui (ar 6) (3 * (t - 97) + m_of g (t - 97) 2) (n9 - 97))) 7 (ui (ar 7) (3 * (t - 97) + m_of g (t - 97) 2) (b2 z)))) (w3 := fun u_21 => SW E o sc (ua (ua (ua ar 5 (ui (ar 5) (t - 97) (m_of g (t - 97) 2 + 1))) 6 (ui (ar 6) (3 * (t - 97) + m_of g (t - 97) 2) (n9 - 97))) 7 (ui (ar 7) (3 * (t - 97) + m_of g (t - 97) 2) (b2 z)))) (vx_runV (As := []) (rest := []) ⟨hx, hb, hml, hown, hts⟩ (mt_X3_refuseCircle l E o sc (ua (ua (ua ar 5 (ui (ar 5) (t - 97) (m_of g (t - 97) 2 + 1))) 6 (ui (ar 6) (3 * (t - 97) + m_of g (t - 97) 2) (n9 - 97))) 7 (ui (ar 7) (3 * (t - 97) + m_of g (t - 97) 2) (b2 z)))  (s_add g (t - 97) (n9 - 97) z) (by exact hst) (by exact hbr9) (by exact hhn9) (by exact htw9) (by exact hsw9) _) (cwV 0 hts (lw_V q1015 q1016 q1017 q96 q1018) rfl rfl rfl (by decide +kernel) ⟨Nat.le_of_ble_eq_true rfl, Nat.le_of_ble_eq_true rfl⟩) (UX_V (hP.sub (ws' := BW E o sc (ua (ua (ua ar 5 (ui (ar 5) (t - 97) (m_of g (t - 97) 2 + 1))) 6 (ui (ar 6) (3 * (t - 97) + m_of g (t - 97) 2) (n9 - 97))) 7 (ui (ar 7) (3 * (t - 97) + m_of g (t - 97) 2) (b2 z)))) [1, 2, 3, 4, 5, 6, 7, 8] rfl) hK (hD.sub (ws' := BW E o sc (ua (ua (ua ar 5 (ui (ar 5) (t - 97) (m_of g (t - 97) 2 + 1))) 6 (ui (ar 6) (3 * (t - 97) + m_of g (t - 97) 2) (n9 - 97))) 7 (ui (ar 7) (3 * (t - 97) + m_of g (t - 97) 2) (b2 z)))) [1, 2, 3, 4, 5, 6, 7, 8] rfl rfl) hE hS (va_sub_free hD hS hA [1, 2, 3, 4, 5, 6, 7, 8] rfl) (va_recv hK.1 hP (ci := 3) (q0 := 1) rfl rfl)) rfl rfl hl.1 rfl (lv_room (Nat.le_of_ble_eq_true rfl)) dX2_addNeed_88 ⟨Nat.le_of_ble_eq_true rfl, Nat.le_of_ble_eq_true rfl⟩) hP hD hS hA [1, 2, 3, 4, 5, 6, 7, 8] [0, 9, 10, 11, 12, 13, 14, 15, 16] [0, 9, 10, 11, 12, 13, 14, 15, 16, 1, 2, 3, 4, 5, 6, 7, 8] [0, 9, 10, 11, 12, 13, 14, 15, 16, 1, 2, 3, 4, 5, 6, 7, 8] rfl rfl rfl rfl rfl (fun _ => rfl) rfl (fun _ => rfl) ?_ ?_
                · intro En ce q9 u_21 H locs hCx hP hD hS hxf hq9 hce hcv hcl
                  have hCx : En = "ClockworkTailor$Refusal" ∧ 0 < m_circ (s_add g (t - 97) (n9 - 97) z) := hCx
                  have hP : va_P E.1 CL (SW E o sc (ua (ua (ua ar 5 (ui (ar 5) (t - 97) (m_of g (t - 97) 2 + 1))) 6 (ui (ar 6) (3 * (t - 97) + m_of g (t - 97) 2) (n9 - 97))) 7 (ui (ar 7) (3 * (t - 97) + m_of g (t - 97) 2) (b2 z)))) H := hP
                  have hD : va_D A (SW E o sc (ua (ua (ua ar 5 (ui (ar 5) (t - 97) (m_of g (t - 97) 2 + 1))) 6 (ui (ar 6) (3 * (t - 97) + m_of g (t - 97) 2) (n9 - 97))) 7 (ui (ar 7) (3 * (t - 97) + m_of g (t - 97) 2) (b2 z)))) := hD
                  exact n_out (sc, (ua (ua (ua ar 5 (ui (ar 5) (t - 97) (m_of g (t - 97) 2 + 1))) 6 (ui (ar 6) (3 * (t - 97) + m_of g (t - 97) 2) (n9 - 97))) 7 (ui (ar 7) (3 * (t - 97) + m_of g (t - 97) 2) (b2 z))), some (5, [iv 3, iv (m_circ (s_add g (t - 97) (n9 - 97) z)), .null])) (by exact Or.inr ⟨(3, m_circ (s_add g (t - 97) (n9 - 97) z)), by unfold A_add; rw [if_neg (by omega), if_neg (by omega), if_neg (by omega), hcc, if_pos hCx.2], hCx.1, rfl⟩) hP hD hS hxf (Nat.le_trans hz_19 hq9) hce hcv hcl (fun x hx9 => (htb x hx9).elim) hlocks (Nat.le_of_ble_eq_true rfl) (Nat.le_of_ble_eq_true rfl)
                · intro u_20 H locs hC hP hD hS
                  have hu_20 : m_circ (s_add g (t - 97) (n9 - 97) z) = 0 := hC
                  have hP : va_P E.1 CL (SW E o sc (ua (ua (ua ar 5 (ui (ar 5) (t - 97) (m_of g (t - 97) 2 + 1))) 6 (ui (ar 6) (3 * (t - 97) + m_of g (t - 97) 2) (n9 - 97))) 7 (ui (ar 7) (3 * (t - 97) + m_of g (t - 97) 2) (b2 z)))) H := hP
                  have hD : va_D A (SW E o sc (ua (ua (ua ar 5 (ui (ar 5) (t - 97) (m_of g (t - 97) 2 + 1))) 6 (ui (ar 6) (3 * (t - 97) + m_of g (t - 97) 2) (n9 - 97))) 7 (ui (ar 7) (3 * (t - 97) + m_of g (t - 97) 2) (b2 z)))) := hD
                  have hcz : m_circ (s_add g (t - 97) (n9 - 97) z) = 0 := hu_20
                  have hA : A_add g t n9 z = .inr (.inr (m_of g (t - 97) 2, s_add g (t - 97) (n9 - 97) z)) := by unfold A_add; rw [if_neg (by omega), if_neg (by omega), if_neg (by omega), hcc, if_neg (by omega)]
                  have hsr2 := hsr9
                  refine lv_aload_n hx hb dX2_addNeed_91 rfl (lv_at hl 3 rfl) ?_
                  refine va_get (D := E.1) (ci := 2) (v := .ref (o 1)) (C := RX2) (T := TX2) (N := 14) hx hb hts in_X2 hown hK.1 hP 0 rfl rfl 0 (by decide) (hts _ q188) (fun _ h9 => h9) rfl dX2_addNeed_92 ?_
                  refine va_getN (D := E.1) (ci := 3) (v := .ref (o 5)) (C := RX3) (T := TX3) (N := 7) hx hb hts in_X3 hown hK.1 hP 1 rfl rfl 3 (by decide) (hK.nw q164) (fun _ h9 => h9) rfl dX2_addNeed_95 ?_
                  refine lv_iload hx hb dX2_addNeed_98 (lv_at hl 2 rfl) ?_
                  refine n_iald (f := ui (ar 5) (t - 97) (m_of g (t - 97) 2 + 1)) hx hb hK.1 hP 5 0 rfl rfl (by omega) (by decide) dX2_addNeed_100 ?_
                  rw [show (ui (ar 5) (t - 97) (m_of g (t - 97) 2 + 1)) (t - 97) = m_of g (t - 97) 2 + 1 from ui_s]
                  refine lv_iconst (v := iI 1) hx hb dX2_addNeed_101 rfl ?_
                  refine n_isub hx hb dX2_addNeed_102 ?_
                  have hfin : (m_of g (t - 97) 2 + 1) - 1 = rs_val 0 (A_add g t n9 z) := by
                    rw [hA]
                    show m_of g (t - 97) 2 + 1 - 1 = m_of g (t - 97) 2
                    omega
                  refine vx_ret ?_
                  refine W.widen (k := 46) (n := 341) (Nat.le_of_ble_eq_true rfl) (Nat.le_of_ble_eq_true rfl) ?_
                  exact W.iret (v := iI ((m_of g (t - 97) 2 + 1) - 1)) hx hb hr (fun tt_ ht_ hW_ => ⟨⟨iI ((m_of g (t - 97) 2 + 1) - 1), (sc, (ua (ua (ua ar 5 (ui (ar 5) (t - 97) (m_of g (t - 97) 2 + 1))) 6 (ui (ar 6) (3 * (t - 97) + m_of g (t - 97) 2) (n9 - 97))) 7 (ui (ar 7) (3 * (t - 97) + m_of g (t - 97) 2) (b2 z)))), rfl, ⟨⟨⟨_, hA⟩, by rw [hA]; exact hsr2⟩, (congrArg iI hfin)⟩, by rw [ht_]; exact hP, hD⟩, hS.F ht_⟩) hS.2.2 dX2_addNeed_103
            refine lv_aload_n hx hb dX2_addNeed_48 rfl (lv_at hl 3 rfl) ?_
            refine va_get (D := E.1) (ci := 2) (v := .ref (o 1)) (C := RX2) (T := TX2) (N := 14) hx hb hts in_X2 hown hK.1 hP 0 rfl rfl 0 (by decide) (hts _ q188) (fun _ h9 => h9) rfl dX2_addNeed_49 ?_
            refine va_getN (D := E.1) (ci := 3) (v := .ref (o 5)) (C := RX3) (T := TX3) (N := 7) hx hb hts in_X3 hown hK.1 hP 1 rfl rfl 3 (by decide) (hK.nw q164) (fun _ h9 => h9) rfl dX2_addNeed_52 ?_
            refine lv_iload hx hb dX2_addNeed_55 (lv_at hl 2 rfl) ?_
            refine n_iald (f := ar 5) hx hb hK.1 hP 5 0 rfl rfl (by omega) (by decide) dX2_addNeed_57 ?_
            rw [hsr.br.cnt (t := t - 97) (by omega) (by first | assumption | exact HN_pos hhn (t := t - 97) (by omega) (by omega))]
            refine lv_iconst (v := iI 3) hx hb dX2_addNeed_58 rfl ?_
            have b_22 := htw (t - 97) (by omega) (by omega)
            refine n_icmp_ne (tgt := 66) hx hb dX2_addNeed_59 (by decide) (by omega) (by omega) (fun c_23 => ?_) (fun c_23 => ?_)
            · refine lv_iconst (v := iI 0) hx hb dX2_addNeed_66 rfl ?_
              refine n_top (y := b2 (decide (m_of g (t - 97) 2 = 3))) (by first | exact (b2_pos (by assumption)).symm | exact (b2_neg (by assumption)).symm) ?_
              exact j_15
            · refine lv_iconst (v := iI 1) hx hb dX2_addNeed_62 rfl ?_
              refine lv_goto (tgt := 67) hx hb dX2_addNeed_63 (by decide) ?_
              refine n_top (y := b2 (decide (m_of g (t - 97) 2 = 3))) (by first | exact (b2_pos (by assumption)).symm | exact (b2_neg (by assumption)).symm) ?_
              exact j_15
        refine lv_iload hx hb dX2_addNeed_31 (lv_at hl 0 rfl) ?_
        refine lv_iconst (v := iI (-1)) hx hb dX2_addNeed_33 rfl ?_
        have b_24 := m_place_r (g := g) (by assumption) (t := (t - 97)) (n := (n9 - 97)) (by omega)
        refine n_icmp_eq (tgt := 41) hx hb dX2_addNeed_34 (by decide) (by omega) (by omega) (fun c_25 => ?_) (fun c_25 => ?_)
        · refine lv_iconst (v := iI 0) hx hb dX2_addNeed_41 rfl ?_
          refine n_top (y := b2 (!(decide (m_place g (t - 97) (n9 - 97) = -1)))) (by simp [c_25, b2_t, b2]) ?_
          exact j_10
        · refine lv_iconst (v := iI 1) hx hb dX2_addNeed_37 rfl ?_
          refine lv_goto (tgt := 42) hx hb dX2_addNeed_38 (by decide) ?_
          refine n_top (y := b2 (!(decide (m_place g (t - 97) (n9 - 97) = -1)))) (by simp [c_25, b2_t, b2]) ?_
          exact j_10
set_option maxHeartbeats 2000000 in
set_option maxRecDepth 100000 in
theorem mt_X2_replace (l : Launch) (E : EE) (o : Nat → Nat) (sc : Nat → Int) (ar : Nat → Int → Int) (t : Int) (n9 : Int) (g : Int → Int) (hst : l.stackTraces = false) (hsr : SR g sc ar) (ht : 0 ≤ t ∧ t < 65536) (hn : 0 ≤ n9 ∧ n9 < 65536) (htw : TW g) (hsw : SwOK g) (hhn : HN g) (sz : Nat) : vx_Met l yX2_replace (ws_ yX2_replace cX2_replace 6 (some .int)) { frames := 8, cells := 45, slots := 332, locals := 3137 } (va_Pc [.ref (o 0), iv t, iv n9] (UX E (SW E o sc ar) sz)) (UQx E (fun u : SU => (∃ q, A_repl g t n9 = .inr (.inr q)) ∧ SR (rs_g g (A_repl g t n9)) u.1 u.2) (fun u : SU => rs_val 0 (A_repl g t n9)) (fun u : SU => SW E o u.1 u.2) (va_A (SW E o sc ar) sz)) (UXx E (fun (En : String) (u : SUX) => XC1 (nmX "java/lang/IllegalArgumentException" "" "") (A_repl g t n9) En u.2.2) (fun u : SUX => SW E o u.1 u.2.1) (fun u : SUX => u.2.2) (va_A (SW E o sc ar) sz)) 45 332 (va_A (SW E o sc ar) sz) := by
  refine vx_ofW (cc := cX2_replace) (maxL := 6) (ret := (some .int)) (by decide) rfl ?_
  intro p e s m args below meth c s₁ B hml htb hv
  obtain ⟨rfl, hsz, hP, hK, hD0, hE⟩ := hv
  have hx := B.exec
  have hb := B.bytes
  have hr := B.returns
  have hts := atoms_spec (ws := (ws_ yX2_replace cX2_replace 6 (some .int))) B.pre
  have hts : ∀ w ∈ lw_all, w.before _ s = true := fun w h => hts w (List.mem_cons_of_mem _ h)
  have hown : s.vm.findClass RX2 = some m.cls := findClass_of_methodNamed B.named
  have hlocks := B.notSynchronized
  subst hsz
  have hD := hD0.self (sz := s.heap.size)
  generalize hAe : va_A (SW E o sc ar) s.heap.size = A at hD hE ⊢
  have hA : ∀ q : Nat, s.heap.size ≤ q → A q := fun q h => by rw [← hAe]; exact Or.inr h
  have hS : va_S A s.heap s.heap [] := va_S.rf
  have hl := lv_entry ([.ref (o 0), iv t, iv n9]) (n := 6) (Nat.le_of_ble_eq_true rfl)
  rw [lg_entry_eq]
  generalize (lg_sl ([.ref (o 0), iv t, iv n9]) ++ List.replicate (6 - (lg_sl ([.ref (o 0), iv t, iv n9])).length) Slot.unset).toArray = ls at hl ⊢
  have hl : lv_has ls 6 [(0, .ref (o 0)), (1, iv t), (2, iv n9)] := hl
  have hbr := hsr.br
  refine lv_iload_n hx hb dX2_replace_0 rfl (lv_at hl 1 rfl) ?_
  have hz_1 : s.heap.size ≤ s.heap.size := hS.1
  refine n_txS (x := fun u_2 => t - 97) (w2 := fun u_2 => SW E o sc ar) (w3 := fun u_3 => SW E o sc ar) (vx_runSN (As := [iv t]) (rest := []) ⟨hx, hb, hml, hown, hts⟩ (mt_X1_indexOf l E t (by exact hst) (by omega) _) ⟨(va_cnB 1 hts (lw_meth q964) rfl rfl rfl (hK.nv q962) (hts _ q94) (by decide +kernel) ⟨Nat.le_of_ble_eq_true rfl, Nat.le_of_ble_eq_true rfl⟩), hts _ q963, trivial⟩ (UX_S (hP.sub (ws' := []) [] rfl) hK (hD.sub (ws' := []) [] rfl rfl) hE hS (va_sub_free hD hS hA [] rfl)) rfl rfl hl.1 rfl (lv_room (Nat.le_of_ble_eq_true rfl)) dX2_replace_1 ⟨Nat.le_of_ble_eq_true rfl, Nat.le_of_ble_eq_true rfl⟩) hP hD hS hA [] [0, 1, 2, 3, 4, 5, 6, 7, 8, 9, 10, 11, 12, 13, 14, 15, 16] [0, 1, 2, 3, 4, 5, 6, 7, 8, 9, 10, 11, 12, 13, 14, 15, 16] [0, 1, 2, 3, 4, 5, 6, 7, 8, 9, 10, 11, 12, 13, 14, 15, 16] rfl rfl rfl rfl rfl (fun _ => rfl) rfl (fun _ => rfl) ?_ ?_
  · intro En ce q9 u_3 H locs hCx hP hD hS hxf hq9 hce hcv hcl
    have hCx : En = "java/lang/IllegalArgumentException" ∧ ¬ (97 ≤ t ∧ t ≤ 104) := hCx
    have hP : va_P E.1 CL (SW E o sc ar) H := hP
    have hD : va_D A (SW E o sc ar) := hD
    exact n_out (sc, ar, none) (by exact Or.inl ⟨1, by have hz := hCx.2; have hz : c_repl t n9 = 1 := (by unfold c_repl; rw [if_neg (by omega)]); unfold A_repl; rw [if_pos (by omega), hz], hCx.1⟩) hP hD hS hxf (Nat.le_trans hz_1 hq9) hce hcv hcl (fun x hx9 => (htb x hx9).elim) hlocks (Nat.le_of_ble_eq_true rfl) (Nat.le_of_ble_eq_true rfl)
  · intro u_2 H locs hC hP hD hS
    have hu_2 : 97 ≤ t ∧ t ≤ 104 := hC
    have hP : va_P E.1 CL (SW E o sc ar) H := hP
    have hD : va_D A (SW E o sc ar) := hD
    have hti : 97 ≤ t ∧ t ≤ 104 := by assumption
    refine lv_istore_n (lv' := [(3, iv (t - 97)), (0, .ref (o 0)), (1, iv t), (2, iv n9)]) hx hb dX2_replace_4 rfl hl (by decide) rfl (fun ls hl => ?_)
    refine lv_iload_n hx hb dX2_replace_5 rfl (lv_at hl 3 rfl) ?_
    have hz_4 : s.heap.size ≤ H.size := hS.1
    refine n_txS (x := fun u_5 => n9 - 97) (w2 := fun u_5 => SW E o sc ar) (w3 := fun u_6 => SW E o sc ar) (vx_runSN (As := [iv n9]) (rest := []) ⟨hx, hb, hml, hown, hts⟩ (mt_X1_indexOf l E n9 (by exact hst) (by omega) _) ⟨(va_cnB 1 hts (lw_meth q964) rfl rfl rfl (hK.nv q962) (hts _ q94) (by decide +kernel) ⟨Nat.le_of_ble_eq_true rfl, Nat.le_of_ble_eq_true rfl⟩), hts _ q963, trivial⟩ (UX_S (hP.sub (ws' := []) [] rfl) hK (hD.sub (ws' := []) [] rfl rfl) hE hS (va_sub_free hD hS hA [] rfl)) rfl rfl hl.1 rfl (lv_room (Nat.le_of_ble_eq_true rfl)) dX2_replace_6 ⟨Nat.le_of_ble_eq_true rfl, Nat.le_of_ble_eq_true rfl⟩) hP hD hS hA [] [0, 1, 2, 3, 4, 5, 6, 7, 8, 9, 10, 11, 12, 13, 14, 15, 16] [0, 1, 2, 3, 4, 5, 6, 7, 8, 9, 10, 11, 12, 13, 14, 15, 16] [0, 1, 2, 3, 4, 5, 6, 7, 8, 9, 10, 11, 12, 13, 14, 15, 16] rfl rfl rfl rfl rfl (fun _ => rfl) rfl (fun _ => rfl) ?_ ?_
    · intro En ce q9 u_6 H locs hCx hP hD hS hxf hq9 hce hcv hcl
      have hCx : En = "java/lang/IllegalArgumentException" ∧ ¬ (97 ≤ n9 ∧ n9 ≤ 104) := hCx
      have hP : va_P E.1 CL (SW E o sc ar) H := hP
      have hD : va_D A (SW E o sc ar) := hD
      exact n_out (sc, ar, none) (by exact Or.inl ⟨1, by have hz := hCx.2; have hz : c_repl t n9 = 1 := (by unfold c_repl; rw [if_neg (by omega)]); unfold A_repl; rw [if_pos (by omega), hz], hCx.1⟩) hP hD hS hxf (Nat.le_trans hz_4 hq9) hce hcv hcl (fun x hx9 => (htb x hx9).elim) hlocks (Nat.le_of_ble_eq_true rfl) (Nat.le_of_ble_eq_true rfl)
    · intro u_5 H locs hC hP hD hS
      have hu_5 : 97 ≤ n9 ∧ n9 ≤ 104 := hC
      have hP : va_P E.1 CL (SW E o sc ar) H := hP
      have hD : va_D A (SW E o sc ar) := hD
      have hni : 97 ≤ n9 ∧ n9 ≤ 104 := by assumption
      refine lv_istore (lv' := [(4, iv (n9 - 97)), (3, iv (t - 97)), (0, .ref (o 0)), (1, iv t), (2, iv n9)]) hx hb dX2_replace_9 hl (by decide) rfl (fun ls hl => ?_)
      have j_7 : W p l e (headSpec (ws_ yX2_replace cX2_replace 6 (some .int)) { frames := 8, cells := 45, slots := 332, locals := 3137 }).room s m ([.ref (o 0), iv t, iv n9] : List Value).toArray below meth c H locs 2 12 (vx_MQ below (UQx E (fun u : SU => (∃ q, A_repl g t n9 = .inr (.inr q)) ∧ SR (rs_g g (A_repl g t n9)) u.1 u.2) (fun u : SU => rs_val 0 (A_repl g t n9)) (fun u : SU => SW E o u.1 u.2) A) (UXx E (fun (En : String) (u : SUX) => XC1 (nmX "java/lang/IllegalArgumentException" "" "") (A_repl g t n9) En u.2.2) (fun u : SUX => SW E o u.1 u.2.1) (fun u : SUX => u.2.2) A) ([.ref (o 0), iv t, iv n9] : List Value).toArray s 45 332 A) (F0 m 22 ls [iv (b2 (!(decide (t - 97 = n9 - 97))))]) := by
        have hz_8 : s.heap.size ≤ H.size := hS.1
        refine n_txvS (w2 := fun u_9 => SW E o sc ar) (w3 := fun u_10 => SW E o sc ar) (vx_runSN (As := [iv (b2 (!(decide (t - 97 = n9 - 97))))]) (rest := []) ⟨hx, hb, hml, hown, hts⟩ (mt_X1_checkArgument l E (!(decide (t - 97 = n9 - 97))) (by exact hst) _) ⟨(va_cnB 1 hts (lw_meth q891) rfl rfl rfl (hK.nv q889) (hts _ q94) (by decide +kernel) ⟨Nat.le_of_ble_eq_true rfl, Nat.le_of_ble_eq_true rfl⟩), hts _ q890, trivial⟩ (UX_S (hP.sub (ws' := []) [] rfl) hK (hD.sub (ws' := []) [] rfl rfl) hE hS (va_sub_free hD hS hA [] rfl)) rfl rfl hl.1 rfl (lv_room (Nat.le_of_ble_eq_true rfl)) dX2_replace_22 ⟨Nat.le_of_ble_eq_true rfl, Nat.le_of_ble_eq_true rfl⟩) hP hD hS hA [] [0, 1, 2, 3, 4, 5, 6, 7, 8, 9, 10, 11, 12, 13, 14, 15, 16] [0, 1, 2, 3, 4, 5, 6, 7, 8, 9, 10, 11, 12, 13, 14, 15, 16] [0, 1, 2, 3, 4, 5, 6, 7, 8, 9, 10, 11, 12, 13, 14, 15, 16] rfl rfl rfl rfl rfl (fun _ => rfl) rfl (fun _ => rfl) ?_ ?_
        · intro En ce q9 u_10 H locs hCx hP hD hS hxf hq9 hce hcv hcl
          have hCx : En = "java/lang/IllegalArgumentException" ∧ (!(decide (t - 97 = n9 - 97))) = false := hCx
          have hP : va_P E.1 CL (SW E o sc ar) H := hP
          have hD : va_D A (SW E o sc ar) := hD
          exact n_out (sc, ar, none) (by exact Or.inl ⟨1, by have hz : t - 97 = n9 - 97 := (by have q9 := hCx.2; simpa using q9); have hz : c_repl t n9 = 1 := (by unfold c_repl; rw [if_neg (by omega)]); unfold A_repl; rw [if_pos (by omega), hz], hCx.1⟩) hP hD hS hxf (Nat.le_trans hz_8 hq9) hce hcv hcl (fun x hx9 => (htb x hx9).elim) hlocks (Nat.le_of_ble_eq_true rfl) (Nat.le_of_ble_eq_true rfl)
        · intro u_9 H locs hC hP hD hS
          have hu_9 : (!(decide (t - 97 = n9 - 97))) = true := hC
          have hP : va_P E.1 CL (SW E o sc ar) H := hP
          have hD : va_D A (SW E o sc ar) := hD
          have hne : ¬ t - 97 = n9 - 97 := by have q9 := hu_9; simpa using q9
          have hz0 : c_repl t n9 = 0 := by unfold c_repl; rw [if_pos (by omega)]
          refine lv_aload_n hx hb dX2_replace_25 rfl (lv_at hl 2 rfl) ?_
          refine va_get (D := E.1) (ci := 2) (v := .ref (o 1)) (C := RX2) (T := TX2) (N := 14) hx hb hts in_X2 hown hK.1 hP 0 rfl rfl 0 (by decide) (hts _ q188) (fun _ h9 => h9) rfl dX2_replace_26 ?_
          refine lv_iload_n hx hb dX2_replace_29 rfl (lv_at hl 1 rfl) ?_
          refine lv_iload hx hb dX2_replace_30 (lv_at hl 0 rfl) ?_
          refine n_csi (x := m_chain g (n9 - 97) (t - 97)) (va_runV (As := [iv (t - 97), iv (n9 - 97)]) (rest := []) ⟨hx, hb, hml, hown, hts⟩ (mt_X3_swapCircle l E o sc ar (t - 97) (n9 - 97) g (by omega) (by omega) (by assumption) (by assumption)) (cwV 2 hts (lw_V q1150 q1151 q1152 q96 q1153) rfl rfl rfl (by decide +kernel) ⟨Nat.le_of_ble_eq_true rfl, Nat.le_of_ble_eq_true rfl⟩) (PW_V (hP.sub (ws' := BW E o sc ar) [1, 2, 3, 4, 5, 6, 7, 8] rfl) hK (va_recv hK.1 hP (ci := 3) (q0 := 1) rfl rfl)) rfl rfl hl.1 rfl (lv_room (Nat.le_of_ble_eq_true rfl)) dX2_replace_32 ⟨Nat.le_of_ble_eq_true rfl, Nat.le_of_ble_eq_true rfl⟩) ?_
          refine lv_istore (lv' := [(5, iv (m_chain g (n9 - 97) (t - 97))), (4, iv (n9 - 97)), (3, iv (t - 97)), (0, .ref (o 0)), (1, iv t), (2, iv n9)]) hx hb dX2_replace_35 hl (by decide) rfl (fun ls hl => ?_)
          have j_11 : W p l e (headSpec (ws_ yX2_replace cX2_replace 6 (some .int)) { frames := 8, cells := 45, slots := 332, locals := 3137 }).room s m ([.ref (o 0), iv t, iv n9] : List Value).toArray below meth c H locs 3 18 (vx_MQ below (UQx E (fun u : SU => (∃ q, A_repl g t n9 = .inr (.inr q)) ∧ SR (rs_g g (A_repl g t n9)) u.1 u.2) (fun u : SU => rs_val 0 (A_repl g t n9)) (fun u : SU => SW E o u.1 u.2) A) (UXx E (fun (En : String) (u : SUX) => XC1 (nmX "java/lang/IllegalArgumentException" "" "") (A_repl g t n9) En u.2.2) (fun u : SUX => SW E o u.1 u.2.1) (fun u : SUX => u.2.2) A) ([.ref (o 0), iv t, iv n9] : List Value).toArray s 45 332 A) (F0 m 47 ls [iv (b2 (decide (0 < m_chain g (n9 - 97) (t - 97))))]) := by
            refine lv_iconst (v := iI 4) hx hb dX2_replace_47 rfl ?_
            refine lv_iload hx hb dX2_replace_48 (lv_at hl 0 rfl) ?_
            have b_12 := chain_8 hsw (b := n9 - 97) (t := t - 97) (by omega)
            have hz_13 : s.heap.size ≤ H.size := hS.1
            refine n_txvS (w2 := fun u_14 => SW E o sc ar) (w3 := fun u_15 => SW E o sc ar) (vx_runSN (As := [iv (b2 (decide (0 < m_chain g (n9 - 97) (t - 97)))), iv 4, iv (m_chain g (n9 - 97) (t - 97))]) (rest := []) ⟨hx, hb, hml, hown, hts⟩ (mt_X1_refuseIf l E (decide (0 < m_chain g (n9 - 97) (t - 97))) 4 (m_chain g (n9 - 97) (t - 97)) (by exact hst) _) ⟨(va_cnB 3 hts (lw_meth q814) rfl rfl rfl (hK.nv q812) (hts _ q94) (by decide +kernel) ⟨Nat.le_of_ble_eq_true rfl, Nat.le_of_ble_eq_true rfl⟩), hts _ q813, trivial⟩ (UX_S (hP.sub (ws' := []) [] rfl) hK (hD.sub (ws' := []) [] rfl rfl) hE hS (va_sub_free hD hS hA [] rfl)) rfl rfl hl.1 rfl (lv_room (Nat.le_of_ble_eq_true rfl)) dX2_replace_50 ⟨Nat.le_of_ble_eq_true rfl, Nat.le_of_ble_eq_true rfl⟩) hP hD hS hA [] [0, 1, 2, 3, 4, 5, 6, 7, 8, 9, 10, 11, 12, 13, 14, 15, 16] [0, 1, 2, 3, 4, 5, 6, 7, 8, 9, 10, 11, 12, 13, 14, 15, 16] [0, 1, 2, 3, 4, 5, 6, 7, 8, 9, 10, 11, 12, 13, 14, 15, 16] rfl rfl rfl rfl rfl (fun _ => rfl) rfl (fun _ => rfl) ?_ ?_
            · intro En ce q9 u_15 H locs hCx hP hD hS hxf hq9 hce hcv hcl
              have hCx : En = "ClockworkTailor$Refusal" ∧ (decide (0 < m_chain g (n9 - 97) (t - 97))) = true := hCx
              have hP : va_P E.1 CL (SW E o sc ar) H := hP
              have hD : va_D A (SW E o sc ar) := hD
              exact n_out (sc, ar, some (5, [iv 4, iv (m_chain g (n9 - 97) (t - 97)), .null])) (by exact Or.inr ⟨(4, m_chain g (n9 - 97) (t - 97)), by unfold A_repl; rw [if_neg (by omega), if_pos (of_decide_eq_true hCx.2)], hCx.1, rfl⟩) hP hD hS hxf (Nat.le_trans hz_13 hq9) hce hcv hcl (fun x hx9 => (htb x hx9).elim) hlocks (Nat.le_of_ble_eq_true rfl) (Nat.le_of_ble_eq_true rfl)
            · intro u_14 H locs hC hP hD hS
              have hu_14 : (decide (0 < m_chain g (n9 - 97) (t - 97))) = false := hC
              have hP : va_P E.1 CL (SW E o sc ar) H := hP
              have hD : va_D A (SW E o sc ar) := hD
              have hnc : ¬ 0 < m_chain g (n9 - 97) (t - 97) := of_decide_eq_false hu_14
              refine lv_aload_n hx hb dX2_replace_53 rfl (lv_at hl 3 rfl) ?_
              refine va_get (D := E.1) (ci := 2) (v := .ref (o 1)) (C := RX2) (T := TX2) (N := 14) hx hb hts in_X2 hown hK.1 hP 0 rfl rfl 0 (by decide) (hts _ q188) (fun _ h9 => h9) rfl dX2_replace_54 ?_
              refine va_getN (D := E.1) (ci := 3) (v := .ref (o 8)) (C := RX3) (T := TX3) (N := 7) hx hb hts in_X3 hown hK.1 hP 1 rfl rfl 6 (by decide) (hK.nw q169) (fun _ h9 => h9) rfl dX2_replace_57 ?_
              refine lv_iload_n hx hb dX2_replace_60 rfl (lv_at hl 2 rfl) ?_
              refine lv_iload hx hb dX2_replace_61 (lv_at hl 1 rfl) ?_
              refine n_iast (f := ar 8) hx hb hK.1 hP hD hS 8 0 rfl rfl (by omega) (by decide) dX2_replace_63 (ws2 := SW E o sc (ua ar 8 (ui (ar 8) (t - 97) (n9 - 97)))) rfl (fun H locs hP hD hS => ?_)
              have hsr9 : SR (m_set g (t - 97) 6 (n9 - 97 + 1)) sc (ua ar 8 (ui (ar 8) (t - 97) (n9 - 97))) := SR_sw hsr (by omega)
              have hbr9 := hsr9.br
              have hhn9 : HN (m_set g (t - 97) 6 (n9 - 97 + 1)) := HN_sw hhn
              have htw9 : TW (m_set g (t - 97) 6 (n9 - 97 + 1)) := TW_sw htw
              have hcr9 : 0 ≤ m_chain g (n9 - 97) (t - 97) := chN_r g _ _ _
              have hsw9 : SwOK (m_set g (t - 97) 6 (n9 - 97 + 1)) := swap_ok hsw (by omega) (by omega) (by omega)
              refine lv_aload_n hx hb dX2_replace_64 rfl (lv_at hl 3 rfl) ?_
              refine va_get (D := E.1) (ci := 2) (v := .ref (o 1)) (C := RX2) (T := TX2) (N := 14) hx hb hts in_X2 hown hK.1 hP 0 rfl rfl 0 (by decide) (hts _ q188) (fun _ h9 => h9) rfl dX2_replace_65 ?_
              have hz_16 : s.heap.size ≤ H.size := hS.1
              refine n_txvS (w2 := fun u_17 => SW E o sc (ua ar 8 (ui (ar 8) (t - 97) (n9 - 97)))) (w3 := fun u_18 => SW E o sc (ua ar 8 (ui (ar 8) (t - 97) (n9 - 97)))) (vx_runV (As := []) (rest := []) ⟨hx, hb, hml, hown, hts⟩ (mt_X3_refuseCircle l E o sc (ua ar 8 (ui (ar 8) (t - 97) (n9 - 97)))  (m_set g (t - 97) 6 (n9 - 97 + 1)) (by exact hst) (by exact hbr9) (by exact hhn9) (by exact htw9) (by exact hsw9) _) (cwV 0 hts (lw_V q1015 q1016 q1017 q96 q1018) rfl rfl rfl (by decide +kernel) ⟨Nat.le_of_ble_eq_true rfl, Nat.le_of_ble_eq_true rfl⟩) (UX_V (hP.sub (ws' := BW E o sc (ua ar 8 (ui (ar 8) (t - 97) (n9 - 97)))) [1, 2, 3, 4, 5, 6, 7, 8] rfl) hK (hD.sub (ws' := BW E o sc (ua ar 8 (ui (ar 8) (t - 97) (n9 - 97)))) [1, 2, 3, 4, 5, 6, 7, 8] rfl rfl) hE hS (va_sub_free hD hS hA [1, 2, 3, 4, 5, 6, 7, 8] rfl) (va_recv hK.1 hP (ci := 3) (q0 := 1) rfl rfl)) rfl rfl hl.1 rfl (lv_room (Nat.le_of_ble_eq_true rfl)) dX2_replace_68 ⟨Nat.le_of_ble_eq_true rfl, Nat.le_of_ble_eq_true rfl⟩) hP hD hS hA [1, 2, 3, 4, 5, 6, 7, 8] [0, 9, 10, 11, 12, 13, 14, 15, 16] [0, 9, 10, 11, 12, 13, 14, 15, 16, 1, 2, 3, 4, 5, 6, 7, 8] [0, 9, 10, 11, 12, 13, 14, 15, 16, 1, 2, 3, 4, 5, 6, 7, 8] rfl rfl rfl rfl rfl (fun _ => rfl) rfl (fun _ => rfl) ?_ ?_
              · intro En ce q9 u_18 H locs hCx hP hD hS hxf hq9 hce hcv hcl
                have hCx : En = "ClockworkTailor$Refusal" ∧ 0 < m_circ (m_set g (t - 97) 6 (n9 - 97 + 1)) := hCx
                have hP : va_P E.1 CL (SW E o sc (ua ar 8 (ui (ar 8) (t - 97) (n9 - 97)))) H := hP
                have hD : va_D A (SW E o sc (ua ar 8 (ui (ar 8) (t - 97) (n9 - 97)))) := hD
                exact n_out (sc, (ua ar 8 (ui (ar 8) (t - 97) (n9 - 97))), some (5, [iv 3, iv (m_circ (m_set g (t - 97) 6 (n9 - 97 + 1))), .null])) (by exact Or.inr ⟨(3, m_circ (m_set g (t - 97) 6 (n9 - 97 + 1))), by unfold A_repl; rw [if_neg (by omega), if_neg (by omega), if_pos hCx.2], hCx.1, rfl⟩) hP hD hS hxf (Nat.le_trans hz_16 hq9) hce hcv hcl (fun x hx9 => (htb x hx9).elim) hlocks (Nat.le_of_ble_eq_true rfl) (Nat.le_of_ble_eq_true rfl)
              · intro u_17 H locs hC hP hD hS
                have hu_17 : m_circ (m_set g (t - 97) 6 (n9 - 97 + 1)) = 0 := hC
                have hP : va_P E.1 CL (SW E o sc (ua ar 8 (ui (ar 8) (t - 97) (n9 - 97)))) H := hP
                have hD : va_D A (SW E o sc (ua ar 8 (ui (ar 8) (t - 97) (n9 - 97)))) := hD
                have hcz : m_circ (m_set g (t - 97) 6 (n9 - 97 + 1)) = 0 := hu_17
                have hA : A_repl g t n9 = .inr (.inr (m_swaps (m_set g (t - 97) 6 (n9 - 97 + 1)), m_set g (t - 97) 6 (n9 - 97 + 1))) := by unfold A_repl; rw [if_neg (by omega), if_neg (by omega), if_neg (by omega)]
                have hsr2 := hsr9
                refine lv_aload_n hx hb dX2_replace_71 rfl (lv_at hl 3 rfl) ?_
                refine va_get (D := E.1) (ci := 2) (v := .ref (o 1)) (C := RX2) (T := TX2) (N := 14) hx hb hts in_X2 hown hK.1 hP 0 rfl rfl 0 (by decide) (hts _ q188) (fun _ h9 => h9) rfl dX2_replace_72 ?_
                refine n_csi (x := m_swaps (m_set g (t - 97) 6 (n9 - 97 + 1))) (va_runV (As := []) (rest := []) ⟨hx, hb, hml, hown, hts⟩ (mt_X3_countReplaced l E o sc (ua ar 8 (ui (ar 8) (t - 97) (n9 - 97)))  (m_set g (t - 97) 6 (n9 - 97 + 1)) (by exact hbr9) (by exact hsw9)) (cwV 0 hts (lw_V q1154 q1155 q1156 q96 q1157) rfl rfl rfl (by decide +kernel) ⟨Nat.le_of_ble_eq_true rfl, Nat.le_of_ble_eq_true rfl⟩) (PW_V (hP.sub (ws' := BW E o sc (ua ar 8 (ui (ar 8) (t - 97) (n9 - 97)))) [1, 2, 3, 4, 5, 6, 7, 8] rfl) hK (va_recv hK.1 hP (ci := 3) (q0 := 1) rfl rfl)) rfl rfl hl.1 rfl (lv_room (Nat.le_of_ble_eq_true rfl)) dX2_replace_75 ⟨Nat.le_of_ble_eq_true rfl, Nat.le_of_ble_eq_true rfl⟩) ?_
                have hfin : m_swaps (m_set g (t - 97) 6 (n9 - 97 + 1)) = rs_val 0 (A_repl g t n9) := by
                  rw [hA]
                  rfl
                refine vx_ret ?_
                refine W.widen (k := 45) (n := 332) (Nat.le_of_ble_eq_true rfl) (Nat.le_of_ble_eq_true rfl) ?_
                exact W.iret (v := iI (m_swaps (m_set g (t - 97) 6 (n9 - 97 + 1)))) hx hb hr (fun tt_ ht_ hW_ => ⟨⟨iI (m_swaps (m_set g (t - 97) 6 (n9 - 97 + 1))), (sc, (ua ar 8 (ui (ar 8) (t - 97) (n9 - 97)))), rfl, ⟨⟨⟨_, hA⟩, by rw [hA]; exact hsr2⟩, (congrArg iI hfin)⟩, by rw [ht_]; exact hP, hD⟩, hS.F ht_⟩) hS.2.2 dX2_replace_78
          refine lv_iload hx hb dX2_replace_37 (lv_at hl 0 rfl) ?_
          have b_19 := chain_8 hsw (b := n9 - 97) (t := t - 97) (by omega)
          refine n_if_le (tgt := 46) hx hb dX2_replace_39 (by decide) (by omega) (fun c_20 => ?_) (fun c_20 => ?_)
          · refine lv_iconst (v := iI 0) hx hb dX2_replace_46 rfl ?_
            refine n_top (y := b2 (decide (0 < m_chain g (n9 - 97) (t - 97)))) (by first | exact (b2_pos (by assumption)).symm | exact (b2_neg (by omega)).symm) ?_
            exact j_11
          · refine lv_iconst (v := iI 1) hx hb dX2_replace_42 rfl ?_
            refine lv_goto (tgt := 47) hx hb dX2_replace_43 (by decide) ?_
            refine n_top (y := b2 (decide (0 < m_chain g (n9 - 97) (t - 97)))) (by first | exact (b2_pos (by assumption)).symm | exact (b2_neg (by omega)).symm) ?_
            exact j_11
      refine lv_iload_n hx hb dX2_replace_11 rfl (lv_at hl 1 rfl) ?_
      refine lv_iload hx hb dX2_replace_12 (lv_at hl 0 rfl) ?_
      refine n_icmp_eq (tgt := 21) hx hb dX2_replace_14 (by decide) (by omega) (by omega) (fun c_21 => ?_) (fun c_21 => ?_)
      · refine lv_iconst (v := iI 0) hx hb dX2_replace_21 rfl ?_
        refine n_top (y := b2 (!(decide (t - 97 = n9 - 97)))) (by simp [c_21, b2_t, b2]) ?_
        exact j_7
      · refine lv_iconst (v := iI 1) hx hb dX2_replace_17 rfl ?_
        refine lv_goto (tgt := 22) hx hb dX2_replace_18 (by decide) ?_
        refine n_top (y := b2 (!(decide (t - 97 = n9 - 97)))) (by simp [c_21, b2_t, b2]) ?_
        exact j_7
set_option maxHeartbeats 2000000 in
set_option maxRecDepth 100000 in
theorem mt_X2_putBack (l : Launch) (E : EE) (o : Nat → Nat) (sc : Nat → Int) (ar : Nat → Int → Int) (t : Int) (g : Int → Int) (hst : l.stackTraces = false) (hsr : SR g sc ar) (ht : 0 ≤ t ∧ t < 65536) (htw : TW g) (hsw : SwOK g) (hhn : HN g) (sz : Nat) : vx_Met l yX2_putBack (ws_ yX2_putBack cX2_putBack 4 (some .char)) { frames := 8, cells := 43, slots := 317, locals := 3137 } (va_Pc [.ref (o 0), iv t] (UX E (SW E o sc ar) sz)) (UQx E (fun u : SU => (∃ q, A_back g t = .inr (.inr q)) ∧ SR (rs_g g (A_back g t)) u.1 u.2) (fun u : SU => rs_val 0 (A_back g t)) (fun u : SU => SW E o u.1 u.2) (va_A (SW E o sc ar) sz)) (UXx E (fun (En : String) (u : SUX) => XC1 (nmX "java/lang/IllegalArgumentException" "java/util/NoSuchElementException" "") (A_back g t) En u.2.2) (fun u : SUX => SW E o u.1 u.2.1) (fun u : SUX => u.2.2) (va_A (SW E o sc ar) sz)) 43 317 (va_A (SW E o sc ar) sz) := by
  refine vx_ofW (cc := cX2_putBack) (maxL := 4) (ret := (some .char)) (by decide) rfl ?_
  intro p e s m args below meth c s₁ B hml htb hv
  obtain ⟨rfl, hsz, hP, hK, hD0, hE⟩ := hv
  have hx := B.exec
  have hb := B.bytes
  have hr := B.returns
  have hts := atoms_spec (ws := (ws_ yX2_putBack cX2_putBack 4 (some .char))) B.pre
  have hts : ∀ w ∈ lw_all, w.before _ s = true := fun w h => hts w (List.mem_cons_of_mem _ h)
  have hown : s.vm.findClass RX2 = some m.cls := findClass_of_methodNamed B.named
  have hlocks := B.notSynchronized
  subst hsz
  have hD := hD0.self (sz := s.heap.size)
  generalize hAe : va_A (SW E o sc ar) s.heap.size = A at hD hE ⊢
  have hA : ∀ q : Nat, s.heap.size ≤ q → A q := fun q h => by rw [← hAe]; exact Or.inr h
  have hS : va_S A s.heap s.heap [] := va_S.rf
  have hl := lv_entry ([.ref (o 0), iv t]) (n := 4) (Nat.le_of_ble_eq_true rfl)
  rw [lg_entry_eq]
  generalize (lg_sl ([.ref (o 0), iv t]) ++ List.replicate (4 - (lg_sl ([.ref (o 0), iv t])).length) Slot.unset).toArray = ls at hl ⊢
  have hl : lv_has ls 4 [(0, .ref (o 0)), (1, iv t)] := hl
  have hbr := hsr.br
  refine lv_iload_n hx hb dX2_putBack_0 rfl (lv_at hl 1 rfl) ?_
  have hz_1 : s.heap.size ≤ s.heap.size := hS.1
  refine n_txS (x := fun u_2 => t - 97) (w2 := fun u_2 => SW E o sc ar) (w3 := fun u_3 => SW E o sc ar) (vx_runSN (As := [iv t]) (rest := []) ⟨hx, hb, hml, hown, hts⟩ (mt_X1_indexOf l E t (by exact hst) (by omega) _) ⟨(va_cnB 1 hts (lw_meth q964) rfl rfl rfl (hK.nv q962) (hts _ q94) (by decide +kernel) ⟨Nat.le_of_ble_eq_true rfl, Nat.le_of_ble_eq_true rfl⟩), hts _ q963, trivial⟩ (UX_S (hP.sub (ws' := []) [] rfl) hK (hD.sub (ws' := []) [] rfl rfl) hE hS (va_sub_free hD hS hA [] rfl)) rfl rfl hl.1 rfl (lv_room (Nat.le_of_ble_eq_true rfl)) dX2_putBack_1 ⟨Nat.le_of_ble_eq_true rfl, Nat.le_of_ble_eq_true rfl⟩) hP hD hS hA [] [0, 1, 2, 3, 4, 5, 6, 7, 8, 9, 10, 11, 12, 13, 14, 15, 16] [0, 1, 2, 3, 4, 5, 6, 7, 8, 9, 10, 11, 12, 13, 14, 15, 16] [0, 1, 2, 3, 4, 5, 6, 7, 8, 9, 10, 11, 12, 13, 14, 15, 16] rfl rfl rfl rfl rfl (fun _ => rfl) rfl (fun _ => rfl) ?_ ?_
  · intro En ce q9 u_3 H locs hCx hP hD hS hxf hq9 hce hcv hcl
    have hCx : En = "java/lang/IllegalArgumentException" ∧ ¬ (97 ≤ t ∧ t ≤ 104) := hCx
    have hP : va_P E.1 CL (SW E o sc ar) H := hP
    have hD : va_D A (SW E o sc ar) := hD
    exact n_out (sc, ar, none) (by exact Or.inl ⟨1, by have hz := hCx.2; have hz : c_back g t = 1 := (by unfold c_back; rw [if_neg (by omega)]); unfold A_back; rw [if_pos (by omega), hz], hCx.1⟩) hP hD hS hxf (Nat.le_trans hz_1 hq9) hce hcv hcl (fun x hx9 => (htb x hx9).elim) hlocks (Nat.le_of_ble_eq_true rfl) (Nat.le_of_ble_eq_true rfl)
  · intro u_2 H locs hC hP hD hS
    have hu_2 : 97 ≤ t ∧ t ≤ 104 := hC
    have hP : va_P E.1 CL (SW E o sc ar) H := hP
    have hD : va_D A (SW E o sc ar) := hD
    have hti : 97 ≤ t ∧ t ≤ 104 := by assumption
    refine lv_istore_n (lv' := [(2, iv (t - 97)), (0, .ref (o 0)), (1, iv t)]) hx hb dX2_putBack_4 rfl hl (by decide) rfl (fun ls hl => ?_)
    refine lv_aload_n hx hb dX2_putBack_5 rfl (lv_at hl 1 rfl) ?_
    refine va_get (D := E.1) (ci := 2) (v := .ref (o 1)) (C := RX2) (T := TX2) (N := 14) hx hb hts in_X2 hown hK.1 hP 0 rfl rfl 0 (by decide) (hts _ q188) (fun _ h9 => h9) rfl dX2_putBack_6 ?_
    refine va_getN (D := E.1) (ci := 3) (v := .ref (o 8)) (C := RX3) (T := TX3) (N := 7) hx hb hts in_X3 hown hK.1 hP 1 rfl rfl 6 (by decide) (hK.nw q169) (fun _ h9 => h9) rfl dX2_putBack_9 ?_
    refine lv_iload_n hx hb dX2_putBack_12 rfl (lv_at hl 0 rfl) ?_
    refine n_iald (f := ar 8) hx hb hK.1 hP 8 0 rfl rfl (by omega) (by decide) dX2_putBack_13 ?_
    rw [hsr.br.rep (t := t - 97) (by omega)]
    have b_4 := hsw (t - 97) (by omega) (by omega)
    have hz_5 : s.heap.size ≤ H.size := hS.1
    refine n_txS (x := fun u_6 => m_of g (t - 97) 6 - 1) (w2 := fun u_6 => SW E o sc ar) (w3 := fun u_7 => SW E o sc ar) (vx_runSN (As := [iv (m_of g (t - 97) 6 - 1)]) (rest := []) ⟨hx, hb, hml, hown, hts⟩ (mt_X1_found l E (m_of g (t - 97) 6 - 1) (by exact hst) (by omega) _) ⟨(va_cnB 1 hts (lw_meth q1039) rfl rfl rfl (hK.nv q1037) (hts _ q94) (by decide +kernel) ⟨Nat.le_of_ble_eq_true rfl, Nat.le_of_ble_eq_true rfl⟩), hts _ q1038, trivial⟩ (UX_S (hP.sub (ws' := []) [] rfl) hK (hD.sub (ws' := []) [] rfl rfl) hE hS (va_sub_free hD hS hA [] rfl)) rfl rfl hl.1 rfl (lv_room (Nat.le_of_ble_eq_true rfl)) dX2_putBack_14 ⟨Nat.le_of_ble_eq_true rfl, Nat.le_of_ble_eq_true rfl⟩) hP hD hS hA [] [0, 1, 2, 3, 4, 5, 6, 7, 8, 9, 10, 11, 12, 13, 14, 15, 16] [0, 1, 2, 3, 4, 5, 6, 7, 8, 9, 10, 11, 12, 13, 14, 15, 16] [0, 1, 2, 3, 4, 5, 6, 7, 8, 9, 10, 11, 12, 13, 14, 15, 16] rfl rfl rfl rfl rfl (fun _ => rfl) rfl (fun _ => rfl) ?_ ?_
    · intro En ce q9 u_7 H locs hCx hP hD hS hxf hq9 hce hcv hcl
      have hCx : En = "java/util/NoSuchElementException" ∧ (m_of g (t - 97) 6 - 1) = -1 := hCx
      have hP : va_P E.1 CL (SW E o sc ar) H := hP
      have hD : va_D A (SW E o sc ar) := hD
      exact n_out (sc, ar, none) (by exact Or.inl ⟨2, by have hz := hCx.2; have hz : c_back g t = 2 := (by unfold c_back; rw [if_pos hti, if_pos (by omega)]); unfold A_back; rw [if_pos (by omega), hz], hCx.1⟩) hP hD hS hxf (Nat.le_trans hz_5 hq9) hce hcv hcl (fun x hx9 => (htb x hx9).elim) hlocks (Nat.le_of_ble_eq_true rfl) (Nat.le_of_ble_eq_true rfl)
    · intro u_6 H locs hC hP hD hS
      have hu_6 : ¬ (m_of g (t - 97) 6 - 1) = -1 := hC
      have hP : va_P E.1 CL (SW E o sc ar) H := hP
      have hD : va_D A (SW E o sc ar) := hD
      have hne : ¬ m_of g (t - 97) 6 - 1 = -1 := hu_6
      have hz0 : c_back g t = 0 := by unfold c_back; rw [if_pos hti, if_neg (by omega)]
      refine lv_istore_n (lv' := [(3, iv (m_of g (t - 97) 6 - 1)), (2, iv (t - 97)), (0, .ref (o 0)), (1, iv t)]) hx hb dX2_putBack_17 rfl hl (by decide) rfl (fun ls hl => ?_)
      refine lv_aload_n hx hb dX2_putBack_18 rfl (lv_at hl 2 rfl) ?_
      refine va_get (D := E.1) (ci := 2) (v := .ref (o 1)) (C := RX2) (T := TX2) (N := 14) hx hb hts in_X2 hown hK.1 hP 0 rfl rfl 0 (by decide) (hts _ q188) (fun _ h9 => h9) rfl dX2_putBack_19 ?_
      refine va_getN (D := E.1) (ci := 3) (v := .ref (o 8)) (C := RX3) (T := TX3) (N := 7) hx hb hts in_X3 hown hK.1 hP 1 rfl rfl 6 (by decide) (hK.nw q169) (fun _ h9 => h9) rfl dX2_putBack_22 ?_
      refine lv_iload_n hx hb dX2_putBack_25 rfl (lv_at hl 1 rfl) ?_
      refine lv_iconst (v := iI (-1)) hx hb dX2_putBack_26 rfl ?_
      refine n_iast (f := ar 8) hx hb hK.1 hP hD hS 8 0 rfl rfl (by omega) (by decide) dX2_putBack_27 (ws2 := SW E o sc (ua ar 8 (ui (ar 8) (t - 97) (-1)))) rfl (fun H locs hP hD hS => ?_)
      have hsr9 : SR (m_set g (t - 97) 6 0) sc (ua ar 8 (ui (ar 8) (t - 97) (-1))) := SR_sw (v := -1) hsr (by omega)
      have hbr9 := hsr9.br
      have hhn9 : HN (m_set g (t - 97) 6 0) := HN_sw hhn
      have htw9 : TW (m_set g (t - 97) 6 0) := TW_sw htw
      have hsw9 : SwOK (m_set g (t - 97) 6 0) := cut_ok hsw
      refine lv_aload_n hx hb dX2_putBack_28 rfl (lv_at hl 2 rfl) ?_
      refine va_get (D := E.1) (ci := 2) (v := .ref (o 1)) (C := RX2) (T := TX2) (N := 14) hx hb hts in_X2 hown hK.1 hP 0 rfl rfl 0 (by decide) (hts _ q188) (fun _ h9 => h9) rfl dX2_putBack_29 ?_
      have hz_8 : s.heap.size ≤ H.size := hS.1
      refine n_txvS (w2 := fun u_9 => SW E o sc (ua ar 8 (ui (ar 8) (t - 97) (-1)))) (w3 := fun u_10 => SW E o sc (ua ar 8 (ui (ar 8) (t - 97) (-1)))) (vx_runV (As := []) (rest := []) ⟨hx, hb, hml, hown, hts⟩ (mt_X3_refuseCircle l E o sc (ua ar 8 (ui (ar 8) (t - 97) (-1)))  (m_set g (t - 97) 6 0) (by exact hst) (by exact hbr9) (by exact hhn9) (by exact htw9) (by exact hsw9) _) (cwV 0 hts (lw_V q1015 q1016 q1017 q96 q1018) rfl rfl rfl (by decide +kernel) ⟨Nat.le_of_ble_eq_true rfl, Nat.le_of_ble_eq_true rfl⟩) (UX_V (hP.sub (ws' := BW E o sc (ua ar 8 (ui (ar 8) (t - 97) (-1)))) [1, 2, 3, 4, 5, 6, 7, 8] rfl) hK (hD.sub (ws' := BW E o sc (ua ar 8 (ui (ar 8) (t - 97) (-1)))) [1, 2, 3, 4, 5, 6, 7, 8] rfl rfl) hE hS (va_sub_free hD hS hA [1, 2, 3, 4, 5, 6, 7, 8] rfl) (va_recv hK.1 hP (ci := 3) (q0 := 1) rfl rfl)) rfl rfl hl.1 rfl (lv_room (Nat.le_of_ble_eq_true rfl)) dX2_putBack_32 ⟨Nat.le_of_ble_eq_true rfl, Nat.le_of_ble_eq_true rfl⟩) hP hD hS hA [1, 2, 3, 4, 5, 6, 7, 8] [0, 9, 10, 11, 12, 13, 14, 15, 16] [0, 9, 10, 11, 12, 13, 14, 15, 16, 1, 2, 3, 4, 5, 6, 7, 8] [0, 9, 10, 11, 12, 13, 14, 15, 16, 1, 2, 3, 4, 5, 6, 7, 8] rfl rfl rfl rfl rfl (fun _ => rfl) rfl (fun _ => rfl) ?_ ?_
      · intro En ce q9 u_10 H locs hCx hP hD hS hxf hq9 hce hcv hcl
        have hCx : En = "ClockworkTailor$Refusal" ∧ 0 < m_circ (m_set g (t - 97) 6 0) := hCx
        have hP : va_P E.1 CL (SW E o sc (ua ar 8 (ui (ar 8) (t - 97) (-1)))) H := hP
        have hD : va_D A (SW E o sc (ua ar 8 (ui (ar 8) (t - 97) (-1)))) := hD
        exact n_out (sc, (ua ar 8 (ui (ar 8) (t - 97) (-1))), some (5, [iv 3, iv (m_circ (m_set g (t - 97) 6 0)), .null])) (by exact Or.inr ⟨(3, m_circ (m_set g (t - 97) 6 0)), by unfold A_back; rw [if_neg (by omega), if_pos hCx.2], hCx.1, rfl⟩) hP hD hS hxf (Nat.le_trans hz_8 hq9) hce hcv hcl (fun x hx9 => (htb x hx9).elim) hlocks (Nat.le_of_ble_eq_true rfl) (Nat.le_of_ble_eq_true rfl)
      · intro u_9 H locs hC hP hD hS
        have hu_9 : m_circ (m_set g (t - 97) 6 0) = 0 := hC
        have hP : va_P E.1 CL (SW E o sc (ua ar 8 (ui (ar 8) (t - 97) (-1)))) H := hP
        have hD : va_D A (SW E o sc (ua ar 8 (ui (ar 8) (t - 97) (-1)))) := hD
        have hcz : m_circ (m_set g (t - 97) 6 0) = 0 := hu_9
        have hA : A_back g t = .inr (.inr (97 + (m_of g (t - 97) 6 - 1), m_set g (t - 97) 6 0)) := by unfold A_back; rw [if_neg (by omega), if_neg (by omega)]
        have hsr2 := hsr9
        have hs6 := hsw (t - 97) (by omega) (by omega)
        refine lv_iload_n hx hb dX2_putBack_35 rfl (lv_at hl 0 rfl) ?_
        refine n_csi (x := 97 + (m_of g (t - 97) 6 - 1)) (va_runSN (As := [iv (m_of g (t - 97) 6 - 1)]) (rest := []) ⟨hx, hb, hml, hown, hts⟩ (mt_X1_letterOf l E (m_of g (t - 97) 6 - 1) (by omega)) ⟨(va_cnB 1 hts (lw_meth q1128) rfl rfl rfl (hK.nv q1171) (hts _ q94) (by decide +kernel) ⟨Nat.le_of_ble_eq_true rfl, Nat.le_of_ble_eq_true rfl⟩), hts _ q1127, trivial⟩ (PW_S (hP.sub (ws' := []) [] rfl) hK) rfl rfl hl.1 rfl (lv_room (Nat.le_of_ble_eq_true rfl)) dX2_putBack_36 ⟨Nat.le_of_ble_eq_true rfl, Nat.le_of_ble_eq_true rfl⟩) ?_
        have hfin : 97 + (m_of g (t - 97) 6 - 1) = rs_val 0 (A_back g t) := by
          rw [hA]
          rfl
        refine vx_ret ?_
        refine W.widen (k := 43) (n := 317) (Nat.le_of_ble_eq_true rfl) (Nat.le_of_ble_eq_true rfl) ?_
        exact W.zret (v := iI (97 + (m_of g (t - 97) 6 - 1))) hx hb hr (nr_c (by omega)) (fun tt_ ht_ hW_ => ⟨⟨iI (97 + (m_of g (t - 97) 6 - 1)), (sc, (ua ar 8 (ui (ar 8) (t - 97) (-1)))), rfl, ⟨⟨⟨_, hA⟩, by rw [hA]; exact hsr2⟩, (congrArg iI hfin)⟩, by rw [ht_]; exact hP, hD⟩, hS.F ht_⟩) hS.2.2 dX2_putBack_39
