set_option maxHeartbeats 1000000 in
set_option maxRecDepth 100000 in
theorem mt_X2_removeNeed (l : Launch) (E : EE) (o : Nat → Nat) (sc : Nat → Int) (ar : Nat → Int → Int) (t : Int) (n9 : Int) (g : Int → Int) (hst : l.stackTraces = false) (hsr : SR g sc ar) (ht : 0 ≤ t ∧ t < 65536) (hn : 0 ≤ n9 ∧ n9 < 65536) (htw : TW g) (hhn : HN g) (sz : Nat) : vx_Met l yX2_removeNeed (ws_ yX2_removeNeed cX2_removeNeed 6 (some .int)) { frames := 8, cells := 4, slots := 24, locals := 133 } (va_Pc [.ref (o 0), iv t, iv n9] (UX E (SW E o sc ar) sz)) (UQx E (fun u : SU => (∃ q, A_rem g t n9 = .inr (.inr q)) ∧ SR (rs_g g (A_rem g t n9)) u.1 u.2) (fun u : SU => rs_val 0 (A_rem g t n9)) (fun u : SU => SW E o u.1 u.2) (va_A (SW E o sc ar) sz)) (UXx E (fun (En : String) (u : SUX) => XC1 (nmX "java/lang/IllegalArgumentException" "java/util/NoSuchElementException" "") (A_rem g t n9) En u.2.2) (fun u : SUX => SW E o u.1 u.2.1) (fun u : SUX => u.2.2) (va_A (SW E o sc ar) sz)) 4 24 (va_A (SW E o sc ar) sz) := by
  refine vx_ofW (cc := cX2_removeNeed) (maxL := 6) (ret := (some .int)) (by decide) rfl ?_
  intro p e s m args below meth c s₁ B hml htb hv
  obtain ⟨rfl, hsz, hP, hK, hD0, hE⟩ := hv
  have hx := B.exec
  have hb := B.bytes
  have hr := B.returns
  have hts := atoms_spec (ws := (ws_ yX2_removeNeed cX2_removeNeed 6 (some .int))) B.pre
  have hts : ∀ w ∈ lw_all, w.before _ s = true := fun w h => hts w (List.mem_cons_of_mem _ h)
  have hown : s.vm.findClass RX2 = some m.cls := findClass_of_methodNamed B.named
  have hlocks := B.notSynchronized
  subst hsz
  have hD := hD0.self (sz := s.heap.size)
  generalize hAe : va_A (SW E o sc ar) s.heap.size = A at hD hE ⊢
  have hA : ∀ q : Nat, s.heap.size ≤ q → A q := fun q h => by rw [← hAe]; exact Or.inr h
  have hS : va_S A s.heap s.heap [] := va_S.rf
  have hl := lv_entry ([.ref (o 0), iv t, iv n9]) (n := 6) (Nat.le_of_ble_eq_true rfl)
  rw [lg_entry_eq]
  generalize (lg_sl ([.ref (o 0), iv t, iv n9]) ++ List.replicate (6 - (lg_sl ([.ref (o 0), iv t, iv n9])).length) Slot.unset).toArray = ls at hl ⊢
  have hl : lv_has ls 6 [(0, .ref (o 0)), (1, iv t), (2, iv n9)] := hl
  have hbr := hsr.br
  refine lv_iload_n hx hb dX2_removeNeed_0 rfl (lv_at hl 1 rfl) ?_
  have hz_1 : s.heap.size ≤ s.heap.size := hS.1
  refine n_txS (x := fun u_2 => t - 97) (w2 := fun u_2 => SW E o sc ar) (w3 := fun u_3 => SW E o sc ar) (vx_runSN (As := [iv t]) (rest := []) ⟨hx, hb, hml, hown, hts⟩ (mt_X1_indexOf l E t (by exact hst) (by omega) _) ⟨(va_cnB 1 hts (lw_meth q964) rfl rfl rfl (hK.nv q962) (hts _ q94) (by decide +kernel) ⟨Nat.le_of_ble_eq_true rfl, Nat.le_of_ble_eq_true rfl⟩), hts _ q963, trivial⟩ (UX_S (hP.sub (ws' := []) [] rfl) hK (hD.sub (ws' := []) [] rfl rfl) hE hS (va_sub_free hD hS hA [] rfl)) rfl rfl hl.1 rfl (lv_room (Nat.le_of_ble_eq_true rfl)) dX2_removeNeed_1 ⟨Nat.le_of_ble_eq_true rfl, Nat.le_of_ble_eq_true rfl⟩) hP hD hS hA [] [0, 1, 2, 3, 4, 5, 6, 7, 8, 9, 10, 11, 12, 13, 14, 15, 16] [0, 1, 2, 3, 4, 5, 6, 7, 8, 9, 10, 11, 12, 13, 14, 15, 16] [0, 1, 2, 3, 4, 5, 6, 7, 8, 9, 10, 11, 12, 13, 14, 15, 16] rfl rfl rfl rfl rfl (fun _ => rfl) rfl (fun _ => rfl) ?_ ?_
  · intro En ce q9 u_3 H locs hCx hP hD hS hxf hq9 hce hcv hcl
    have hCx : En = "java/lang/IllegalArgumentException" ∧ ¬ (97 ≤ t ∧ t ≤ 104) := hCx
    have hP : va_P E.1 CL (SW E o sc ar) H := hP
    have hD : va_D A (SW E o sc ar) := hD
    exact n_out (sc, ar, none) (by exact Or.inl ⟨1, by have hz := hCx.2; have hz : c_rem g t n9 = 1 := (by unfold c_rem; rw [if_neg (by omega)]); unfold A_rem; rw [if_pos (by omega), hz], hCx.1⟩) hP hD hS hxf (Nat.le_trans hz_1 hq9) hce hcv hcl (fun x hx9 => (htb x hx9).elim) hlocks (Nat.le_of_ble_eq_true rfl) (Nat.le_of_ble_eq_true rfl)
  · intro u_2 H locs hC hP hD hS
    have hu_2 : 97 ≤ t ∧ t ≤ 104 := hC
    have hP : va_P E.1 CL (SW E o sc ar) H := hP
    have hD : va_D A (SW E o sc ar) := hD
    have hti : 97 ≤ t ∧ t ≤ 104 := by assumption
    refine lv_istore_n (lv' := [(3, iv (t - 97)), (0, .ref (o 0)), (1, iv t), (2, iv n9)]) hx hb dX2_removeNeed_4 rfl hl (by decide) rfl (fun ls hl => ?_)
    refine lv_iload_n hx hb dX2_removeNeed_5 rfl (lv_at hl 3 rfl) ?_
    have hz_4 : s.heap.size ≤ H.size := hS.1
    refine n_txS (x := fun u_5 => n9 - 97) (w2 := fun u_5 => SW E o sc ar) (w3 := fun u_6 => SW E o sc ar) (vx_runSN (As := [iv n9]) (rest := []) ⟨hx, hb, hml, hown, hts⟩ (mt_X1_indexOf l E n9 (by exact hst) (by omega) _) ⟨(va_cnB 1 hts (lw_meth q964) rfl rfl rfl (hK.nv q962) (hts _ q94) (by decide +kernel) ⟨Nat.le_of_ble_eq_true rfl, Nat.le_of_ble_eq_true rfl⟩), hts _ q963, trivial⟩ (UX_S (hP.sub (ws' := []) [] rfl) hK (hD.sub (ws' := []) [] rfl rfl) hE hS (va_sub_free hD hS hA [] rfl)) rfl rfl hl.1 rfl (lv_room (Nat.le_of_ble_eq_true rfl)) dX2_removeNeed_6 ⟨Nat.le_of_ble_eq_true rfl, Nat.le_of_ble_eq_true rfl⟩) hP hD hS hA [] [0, 1, 2, 3, 4, 5, 6, 7, 8, 9, 10, 11, 12, 13, 14, 15, 16] [0, 1, 2, 3, 4, 5, 6, 7, 8, 9, 10, 11, 12, 13, 14, 15, 16] [0, 1, 2, 3, 4, 5, 6, 7, 8, 9, 10, 11, 12, 13, 14, 15, 16] rfl rfl rfl rfl rfl (fun _ => rfl) rfl (fun _ => rfl) ?_ ?_
    · intro En ce q9 u_6 H locs hCx hP hD hS hxf hq9 hce hcv hcl
      have hCx : En = "java/lang/IllegalArgumentException" ∧ ¬ (97 ≤ n9 ∧ n9 ≤ 104) := hCx
      have hP : va_P E.1 CL (SW E o sc ar) H := hP
      have hD : va_D A (SW E o sc ar) := hD
      exact n_out (sc, ar, none) (by exact Or.inl ⟨1, by have hz := hCx.2; have hz : c_rem g t n9 = 1 := (by unfold c_rem; rw [if_neg (by omega)]); unfold A_rem; rw [if_pos (by omega), hz], hCx.1⟩) hP hD hS hxf (Nat.le_trans hz_4 hq9) hce hcv hcl (fun x hx9 => (htb x hx9).elim) hlocks (Nat.le_of_ble_eq_true rfl) (Nat.le_of_ble_eq_true rfl)
    · intro u_5 H locs hC hP hD hS
      have hu_5 : 97 ≤ n9 ∧ n9 ≤ 104 := hC
      have hP : va_P E.1 CL (SW E o sc ar) H := hP
      have hD : va_D A (SW E o sc ar) := hD
      have hni : 97 ≤ n9 ∧ n9 ≤ 104 := by assumption
      refine lv_istore (lv' := [(4, iv (n9 - 97)), (3, iv (t - 97)), (0, .ref (o 0)), (1, iv t), (2, iv n9)]) hx hb dX2_removeNeed_9 hl (by decide) rfl (fun ls hl => ?_)
      refine lv_aload_n hx hb dX2_removeNeed_11 rfl (lv_at hl 2 rfl) ?_
      refine lv_iload_n hx hb dX2_removeNeed_12 rfl (lv_at hl 1 rfl) ?_
      have hz_7 : s.heap.size ≤ H.size := hS.1
      refine n_txvS (w2 := fun u_8 => SW E o sc ar) (w3 := fun u_9 => SW E o sc ar) (vx_runV (As := [iv (t - 97)]) (rest := []) ⟨hx, hb, hml, hown, hts⟩ (mt_X2_checkRecipe l E o sc ar (t - 97) g (by exact hst) (by omega) (by assumption) _) (cwV 1 hts (lw_V q967 q968 q969 q95 q970) rfl rfl rfl (by decide +kernel) ⟨Nat.le_of_ble_eq_true rfl, Nat.le_of_ble_eq_true rfl⟩) (UX_V hP hK (hD) hE hS (va_A_in hD hS hA) (va_recv hK.1 hP (ci := 2) (q0 := 0) rfl rfl)) rfl rfl hl.1 rfl (lv_room (Nat.le_of_ble_eq_true rfl)) dX2_removeNeed_13 ⟨Nat.le_of_ble_eq_true rfl, Nat.le_of_ble_eq_true rfl⟩) hP hD hS hA [0, 1, 2, 3, 4, 5, 6, 7, 8, 9, 10, 11, 12, 13, 14, 15, 16] [] [0, 1, 2, 3, 4, 5, 6, 7, 8, 9, 10, 11, 12, 13, 14, 15, 16] [0, 1, 2, 3, 4, 5, 6, 7, 8, 9, 10, 11, 12, 13, 14, 15, 16] rfl rfl rfl rfl rfl (fun _ => rfl) rfl (fun _ => rfl) ?_ ?_
      · intro En ce q9 u_9 H locs hCx hP hD hS hxf hq9 hce hcv hcl
        have hCx : En = "java/util/NoSuchElementException" ∧ m_has g (t - 97) = false := hCx
        have hP : va_P E.1 CL (SW E o sc ar) H := hP
        have hD : va_D A (SW E o sc ar) := hD
        exact n_out (sc, ar, none) (by exact Or.inl ⟨2, by have hz : c_rem g t n9 = 2 := (by unfold c_rem; rw [if_pos (by omega), if_neg (fun h9 => by rw [hCx.2] at h9; exact absurd h9.1 (by decide))]); unfold A_rem; rw [if_pos (by omega), hz], hCx.1⟩) hP hD hS hxf (Nat.le_trans hz_7 hq9) hce hcv hcl (fun x hx9 => (htb x hx9).elim) hlocks (Nat.le_of_ble_eq_true rfl) (Nat.le_of_ble_eq_true rfl)
      · intro u_8 H locs hC hP hD hS
        have hu_8 : m_has g (t - 97) = true := hC
        have hP : va_P E.1 CL (SW E o sc ar) H := hP
        have hD : va_D A (SW E o sc ar) := hD
        have hha : m_has g (t - 97) = true := by assumption
        refine lv_aload_n hx hb dX2_removeNeed_16 rfl (lv_at hl 2 rfl) ?_
        refine va_get (D := E.1) (ci := 2) (v := .ref (o 1)) (C := RX2) (T := TX2) (N := 14) hx hb hts in_X2 hown hK.1 hP 0 rfl rfl 0 (by decide) (hts _ q188) (fun _ h9 => h9) rfl dX2_removeNeed_17 ?_
        refine lv_iload_n hx hb dX2_removeNeed_20 rfl (lv_at hl 1 rfl) ?_
        refine lv_iload hx hb dX2_removeNeed_21 (lv_at hl 0 rfl) ?_
        refine n_csi (x := m_place g (t - 97) (n9 - 97)) (va_runV (As := [iv (t - 97), iv (n9 - 97)]) (rest := []) ⟨hx, hb, hml, hown, hts⟩ (mt_X3_positionOf l E o sc ar (t - 97) (n9 - 97) g (by omega) (by omega) (by assumption) (by assumption) (by assumption)) (cwV 2 hts (lw_V q1007 q1008 q1009 q96 q1010) rfl rfl rfl (by decide +kernel) ⟨Nat.le_of_ble_eq_true rfl, Nat.le_of_ble_eq_true rfl⟩) (PW_V (hP.sub (ws' := BW E o sc ar) [1, 2, 3, 4, 5, 6, 7, 8] rfl) hK (va_recv hK.1 hP (ci := 3) (q0 := 1) rfl rfl)) rfl rfl hl.1 rfl (lv_room (Nat.le_of_ble_eq_true rfl)) dX2_removeNeed_23 ⟨Nat.le_of_ble_eq_true rfl, Nat.le_of_ble_eq_true rfl⟩) ?_
        have b_10 := m_place_r (g := g) (by assumption) (t := (t - 97)) (n := (n9 - 97)) (by omega)
        have hz_11 : s.heap.size ≤ H.size := hS.1
        refine n_txS (x := fun u_12 => m_place g (t - 97) (n9 - 97)) (w2 := fun u_12 => SW E o sc ar) (w3 := fun u_13 => SW E o sc ar) (vx_runSN (As := [iv (m_place g (t - 97) (n9 - 97))]) (rest := []) ⟨hx, hb, hml, hown, hts⟩ (mt_X1_found l E (m_place g (t - 97) (n9 - 97)) (by exact hst) (by omega) _) ⟨(va_cnB 1 hts (lw_meth q1039) rfl rfl rfl (hK.nv q1037) (hts _ q94) (by decide +kernel) ⟨Nat.le_of_ble_eq_true rfl, Nat.le_of_ble_eq_true rfl⟩), hts _ q1038, trivial⟩ (UX_S (hP.sub (ws' := []) [] rfl) hK (hD.sub (ws' := []) [] rfl rfl) hE hS (va_sub_free hD hS hA [] rfl)) rfl rfl hl.1 rfl (lv_room (Nat.le_of_ble_eq_true rfl)) dX2_removeNeed_26 ⟨Nat.le_of_ble_eq_true rfl, Nat.le_of_ble_eq_true rfl⟩) hP hD hS hA [] [0, 1, 2, 3, 4, 5, 6, 7, 8, 9, 10, 11, 12, 13, 14, 15, 16] [0, 1, 2, 3, 4, 5, 6, 7, 8, 9, 10, 11, 12, 13, 14, 15, 16] [0, 1, 2, 3, 4, 5, 6, 7, 8, 9, 10, 11, 12, 13, 14, 15, 16] rfl rfl rfl rfl rfl (fun _ => rfl) rfl (fun _ => rfl) ?_ ?_
        · intro En ce q9 u_13 H locs hCx hP hD hS hxf hq9 hce hcv hcl
          have hCx : En = "java/util/NoSuchElementException" ∧ (m_place g (t - 97) (n9 - 97)) = -1 := hCx
          have hP : va_P E.1 CL (SW E o sc ar) H := hP
          have hD : va_D A (SW E o sc ar) := hD
          exact n_out (sc, ar, none) (by exact Or.inl ⟨2, by have hz : c_rem g t n9 = 2 := (by unfold c_rem; rw [if_pos (by omega), if_neg (fun h9 => by omega)]); unfold A_rem; rw [if_pos (by omega), hz], hCx.1⟩) hP hD hS hxf (Nat.le_trans hz_11 hq9) hce hcv hcl (fun x hx9 => (htb x hx9).elim) hlocks (Nat.le_of_ble_eq_true rfl) (Nat.le_of_ble_eq_true rfl)
        · intro u_12 H locs hC hP hD hS
          have hu_12 : ¬ (m_place g (t - 97) (n9 - 97)) = -1 := hC
          have hP : va_P E.1 CL (SW E o sc ar) H := hP
          have hD : va_D A (SW E o sc ar) := hD
          have hne : ¬ m_place g (t - 97) (n9 - 97) = -1 := hu_12
          have hp0 : 0 ≤ m_place g (t - 97) (n9 - 97) := by omega
          have hpl := m_place_ok htw (t := t - 97) (n := n9 - 97) (by omega) hp0
          have hq3 := htw (t - 97) (by omega) (by omega)
          refine lv_istore (lv' := [(5, iv (m_place g (t - 97) (n9 - 97))), (4, iv (n9 - 97)), (3, iv (t - 97)), (0, .ref (o 0)), (1, iv t), (2, iv n9)]) hx hb dX2_removeNeed_29 hl (by decide) rfl (fun ls hl => ?_)
          refine lv_aload_n hx hb dX2_removeNeed_31 rfl (lv_at hl 3 rfl) ?_
          refine va_get (D := E.1) (ci := 2) (v := .ref (o 1)) (C := RX2) (T := TX2) (N := 14) hx hb hts in_X2 hown hK.1 hP 0 rfl rfl 0 (by decide) (hts _ q188) (fun _ h9 => h9) rfl dX2_removeNeed_32 ?_
          refine lv_iload_n hx hb dX2_removeNeed_35 rfl (lv_at hl 2 rfl) ?_
          refine lv_iload hx hb dX2_removeNeed_36 (lv_at hl 0 rfl) ?_
          refine n_cuvS (w2 := SW E o sc (ua (ua (ua ar 5 (ui (ar 5) (t - 97) (m_of g (t - 97) 2 - 1))) 6 (rm3 (ar 6) (t - 97) (m_place g (t - 97) (n9 - 97)) (m_of g (t - 97) 2))) 7 (rm3 (ar 7) (t - 97) (m_place g (t - 97) (n9 - 97)) (m_of g (t - 97) 2)))) (va_runV (As := [iv (t - 97), iv (m_place g (t - 97) (n9 - 97))]) (rest := []) ⟨hx, hb, hml, hown, hts⟩ (mt_X3_remove l E o sc ar (t - 97) (m_place g (t - 97) (n9 - 97)) g (by omega) (by assumption) (by assumption) (by first | assumption | exact HN_pos hhn (t := t - 97) (by omega) (by omega)) (by omega) (by exact hsr.2.1.2) _) (cwV 2 hts (lw_V q1041 q1042 q1043 q96 q1044) rfl rfl rfl (by decide +kernel) ⟨Nat.le_of_ble_eq_true rfl, Nat.le_of_ble_eq_true rfl⟩) (UW_V (hP.sub (ws' := BW E o sc ar) [1, 2, 3, 4, 5, 6, 7, 8] rfl) hK (hD.sub (ws' := BW E o sc ar) [1, 2, 3, 4, 5, 6, 7, 8] rfl rfl) (va_recv hK.1 hP (ci := 3) (q0 := 1) rfl rfl)) rfl rfl hl.1 rfl (lv_room (Nat.le_of_ble_eq_true rfl)) dX2_removeNeed_38 ⟨Nat.le_of_ble_eq_true rfl, Nat.le_of_ble_eq_true rfl⟩) hP hD hS hA [1, 2, 3, 4, 5, 6, 7, 8] [0, 9, 10, 11, 12, 13, 14, 15, 16] [0, 9, 10, 11, 12, 13, 14, 15, 16, 1, 2, 3, 4, 5, 6, 7, 8] rfl rfl rfl rfl rfl rfl (fun H locs hP hD hS => ?_)
          have hP : va_P E.1 CL (SW E o sc (ua (ua (ua ar 5 (ui (ar 5) (t - 97) (m_of g (t - 97) 2 - 1))) 6 (rm3 (ar 6) (t - 97) (m_place g (t - 97) (n9 - 97)) (m_of g (t - 97) 2))) 7 (rm3 (ar 7) (t - 97) (m_place g (t - 97) (n9 - 97)) (m_of g (t - 97) 2)))) H := hP
          have hD : va_D A (SW E o sc (ua (ua (ua ar 5 (ui (ar 5) (t - 97) (m_of g (t - 97) 2 - 1))) 6 (rm3 (ar 6) (t - 97) (m_place g (t - 97) (n9 - 97)) (m_of g (t - 97) 2))) 7 (rm3 (ar 7) (t - 97) (m_place g (t - 97) (n9 - 97)) (m_of g (t - 97) 2)))) := hD
          have hz : c_rem g t n9 = 0 := by unfold c_rem; rw [if_pos (by omega), if_pos ⟨hha, hp0⟩]
          have hA : A_rem g t n9 = .inr (.inr (m_place g (t - 97) (n9 - 97), s_rem g (t - 97) (m_place g (t - 97) (n9 - 97)))) := by unfold A_rem; rw [if_neg (by omega)]
          have hsr2 : SR (s_rem g (t - 97) (m_place g (t - 97) (n9 - 97))) sc (ua (ua (ua ar 5 (ui (ar 5) (t - 97) (m_of g (t - 97) 2 - 1))) 6 (rm3 (ar 6) (t - 97) (m_place g (t - 97) (n9 - 97)) (m_of g (t - 97) 2))) 7 (rm3 (ar 7) (t - 97) (m_place g (t - 97) (n9 - 97)) (m_of g (t - 97) 2))) := SR_rem hsr (by omega) (by omega)
          refine lv_iload hx hb dX2_removeNeed_41 (lv_at hl 0 rfl) ?_
          have hfin : m_place g (t - 97) (n9 - 97) = rs_val 0 (A_rem g t n9) := by
            rw [hA]
            rfl
          refine vx_ret ?_
          refine W.widen (k := 4) (n := 24) (Nat.le_of_ble_eq_true rfl) (Nat.le_of_ble_eq_true rfl) ?_
          exact W.iret (v := iI (m_place g (t - 97) (n9 - 97))) hx hb hr (fun tt_ ht_ hW_ => ⟨⟨iI (m_place g (t - 97) (n9 - 97)), (sc, (ua (ua (ua ar 5 (ui (ar 5) (t - 97) (m_of g (t - 97) 2 - 1))) 6 (rm3 (ar 6) (t - 97) (m_place g (t - 97) (n9 - 97)) (m_of g (t - 97) 2))) 7 (rm3 (ar 7) (t - 97) (m_place g (t - 97) (n9 - 97)) (m_of g (t - 97) 2)))), rfl, ⟨⟨⟨_, hA⟩, by rw [hA]; exact hsr2⟩, (congrArg iI hfin)⟩, by rw [ht_]; exact hP, hD⟩, hS.F ht_⟩) hS.2.2 dX2_removeNeed_43
set_option maxHeartbeats 1000000 in
set_option maxRecDepth 100000 in
theorem mt_X2_openThread (l : Launch) (E : EE) (o : Nat → Nat) (sc : Nat → Int) (ar : Nat → Int → Int)  (g : Int → Int) (hst : l.stackTraces = false) (hsr : SR g sc ar) (hg0 : 0 ≤ g 0) (sz : Nat) : vx_Met l yX2_openThread (ws_ yX2_openThread cX2_openThread 2 (some .int)) { frames := 7, cells := 1, slots := 6, locals := 112 } (va_Pc [.ref (o 0)] (UX E (SW E o sc ar) sz)) (UQx E (fun u : SU => (∃ q, A_open g = .inr (.inr q)) ∧ SR (rs_g g (A_open g)) u.1 u.2) (fun u : SU => rs_val 0 (A_open g)) (fun u : SU => SW E o u.1 u.2) (va_A (SW E o sc ar) sz)) (UXx E (fun (En : String) (u : SUX) => XC1 (nmX "java/lang/IllegalStateException" "" "") (A_open g) En u.2.2) (fun u : SUX => SW E o u.1 u.2.1) (fun u : SUX => u.2.2) (va_A (SW E o sc ar) sz)) 1 6 (va_A (SW E o sc ar) sz) := by
  refine vx_ofW (cc := cX2_openThread) (maxL := 2) (ret := (some .int)) (by decide) rfl ?_
  intro p e s m args below meth c s₁ B hml htb hv
  obtain ⟨rfl, hsz, hP, hK, hD0, hE⟩ := hv
  have hx := B.exec
  have hb := B.bytes
  have hr := B.returns
  have hts := atoms_spec (ws := (ws_ yX2_openThread cX2_openThread 2 (some .int))) B.pre
  have hts : ∀ w ∈ lw_all, w.before _ s = true := fun w h => hts w (List.mem_cons_of_mem _ h)
  have hown : s.vm.findClass RX2 = some m.cls := findClass_of_methodNamed B.named
  have hlocks := B.notSynchronized
  subst hsz
  have hD := hD0.self (sz := s.heap.size)
  generalize hAe : va_A (SW E o sc ar) s.heap.size = A at hD hE ⊢
  have hA : ∀ q : Nat, s.heap.size ≤ q → A q := fun q h => by rw [← hAe]; exact Or.inr h
  have hS : va_S A s.heap s.heap [] := va_S.rf
  have hl := lv_entry ([.ref (o 0)]) (n := 2) (Nat.le_of_ble_eq_true rfl)
  rw [lg_entry_eq]
  generalize (lg_sl ([.ref (o 0)]) ++ List.replicate (2 - (lg_sl ([.ref (o 0)])).length) Slot.unset).toArray = ls at hl ⊢
  have hl : lv_has ls 2 [(0, .ref (o 0))] := hl
  refine lv_iconst (v := iI 0) hx hb dX2_openThread_0 rfl ?_
  refine lv_istore_n (lv' := [(1, iv 0), (0, .ref (o 0))]) hx hb dX2_openThread_1 rfl hl (by decide) rfl (fun ls hl => ?_)
  have l2 : ∀ (fu : Nat) (x1 : Int), (0 ≤ x1 ∧ x1 ≤ 4) → (fnd (fun k => !(m_opened g k)) x1 = -1) → (4 - x1 < (fu : Int)) → ∀ ls : Array Slot, lv_has ls 2 [(1, iv x1), (0, .ref (o 0))] → W p l e (headSpec (ws_ yX2_openThread cX2_openThread 2 (some .int)) { frames := 7, cells := 1, slots := 6, locals := 112 }).room s m ([.ref (o 0)] : List Value).toArray below meth c s.heap [] 0 0 (vx_MQ below (UQx E (fun u : SU => (∃ q, A_open g = .inr (.inr q)) ∧ SR (rs_g g (A_open g)) u.1 u.2) (fun u : SU => rs_val 0 (A_open g)) (fun u : SU => SW E o u.1 u.2) A) (UXx E (fun (En : String) (u : SUX) => XC1 (nmX "java/lang/IllegalStateException" "" "") (A_open g) En u.2.2) (fun u : SUX => SW E o u.1 u.2.1) (fun u : SUX => u.2.2) A) ([.ref (o 0)] : List Value).toArray s 1 6 A) (F0 m 2 ls []) := by
    intro fu
    induction fu with
    | zero =>
      intro x1 il2_0 il2_1 hm
      exfalso; omega
    | succ fu ih =>
      intro x1 il2_0 il2_1 hm ls hl
      have ihl2 := ih
      refine lv_iload_n hx hb dX2_openThread_2 rfl (lv_at hl 0 rfl) ?_
      refine lv_iconst (v := iI 4) hx hb dX2_openThread_3 rfl ?_
      refine n_icmp_ge (tgt := 22) hx hb dX2_openThread_4 (by decide) (by omega) (by omega) (fun c_1 => ?_) (fun c_1 => ?_)
      · have hcut : 4 ≤ x1 ∨ m_opened g x1 = false := by first | exact Or.inl (by assumption) | exact Or.inr (by assumption)
        have j_2 : W p l e (headSpec (ws_ yX2_openThread cX2_openThread 2 (some .int)) { frames := 7, cells := 1, slots := 6, locals := 112 }).room s m ([.ref (o 0)] : List Value).toArray below meth c s.heap [] 0 0 (vx_MQ below (UQx E (fun u : SU => (∃ q, A_open g = .inr (.inr q)) ∧ SR (rs_g g (A_open g)) u.1 u.2) (fun u : SU => rs_val 0 (A_open g)) (fun u : SU => SW E o u.1 u.2) A) (UXx E (fun (En : String) (u : SUX) => XC1 (nmX "java/lang/IllegalStateException" "" "") (A_open g) En u.2.2) (fun u : SUX => SW E o u.1 u.2.1) (fun u : SUX => u.2.2) A) ([.ref (o 0)] : List Value).toArray s 1 6 A) (F0 m 32 ls [iv (b2 (decide (x1 < 4)))]) := by
          have hz_3 : s.heap.size ≤ s.heap.size := hS.1
          refine n_txvS (w2 := fun u_4 => SW E o sc ar) (w3 := fun u_5 => SW E o sc ar) (vx_runSN (As := [iv (b2 (decide (x1 < 4)))]) (rest := []) ⟨hx, hb, hml, hown, hts⟩ (mt_X1_checkState l E (decide (x1 < 4)) (by exact hst) _) ⟨(va_cnB 1 hts (lw_meth q912) rfl rfl rfl (hK.nv q910) (hts _ q94) (by decide +kernel) ⟨Nat.le_of_ble_eq_true rfl, Nat.le_of_ble_eq_true rfl⟩), hts _ q911, trivial⟩ (UX_S (hP.sub (ws' := []) [] rfl) hK (hD.sub (ws' := []) [] rfl rfl) hE hS (va_sub_free hD hS hA [] rfl)) rfl rfl hl.1 rfl (lv_room (Nat.le_of_ble_eq_true rfl)) dX2_openThread_32 ⟨Nat.le_of_ble_eq_true rfl, Nat.le_of_ble_eq_true rfl⟩) hP hD hS hA [] [0, 1, 2, 3, 4, 5, 6, 7, 8, 9, 10, 11, 12, 13, 14, 15, 16] [0, 1, 2, 3, 4, 5, 6, 7, 8, 9, 10, 11, 12, 13, 14, 15, 16] [0, 1, 2, 3, 4, 5, 6, 7, 8, 9, 10, 11, 12, 13, 14, 15, 16] rfl rfl rfl rfl rfl (fun _ => rfl) rfl (fun _ => rfl) ?_ ?_
          · intro En ce q9 u_5 H locs hCx hP hD hS hxf hq9 hce hcv hcl
            have hCx : En = "java/lang/IllegalStateException" ∧ (decide (x1 < 4)) = false := hCx
            have hP : va_P E.1 CL (SW E o sc ar) H := hP
            have hD : va_D A (SW E o sc ar) := hD
            exact n_out (sc, ar, none) (by exact Or.inl ⟨1, by have hz : m_free g = -1 := (by obtain rfl : x1 = 4 := (by have := of_decide_eq_false hCx.2; omega); exact il2_1); unfold A_open; rw [hz, if_pos rfl], hCx.1⟩) hP hD hS hxf (Nat.le_trans hz_3 hq9) hce hcv hcl (fun x hx9 => (htb x hx9).elim) hlocks (Nat.le_of_ble_eq_true rfl) (Nat.le_of_ble_eq_true rfl)
          · intro u_4 H locs hC hP hD hS
            have hu_4 : (decide (x1 < 4)) = true := hC
            have hP : va_P E.1 CL (SW E o sc ar) H := hP
            have hD : va_D A (SW E o sc ar) := hD
            have hlt : x1 < 4 := of_decide_eq_true (by assumption)
            have hmf : m_free g = x1 := fnd_yes (by omega) (by omega) il2_1 (by rcases hcut with hcut | hcut; (exact absurd hcut (by omega)); (rw [hcut]; rfl))
            refine lv_aload_n hx hb dX2_openThread_35 rfl (lv_at hl 1 rfl) ?_
            refine va_get (D := E.1) (ci := 2) (v := .ref (o 9)) (C := RX2) (T := TX2) (N := 14) hx hb hts in_X2 hown hK.1 hP 0 rfl rfl 1 (by decide) (hts _ q191) (fun _ h9 => h9) rfl dX2_openThread_36 ?_
            refine lv_iload_n hx hb dX2_openThread_39 rfl (lv_at hl 0 rfl) ?_
            refine lv_iconst (v := iI 1) hx hb dX2_openThread_40 rfl ?_
            refine n_zast (f := ar 9) hx hb hK.1 hP hD hS 9 1 rfl rfl (by omega) (by decide) (by decide) dX2_openThread_41 (ws2 := SW E o sc (ua ar 9 (ui (ar 9) x1 1))) rfl (fun H locs hP hD hS => ?_)
            have hA : A_open g = .inr (.inr (x1, ui g 0 (bor (g 0) (pw x1)))) := by unfold A_open; rw [hmf, if_neg (by omega)]
            have hsr2 : SR (ui g 0 (bor (g 0) (pw x1))) sc (ua ar 9 (ui (ar 9) x1 1)) := SR_open hsr hg0 (by omega)
            refine lv_iload_n hx hb dX2_openThread_42 rfl (lv_at hl 0 rfl) ?_
            have hfin : x1 = rs_val 0 (A_open g) := by
              rw [hA]
              rfl
            refine vx_ret ?_
            refine W.widen (k := 1) (n := 6) (Nat.le_of_ble_eq_true rfl) (Nat.le_of_ble_eq_true rfl) ?_
            exact W.iret (v := iI x1) hx hb hr (fun tt_ ht_ hW_ => ⟨⟨iI x1, (sc, (ua ar 9 (ui (ar 9) x1 1))), rfl, ⟨⟨⟨_, hA⟩, by rw [hA]; exact hsr2⟩, (congrArg iI hfin)⟩, by rw [ht_]; exact hP, hD⟩, hS.F ht_⟩) hS.2.2 dX2_openThread_43
        refine lv_iload_n hx hb dX2_openThread_22 rfl (lv_at hl 0 rfl) ?_
        refine lv_iconst (v := iI 4) hx hb dX2_openThread_23 rfl ?_
        refine n_icmp_ge (tgt := 31) hx hb dX2_openThread_24 (by decide) (by omega) (by omega) (fun c_6 => ?_) (fun c_6 => ?_)
        · refine lv_iconst (v := iI 0) hx hb dX2_openThread_31 rfl ?_
          refine n_top (y := b2 (decide (x1 < 4))) (by first | exact (b2_pos (by omega)).symm | exact (b2_neg (by omega)).symm) ?_
          exact j_2
        · refine lv_iconst (v := iI 1) hx hb dX2_openThread_27 rfl ?_
          refine lv_goto (tgt := 32) hx hb dX2_openThread_28 (by decide) ?_
          refine n_top (y := b2 (decide (x1 < 4))) (by first | exact (b2_pos (by omega)).symm | exact (b2_neg (by omega)).symm) ?_
          exact j_2
      · refine lv_aload_n hx hb dX2_openThread_7 rfl (lv_at hl 1 rfl) ?_
        refine va_get (D := E.1) (ci := 2) (v := .ref (o 9)) (C := RX2) (T := TX2) (N := 14) hx hb hts in_X2 hown hK.1 hP 0 rfl rfl 1 (by decide) (hts _ q191) (fun _ h9 => h9) rfl dX2_openThread_8 ?_
        refine lv_iload_n hx hb dX2_openThread_11 rfl (lv_at hl 0 rfl) ?_
        refine n_zald (f := ar 9) hx hb hK.1 hP 9 1 rfl rfl (by omega) (by decide) dX2_openThread_12 ?_
        rw [hsr.op (k := x1) (by omega)]
        refine n_ifb_eq (tgt := 22) hx hb dX2_openThread_13 (by decide) (fun c_7 => ?_) (fun c_7 => ?_)
        · have hcut : 4 ≤ x1 ∨ m_opened g x1 = false := by first | exact Or.inl (by assumption) | exact Or.inr (by assumption)
          have j_8 : W p l e (headSpec (ws_ yX2_openThread cX2_openThread 2 (some .int)) { frames := 7, cells := 1, slots := 6, locals := 112 }).room s m ([.ref (o 0)] : List Value).toArray below meth c s.heap [] 0 0 (vx_MQ below (UQx E (fun u : SU => (∃ q, A_open g = .inr (.inr q)) ∧ SR (rs_g g (A_open g)) u.1 u.2) (fun u : SU => rs_val 0 (A_open g)) (fun u : SU => SW E o u.1 u.2) A) (UXx E (fun (En : String) (u : SUX) => XC1 (nmX "java/lang/IllegalStateException" "" "") (A_open g) En u.2.2) (fun u : SUX => SW E o u.1 u.2.1) (fun u : SUX => u.2.2) A) ([.ref (o 0)] : List Value).toArray s 1 6 A) (F0 m 32 ls [iv (b2 (decide (x1 < 4)))]) := by
            have hz_9 : s.heap.size ≤ s.heap.size := hS.1
            refine n_txvS (w2 := fun u_10 => SW E o sc ar) (w3 := fun u_11 => SW E o sc ar) (vx_runSN (As := [iv (b2 (decide (x1 < 4)))]) (rest := []) ⟨hx, hb, hml, hown, hts⟩ (mt_X1_checkState l E (decide (x1 < 4)) (by exact hst) _) ⟨(va_cnB 1 hts (lw_meth q912) rfl rfl rfl (hK.nv q910) (hts _ q94) (by decide +kernel) ⟨Nat.le_of_ble_eq_true rfl, Nat.le_of_ble_eq_true rfl⟩), hts _ q911, trivial⟩ (UX_S (hP.sub (ws' := []) [] rfl) hK (hD.sub (ws' := []) [] rfl rfl) hE hS (va_sub_free hD hS hA [] rfl)) rfl rfl hl.1 rfl (lv_room (Nat.le_of_ble_eq_true rfl)) dX2_openThread_32 ⟨Nat.le_of_ble_eq_true rfl, Nat.le_of_ble_eq_true rfl⟩) hP hD hS hA [] [0, 1, 2, 3, 4, 5, 6, 7, 8, 9, 10, 11, 12, 13, 14, 15, 16] [0, 1, 2, 3, 4, 5, 6, 7, 8, 9, 10, 11, 12, 13, 14, 15, 16] [0, 1, 2, 3, 4, 5, 6, 7, 8, 9, 10, 11, 12, 13, 14, 15, 16] rfl rfl rfl rfl rfl (fun _ => rfl) rfl (fun _ => rfl) ?_ ?_
            · intro En ce q9 u_11 H locs hCx hP hD hS hxf hq9 hce hcv hcl
              have hCx : En = "java/lang/IllegalStateException" ∧ (decide (x1 < 4)) = false := hCx
              have hP : va_P E.1 CL (SW E o sc ar) H := hP
              have hD : va_D A (SW E o sc ar) := hD
              exact n_out (sc, ar, none) (by exact Or.inl ⟨1, by have hz : m_free g = -1 := (by obtain rfl : x1 = 4 := (by have := of_decide_eq_false hCx.2; omega); exact il2_1); unfold A_open; rw [hz, if_pos rfl], hCx.1⟩) hP hD hS hxf (Nat.le_trans hz_9 hq9) hce hcv hcl (fun x hx9 => (htb x hx9).elim) hlocks (Nat.le_of_ble_eq_true rfl) (Nat.le_of_ble_eq_true rfl)
            · intro u_10 H locs hC hP hD hS
              have hu_10 : (decide (x1 < 4)) = true := hC
              have hP : va_P E.1 CL (SW E o sc ar) H := hP
              have hD : va_D A (SW E o sc ar) := hD
              have hlt : x1 < 4 := of_decide_eq_true (by assumption)
              have hmf : m_free g = x1 := fnd_yes (by omega) (by omega) il2_1 (by rcases hcut with hcut | hcut; (exact absurd hcut (by omega)); (rw [hcut]; rfl))
              refine lv_aload_n hx hb dX2_openThread_35 rfl (lv_at hl 1 rfl) ?_
              refine va_get (D := E.1) (ci := 2) (v := .ref (o 9)) (C := RX2) (T := TX2) (N := 14) hx hb hts in_X2 hown hK.1 hP 0 rfl rfl 1 (by decide) (hts _ q191) (fun _ h9 => h9) rfl dX2_openThread_36 ?_
              refine lv_iload_n hx hb dX2_openThread_39 rfl (lv_at hl 0 rfl) ?_
              refine lv_iconst (v := iI 1) hx hb dX2_openThread_40 rfl ?_
              refine n_zast (f := ar 9) hx hb hK.1 hP hD hS 9 1 rfl rfl (by omega) (by decide) (by decide) dX2_openThread_41 (ws2 := SW E o sc (ua ar 9 (ui (ar 9) x1 1))) rfl (fun H locs hP hD hS => ?_)
              have hA : A_open g = .inr (.inr (x1, ui g 0 (bor (g 0) (pw x1)))) := by unfold A_open; rw [hmf, if_neg (by omega)]
              have hsr2 : SR (ui g 0 (bor (g 0) (pw x1))) sc (ua ar 9 (ui (ar 9) x1 1)) := SR_open hsr hg0 (by omega)
              refine lv_iload_n hx hb dX2_openThread_42 rfl (lv_at hl 0 rfl) ?_
              have hfin : x1 = rs_val 0 (A_open g) := by
                rw [hA]
                rfl
              refine vx_ret ?_
              refine W.widen (k := 1) (n := 6) (Nat.le_of_ble_eq_true rfl) (Nat.le_of_ble_eq_true rfl) ?_
              exact W.iret (v := iI x1) hx hb hr (fun tt_ ht_ hW_ => ⟨⟨iI x1, (sc, (ua ar 9 (ui (ar 9) x1 1))), rfl, ⟨⟨⟨_, hA⟩, by rw [hA]; exact hsr2⟩, (congrArg iI hfin)⟩, by rw [ht_]; exact hP, hD⟩, hS.F ht_⟩) hS.2.2 dX2_openThread_43
          refine lv_iload_n hx hb dX2_openThread_22 rfl (lv_at hl 0 rfl) ?_
          refine lv_iconst (v := iI 4) hx hb dX2_openThread_23 rfl ?_
          refine n_icmp_ge (tgt := 31) hx hb dX2_openThread_24 (by decide) (by omega) (by omega) (fun c_12 => ?_) (fun c_12 => ?_)
          · refine lv_iconst (v := iI 0) hx hb dX2_openThread_31 rfl ?_
            refine n_top (y := b2 (decide (x1 < 4))) (by first | exact (b2_pos (by omega)).symm | exact (b2_neg (by omega)).symm) ?_
            exact j_8
          · refine lv_iconst (v := iI 1) hx hb dX2_openThread_27 rfl ?_
            refine lv_goto (tgt := 32) hx hb dX2_openThread_28 (by decide) ?_
            refine n_top (y := b2 (decide (x1 < 4))) (by first | exact (b2_pos (by omega)).symm | exact (b2_neg (by omega)).symm) ?_
            exact j_8
        · refine lv_iinc (v := iI (x1 + 1)) (lv' := [(1, iv (x1 + 1)), (0, .ref (o 0))]) hx hb dX2_openThread_16 hl (k := 0) rfl (iI_add _ _) (by decide) rfl (fun ls hl => ?_)
          refine lv_goto (tgt := 2) hx hb dX2_openThread_19 (by decide) ?_
          exact ihl2 (x1 + 1) (by first | omega | rfl) (by exact fnd_no (by omega) il2_1 (by simp [c_1, c_7, b2_t])) (by omega) ls (lv_sub hl [0, 1] rfl)
  exact l2 5 0 (by first | omega | rfl | trivial) (by rfl) (by omega) ls hl
set_option maxHeartbeats 1000000 in
set_option maxRecDepth 100000 in
theorem mt_X2_closeThread (l : Launch) (E : EE) (o : Nat → Nat) (sc : Nat → Int) (ar : Nat → Int → Int) (th : Int) (g : Int → Int) (hst : l.stackTraces = false) (hsr : SR g sc ar) (hth : -2147483648 ≤ th ∧ th < 2147483648) (hg0 : 0 ≤ g 0) (how : OY g) (hhh : HH g) (hpl : ∀ k, 0 ≤ k → k < g 1 → 0 ≤ m_thing g k 1 ∧ m_thing g k 1 < 2147483648) (hsc : SC g) (sz : Nat) : vx_Met l yX2_closeThread (ws_ yX2_closeThread cX2_closeThread 4 (some .int)) { frames := 8, cells := 1, slots := 6, locals := 133 } (va_Pc [.ref (o 0), iv th] (UX E (SW E o sc ar) sz)) (UQx E (fun u : SU => (∃ q, A_close g th = .inr (.inr q)) ∧ SR (rs_g g (A_close g th)) u.1 u.2) (fun u : SU => rs_val 0 (A_close g th)) (fun u : SU => SW E o u.1 u.2) (va_A (SW E o sc ar) sz)) (UXx E (fun (En : String) (u : SUX) => XC1 (nmX "java/lang/IndexOutOfBoundsException" "" "") (A_close g th) En u.2.2) (fun u : SUX => SW E o u.1 u.2.1) (fun u : SUX => u.2.2) (va_A (SW E o sc ar) sz)) 1 6 (va_A (SW E o sc ar) sz) := by
  refine vx_ofW (cc := cX2_closeThread) (maxL := 4) (ret := (some .int)) (by decide) rfl ?_
  intro p e s m args below meth c s₁ B hml htb hv
  obtain ⟨rfl, hsz, hP, hK, hD0, hE⟩ := hv
  have hx := B.exec
  have hb := B.bytes
  have hr := B.returns
  have hts := atoms_spec (ws := (ws_ yX2_closeThread cX2_closeThread 4 (some .int))) B.pre
  have hts : ∀ w ∈ lw_all, w.before _ s = true := fun w h => hts w (List.mem_cons_of_mem _ h)
  have hown : s.vm.findClass RX2 = some m.cls := findClass_of_methodNamed B.named
  have hlocks := B.notSynchronized
  subst hsz
  have hD := hD0.self (sz := s.heap.size)
  generalize hAe : va_A (SW E o sc ar) s.heap.size = A at hD hE ⊢
  have hA : ∀ q : Nat, s.heap.size ≤ q → A q := fun q h => by rw [← hAe]; exact Or.inr h
  have hS : va_S A s.heap s.heap [] := va_S.rf
  have hl := lv_entry ([.ref (o 0), iv th]) (n := 4) (Nat.le_of_ble_eq_true rfl)
  rw [lg_entry_eq]
  generalize (lg_sl ([.ref (o 0), iv th]) ++ List.replicate (4 - (lg_sl ([.ref (o 0), iv th])).length) Slot.unset).toArray = ls at hl ⊢
  have hl : lv_has ls 4 [(0, .ref (o 0)), (1, iv th)] := hl
  have hn1 := hsr.n1
  have ho1 := how.1
  have ho2 := how.2.1
  refine lv_aload_n hx hb dX2_closeThread_0 rfl (lv_at hl 0 rfl) ?_
  refine lv_iload_n hx hb dX2_closeThread_1 rfl (lv_at hl 1 rfl) ?_
  have hz_1 : s.heap.size ≤ s.heap.size := hS.1
  refine n_txvS (w2 := fun u_2 => SW E o sc ar) (w3 := fun u_3 => SW E o sc ar) (vx_runV (As := [iv th]) (rest := []) ⟨hx, hb, hml, hown, hts⟩ (mt_X2_checkThread l E o sc ar th g (by exact hst) (by omega) (by assumption) _) (cwV 1 hts (lw_V q1239 q1240 q1241 q95 q1242) rfl rfl rfl (by decide +kernel) ⟨Nat.le_of_ble_eq_true rfl, Nat.le_of_ble_eq_true rfl⟩) (UX_V hP hK (hD) hE hS (va_A_in hD hS hA) (va_recv hK.1 hP (ci := 2) (q0 := 0) rfl rfl)) rfl rfl hl.1 rfl (lv_room (Nat.le_of_ble_eq_true rfl)) dX2_closeThread_2 ⟨Nat.le_of_ble_eq_true rfl, Nat.le_of_ble_eq_true rfl⟩) hP hD hS hA [0, 1, 2, 3, 4, 5, 6, 7, 8, 9, 10, 11, 12, 13, 14, 15, 16] [] [0, 1, 2, 3, 4, 5, 6, 7, 8, 9, 10, 11, 12, 13, 14, 15, 16] [0, 1, 2, 3, 4, 5, 6, 7, 8, 9, 10, 11, 12, 13, 14, 15, 16] rfl rfl rfl rfl rfl (fun _ => rfl) rfl (fun _ => rfl) ?_ ?_
  · intro En ce q9 u_3 H locs hCx hP hD hS hxf hq9 hce hcv hcl
    have hCx : En = "java/lang/IndexOutOfBoundsException" ∧ m_opened g th = false := hCx
    have hP : va_P E.1 CL (SW E o sc ar) H := hP
    have hD : va_D A (SW E o sc ar) := hD
    exact n_out (sc, ar, none) (by exact Or.inl ⟨1, by unfold A_close; rw [if_neg (by rw [hCx.2]; decide)], hCx.1⟩) hP hD hS hxf (Nat.le_trans hz_1 hq9) hce hcv hcl (fun x hx9 => (htb x hx9).elim) hlocks (Nat.le_of_ble_eq_true rfl) (Nat.le_of_ble_eq_true rfl)
  · intro u_2 H locs hC hP hD hS
    have hu_2 : m_opened g th = true := hC
    have hP : va_P E.1 CL (SW E o sc ar) H := hP
    have hD : va_D A (SW E o sc ar) := hD
    have hop : m_opened g th = true := hu_2
    have hthr := m_opened_r hop
    refine lv_aload_n hx hb dX2_closeThread_5 rfl (lv_at hl 0 rfl) ?_
    refine va_get (D := E.1) (ci := 2) (v := .ref (o 9)) (C := RX2) (T := TX2) (N := 14) hx hb hts in_X2 hown hK.1 hP 0 rfl rfl 1 (by decide) (hts _ q191) (fun _ h9 => h9) rfl dX2_closeThread_6 ?_
    refine lv_iload_n hx hb dX2_closeThread_9 rfl (lv_at hl 1 rfl) ?_
    refine lv_iconst (v := iI 0) hx hb dX2_closeThread_10 rfl ?_
    refine n_zast (f := ar 9) hx hb hK.1 hP hD hS 9 1 rfl rfl (by omega) (by decide) (by decide) dX2_closeThread_11 (ws2 := SW E o sc (ua ar 9 (ui (ar 9) th 0))) rfl (fun H locs hP hD hS => ?_)
    obtain ⟨a_4, ea_4⟩ : ∃ zz : Int → Int, zz = ui (ar 9) th 0 := ⟨_, rfl⟩
    rw [← ea_4] at hP hD
    refine lv_iconst (v := iI 0) hx hb dX2_closeThread_12 rfl ?_
    refine lv_istore_n (lv' := [(2, iv 0), (0, .ref (o 0)), (1, iv th)]) hx hb dX2_closeThread_13 rfl hl (by decide) rfl (fun ls hl => ?_)
    refine lv_iconst (v := iI 0) hx hb dX2_closeThread_14 rfl ?_
    refine lv_istore_n (lv' := [(3, iv 0), (2, iv 0), (0, .ref (o 0)), (1, iv th)]) hx hb dX2_closeThread_15 rfl hl (by decide) rfl (fun ls hl => ?_)
    have l16 : ∀ (fu : Nat) (x2 : Int) (x3 : Int) (hv : Int → Int), (0 ≤ x3 ∧ x3 ≤ g 1 ∧ 0 ≤ x2 ∧ x2 ≤ x3) → (x2 = sumI (fun k => b2 (m_goes g th k)) x3) → (∀ x, hv x = clA g th (ar 12) x3 x) → (g 1 - x3 < (fu : Int)) → ∀ (H : Heap) (locs : List Loc), va_P E.1 CL (SW E o sc (ua (ua ar 9 a_4) 12 hv)) H → va_D A (SW E o sc (ua (ua ar 9 a_4) 12 hv)) → va_S A s.heap H locs → ∀ ls : Array Slot, lv_has ls 4 [(3, iv x3), (2, iv x2), (0, .ref (o 0)), (1, iv th)] → W p l e (headSpec (ws_ yX2_closeThread cX2_closeThread 4 (some .int)) { frames := 8, cells := 1, slots := 6, locals := 133 }).room s m ([.ref (o 0), iv th] : List Value).toArray below meth c H locs 1 6 (vx_MQ below (UQx E (fun u : SU => (∃ q, A_close g th = .inr (.inr q)) ∧ SR (rs_g g (A_close g th)) u.1 u.2) (fun u : SU => rs_val 0 (A_close g th)) (fun u : SU => SW E o u.1 u.2) A) (UXx E (fun (En : String) (u : SUX) => XC1 (nmX "java/lang/IndexOutOfBoundsException" "" "") (A_close g th) En u.2.2) (fun u : SUX => SW E o u.1 u.2.1) (fun u : SUX => u.2.2) A) ([.ref (o 0), iv th] : List Value).toArray s 1 6 A) (F0 m 16 ls []) := by
      intro fu
      induction fu with
      | zero =>
        intro x2 x3 hv il16_0 il16_1 il16_2 hm
        exfalso; omega
      | succ fu ih =>
        intro x2 x3 hv il16_0 il16_1 il16_2 hm H locs hP hD hS ls hl
        have ihl16 := ih
        have hob := how.2.2 x3
        refine lv_iload_n hx hb dX2_closeThread_16 rfl (lv_at hl 0 rfl) ?_
        refine lv_aload_n hx hb dX2_closeThread_17 rfl (lv_at hl 2 rfl) ?_
        refine va_get (D := E.1) (ci := 2) (v := iv (sc 2)) (C := RX2) (T := TX2) (N := 14) hx hb hts in_X2 hown hK.1 hP 0 rfl rfl 2 (by decide) (hts _ q193) (fun _ h9 => h9) rfl dX2_closeThread_18 ?_
        refine n_icmp_ge (tgt := 78) hx hb dX2_closeThread_21 (by decide) (by omega) (by omega) (fun c_5 => ?_) (fun c_5 => ?_)
        · have hx3 : x3 = g 1 := by omega
          have hhv : hv = clA g th (ar 12) (g 1) := by funext x; rw [← hx3]; exact il16_2 x
          have hA : A_close g th = .inr (.inr (x2, s_close g th)) := by unfold A_close; rw [if_pos hop, il16_1, hx3]
          have hsr2 : SR (s_close g th) sc (ua (ua ar 9 a_4) 12 hv) := by rw [hhv, ea_4]; exact SR_close hsr hg0 (by omega) hop
          refine lv_iload_n hx hb dX2_closeThread_78 rfl (lv_at hl 1 rfl) ?_
          have hfin : x2 = rs_val 0 (A_close g th) := by
            rw [hA]
            rfl
          refine vx_ret ?_
          refine W.widen (k := 1) (n := 6) (Nat.le_of_ble_eq_true rfl) (Nat.le_of_ble_eq_true rfl) ?_
          exact W.iret (v := iI x2) hx hb hr (fun tt_ ht_ hW_ => ⟨⟨iI x2, (sc, (ua (ua ar 9 a_4) 12 hv)), rfl, ⟨⟨⟨_, hA⟩, by rw [hA]; exact hsr2⟩, (congrArg iI hfin)⟩, by rw [ht_]; exact hP, hD⟩, hS.F ht_⟩) hS.2.2 dX2_closeThread_79
        · refine lv_aload_n hx hb dX2_closeThread_24 rfl (lv_at hl 2 rfl) ?_
          refine va_get (D := E.1) (ci := 2) (v := .ref (o 12)) (C := RX2) (T := TX2) (N := 14) hx hb hts in_X2 hown hK.1 hP 0 rfl rfl 5 (by decide) (hts _ q199) (fun _ h9 => h9) rfl dX2_closeThread_25 ?_
          refine lv_iload_n hx hb dX2_closeThread_28 rfl (lv_at hl 0 rfl) ?_
          refine n_zald (f := hv) hx hb hK.1 hP 12 1 rfl rfl (by omega) (by decide) dX2_closeThread_29 ?_
          rw [show hv x3 = b2 (m_here g x3) from by rw [il16_2 x3]; unfold clA; rw [if_neg (by omega)]; exact hsr.her (k := x3) (by omega)]
          refine n_ifb_eq (tgt := 72) hx hb dX2_closeThread_30 (by decide) (fun c_6 => ?_) (fun c_6 => ?_)
          · have hgo : m_goes g th x3 = false := by unfold m_goes; simp [c_5, c_6]
            have hgn : ∀ x, hv x = clA g th (ar 12) (x3 + 1) x := by
              intro x
              have q1 := il16_2 x
              unfold clA at q1 ⊢
              rw [q1]
              by_cases hy : (0 ≤ x ∧ x < x3) ∧ m_goes g th x = true
              · rw [if_pos hy, if_pos ⟨by omega, hy.2⟩]
              · rw [if_neg hy, if_neg (fun h => hy ⟨by (have : x ≠ x3 := fun h9 => by rw [h9, hgo] at h; exact absurd h.2 (by decide)); omega, h.2⟩)]
            refine lv_iinc (v := iI (x3 + 1)) (lv' := [(3, iv (x3 + 1)), (2, iv x2), (0, .ref (o 0)), (1, iv th)]) hx hb dX2_closeThread_72 hl (k := 0) rfl (iI_add _ _) (by decide) rfl (fun ls hl => ?_)
            refine lv_goto (tgt := 16) hx hb dX2_closeThread_75 (by decide) ?_
            exact ihl16 x2 (x3 + 1) hv (by first | omega | rfl) (by rw [sumI_s (by omega), ← il16_1, hgo]; first | rfl | (show x2 = x2 + 0; omega)) (by exact hgn) (by omega) H locs hP hD hS ls (lv_sub hl [0, 1, 2, 3] rfl)
          · refine lv_aload_n hx hb dX2_closeThread_33 rfl (lv_at hl 2 rfl) ?_
            refine va_get (D := E.1) (ci := 2) (v := .ref (o 11)) (C := RX2) (T := TX2) (N := 14) hx hb hts in_X2 hown hK.1 hP 0 rfl rfl 4 (by decide) (hts _ q197) (fun _ h9 => h9) rfl dX2_closeThread_34 ?_
            refine lv_iload_n hx hb dX2_closeThread_37 rfl (lv_at hl 0 rfl) ?_
            refine n_iald (f := ar 11) hx hb hK.1 hP 11 0 rfl rfl (by omega) (by decide) dX2_closeThread_38 ?_
            rw [hsr.plc (k := x3) (by omega)]
            refine lv_iload_n hx hb dX2_closeThread_39 rfl (lv_at hl 3 rfl) ?_
            have b_7 := hpl x3 (by omega) (by omega)
            refine n_icmp_ne (tgt := 72) hx hb dX2_closeThread_40 (by decide) (by omega) (by omega) (fun c_8 => ?_) (fun c_8 => ?_)
            · have hgo : m_goes g th x3 = false := by unfold m_goes; simp [c_5, c_6, c_8]
              have hgn : ∀ x, hv x = clA g th (ar 12) (x3 + 1) x := by
                intro x
                have q1 := il16_2 x
                unfold clA at q1 ⊢
                rw [q1]
                by_cases hy : (0 ≤ x ∧ x < x3) ∧ m_goes g th x = true
                · rw [if_pos hy, if_pos ⟨by omega, hy.2⟩]
                · rw [if_neg hy, if_neg (fun h => hy ⟨by (have : x ≠ x3 := fun h9 => by rw [h9, hgo] at h; exact absurd h.2 (by decide)); omega, h.2⟩)]
              refine lv_iinc (v := iI (x3 + 1)) (lv' := [(3, iv (x3 + 1)), (2, iv x2), (0, .ref (o 0)), (1, iv th)]) hx hb dX2_closeThread_72 hl (k := 0) rfl (iI_add _ _) (by decide) rfl (fun ls hl => ?_)
              refine lv_goto (tgt := 16) hx hb dX2_closeThread_75 (by decide) ?_
              exact ihl16 x2 (x3 + 1) hv (by first | omega | rfl) (by rw [sumI_s (by omega), ← il16_1, hgo]; first | rfl | (show x2 = x2 + 0; omega)) (by exact hgn) (by omega) H locs hP hD hS ls (lv_sub hl [0, 1, 2, 3] rfl)
            · have hob2 := (hob (by omega) (by omega)).1
              have hha : m_has g (m_thing g x3 0) = true := hhh x3 (by omega) (by omega) (by assumption)
              have hs4 := hsc (m_thing g x3 0) (by omega) (by omega)
              refine lv_aload_n hx hb dX2_closeThread_43 rfl (lv_at hl 2 rfl) ?_
              refine va_get (D := E.1) (ci := 2) (v := .ref (o 1)) (C := RX2) (T := TX2) (N := 14) hx hb hts in_X2 hown hK.1 hP 0 rfl rfl 0 (by decide) (hts _ q188) (fun _ h9 => h9) rfl dX2_closeThread_44 ?_
              refine va_getN (D := E.1) (ci := 3) (v := .ref (o 3)) (C := RX3) (T := TX3) (N := 7) hx hb hts in_X3 hown hK.1 hP 1 rfl rfl 1 (by decide) (hK.nw q158) (fun _ h9 => h9) rfl dX2_closeThread_47 ?_
              refine lv_aload_n hx hb dX2_closeThread_50 rfl (lv_at hl 2 rfl) ?_
              refine va_get (D := E.1) (ci := 2) (v := .ref (o 10)) (C := RX2) (T := TX2) (N := 14) hx hb hts in_X2 hown hK.1 hP 0 rfl rfl 3 (by decide) (hts _ q195) (fun _ h9 => h9) rfl dX2_closeThread_51 ?_
              refine lv_iload_n hx hb dX2_closeThread_54 rfl (lv_at hl 0 rfl) ?_
              refine n_iald (f := ar 10) hx hb hK.1 hP 10 0 rfl rfl (by omega) (by decide) dX2_closeThread_55 ?_
              rw [hsr.kind (k := x3) (by omega)]
              have b_9 := (how.2.2 x3 (by omega) (by omega)).1
              refine n_cald (f := ar 3) hx hb hK.1 hP 3 2 rfl rfl (by omega) (by decide) dX2_closeThread_56 ?_
              rw [hsr.br.sco (t := m_thing g x3 0) (by omega) (by first | assumption | exact HN_pos hhn (t := m_thing g x3 0) (by omega) (by omega))]
              refine lv_bipush (v := iI 115) hx hb dX2_closeThread_57 (by decide) ?_
              have b_10 := hsc (m_thing g x3 0) (by omega) (by omega)
              refine n_icmp_eq (tgt := 72) hx hb dX2_closeThread_59 (by decide) (by omega) (by omega) (fun c_11 => ?_) (fun c_11 => ?_)
              · have hgo : m_goes g th x3 = false := by unfold m_goes; simp [c_5, c_6, c_8, c_11]
                have hgn : ∀ x, hv x = clA g th (ar 12) (x3 + 1) x := by
                  intro x
                  have q1 := il16_2 x
                  unfold clA at q1 ⊢
                  rw [q1]
                  by_cases hy : (0 ≤ x ∧ x < x3) ∧ m_goes g th x = true
                  · rw [if_pos hy, if_pos ⟨by omega, hy.2⟩]
                  · rw [if_neg hy, if_neg (fun h => hy ⟨by (have : x ≠ x3 := fun h9 => by rw [h9, hgo] at h; exact absurd h.2 (by decide)); omega, h.2⟩)]
                refine lv_iinc (v := iI (x3 + 1)) (lv' := [(3, iv (x3 + 1)), (2, iv x2), (0, .ref (o 0)), (1, iv th)]) hx hb dX2_closeThread_72 hl (k := 0) rfl (iI_add _ _) (by decide) rfl (fun ls hl => ?_)
                refine lv_goto (tgt := 16) hx hb dX2_closeThread_75 (by decide) ?_
                exact ihl16 x2 (x3 + 1) hv (by first | omega | rfl) (by rw [sumI_s (by omega), ← il16_1, hgo]; first | rfl | (show x2 = x2 + 0; omega)) (by exact hgn) (by omega) H locs hP hD hS ls (lv_sub hl [0, 1, 2, 3] rfl)
              · refine lv_aload_n hx hb dX2_closeThread_62 rfl (lv_at hl 2 rfl) ?_
                refine va_get (D := E.1) (ci := 2) (v := .ref (o 12)) (C := RX2) (T := TX2) (N := 14) hx hb hts in_X2 hown hK.1 hP 0 rfl rfl 5 (by decide) (hts _ q199) (fun _ h9 => h9) rfl dX2_closeThread_63 ?_
                refine lv_iload_n hx hb dX2_closeThread_66 rfl (lv_at hl 0 rfl) ?_
                refine lv_iconst (v := iI 0) hx hb dX2_closeThread_67 rfl ?_
                refine n_zast (f := hv) hx hb hK.1 hP hD hS 12 1 rfl rfl (by omega) (by decide) (by decide) dX2_closeThread_68 (ws2 := SW E o sc (ua (ua ar 9 a_4) 12 (ui hv x3 0))) rfl (fun H locs hP hD hS => ?_)
                obtain ⟨a_12, ea_12⟩ : ∃ zz : Int → Int, zz = ui hv x3 0 := ⟨_, rfl⟩
                rw [← ea_12] at hP hD
                refine lv_iinc (v := iI (x2 + 1)) (lv' := [(2, iv (x2 + 1)), (3, iv x3), (0, .ref (o 0)), (1, iv th)]) hx hb dX2_closeThread_69 hl (k := 1) rfl (iI_add _ _) (by decide) rfl (fun ls hl => ?_)
                have hgo : m_goes g th x3 = true := by unfold m_goes; simp [c_5, c_6, c_8, c_11]
                have hgn : ∀ x, a_12 x = clA g th (ar 12) (x3 + 1) x := by
                  intro x
                  have q1 := il16_2 x
                  unfold clA at q1 ⊢
                  rw [ea_12]
                  unfold ui
                  by_cases hx : x = x3
                  · rw [if_pos hx, if_pos ⟨by omega, by rw [hx]; exact hgo⟩]
                  · rw [if_neg hx, q1]; by_cases hy : (0 ≤ x ∧ x < x3) ∧ m_goes g th x = true
                    · rw [if_pos hy, if_pos ⟨by omega, hy.2⟩]
                    · rw [if_neg hy, if_neg (fun h => hy ⟨by omega, h.2⟩)]
                refine lv_iinc (v := iI (x3 + 1)) (lv' := [(3, iv (x3 + 1)), (2, iv (x2 + 1)), (0, .ref (o 0)), (1, iv th)]) hx hb dX2_closeThread_72 hl (k := 1) rfl (iI_add _ _) (by decide) rfl (fun ls hl => ?_)
                refine lv_goto (tgt := 16) hx hb dX2_closeThread_75 (by decide) ?_
                exact ihl16 (x2 + 1) (x3 + 1) a_12 (by first | omega | rfl) (by rw [sumI_s (by omega), ← il16_1, hgo]; first | rfl | (show x2 = x2 + 0; omega)) (by exact hgn) (by omega) H locs hP hD hS ls (lv_sub hl [0, 1, 2, 3] rfl)
    exact l16 161 0 0 (ar 12) (by first | omega | rfl | trivial) (by rfl) (by intro x; unfold clA; rw [if_neg (by omega)]) (by omega) H locs hP hD hS ls hl
