set_option maxHeartbeats 2000000 in
set_option maxRecDepth 100000 in
theorem mt_X2_getOrRefuse (l : Launch) (E : EE) (o : Nat → Nat) (sc : Nat → Int) (ar : Nat → Int → Int) (t : Int) (th : Int) (g : Int → Int) (r : Int → Nat) (fl : Int → Int) (hst : l.stackTraces = false) (hsr : SR g sc ar) (ht : 0 ≤ t ∧ t < 8) (hth : 0 ≤ th ∧ th ≤ 3) (htw : TW g) (hsw : SwOK g) (htm : TM g) (hhn : HN g) (hsc : SC g) (hrk : RK g r) (hr8 : ∀ t, 0 ≤ t → t < 8 → r t < 8) (how : OY g) (h60 : g 1 ≤ 60) (hfit : g 1 + (m_dues g t th).1 ≤ 160) (sz : Nat) : vx_Met l yX2_getOrRefuse (ws_ yX2_getOrRefuse cX2_getOrRefuse 5 (some .int)) { frames := 20, cells := 2, slots := 13, locals := 624 } (va_Pc [.ref (o 0), iv t, iv th] (UX E (SW E o sc ar) sz)) (UQx E (fun u : SU => (∃ q, A_gor g fl t th = .inr (.inr q)) ∧ SR (rs_g g (A_gor g fl t th)) u.1 u.2) (fun u : SU => rs_val 0 (A_gor g fl t th)) (fun u : SU => SW E o u.1 u.2) (va_A (SW E o sc ar) sz)) (UXx E (fun (En : String) (u : SUX) => XC1 (fun _ => "") (A_gor g fl t th) En u.2.2) (fun u : SUX => SW E o u.1 u.2.1) (fun u : SUX => u.2.2) (va_A (SW E o sc ar) sz)) 2 13 (va_A (SW E o sc ar) sz) := by
  refine vx_ofW (cc := cX2_getOrRefuse) (maxL := 5) (ret := (some .int)) (by decide) rfl ?_
  intro p e s m args below meth c s₁ B hml htb hv
  obtain ⟨rfl, hsz, hP, hK, hD0, hE⟩ := hv
  have hx := B.exec
  have hb := B.bytes
  have hr := B.returns
  have hts := atoms_spec (ws := (ws_ yX2_getOrRefuse cX2_getOrRefuse 5 (some .int))) B.pre
  have hts : ∀ w ∈ lw_all, w.before _ s = true := fun w h => hts w (List.mem_cons_of_mem _ h)
  have hown : s.vm.findClass RX2 = some m.cls := findClass_of_methodNamed B.named
  have hlocks := B.notSynchronized
  subst hsz
  have hD := hD0.self (sz := s.heap.size)
  generalize hAe : va_A (SW E o sc ar) s.heap.size = A at hD hE ⊢
  have hA : ∀ q : Nat, s.heap.size ≤ q → A q := fun q h => by rw [← hAe]; exact Or.inr h
  have hS : va_S A s.heap s.heap [] := va_S.rf
  have hl := lv_entry ([.ref (o 0), iv t, iv th]) (n := 5) (Nat.le_of_ble_eq_true rfl)
  rw [lg_entry_eq]
  generalize (lg_sl ([.ref (o 0), iv t, iv th]) ++ List.replicate (5 - (lg_sl ([.ref (o 0), iv t, iv th])).length) Slot.unset).toArray = ls at hl ⊢
  have hl : lv_has ls 5 [(0, .ref (o 0)), (1, iv t), (2, iv th)] := hl
  have hn1 := hsr.n1
  have ho1 := how.1
  have ho2 := how.2.1
  have hpl := how.pl
  have hbr := hsr.br
  have hz9_q_1 : s.heap.size ≤ (s.heap).size := hS.1
  refine n_newK (ci := 7) (fs := [.null, iv 0, iv 0, iv 0]) (C := RX8) (T := TX8) (N := 4) hx hb hts in_X8 tyX8 tyX8_ok hown (hts _ q775) (hts _ q776) (hts _ q124) hK hP hD hS hA rfl (fun j hj => by rcases (show j = 0 ∨ j = 1 ∨ j = 2 ∨ j = 3 by omega) with rfl | rfl | rfl | rfl <;> rfl) (Nat.le_of_ble_eq_true rfl) (Nat.le_of_ble_eq_true rfl) dX2_getOrRefuse_0 (fun q_1 H hfr_q_1 o_2 hsz_q_1 hP hD hS => ?_)
  have hge_q_1 : s.heap.size ≤ q_1 := Nat.le_trans hz9_q_1 hsz_q_1
  have hP : va_P E.1 CL ((SW E o sc ar) ++ ([(q_1, .inr (7, [.null, iv 0, iv 0, iv 0]))])) H := hP
  have hD : va_D A ((SW E o sc ar) ++ ([(q_1, .inr (7, [.null, iv 0, iv 0, iv 0]))])) := hD
  refine lv_dup hx hb dX2_getOrRefuse_3 rfl ?_
  refine lv_aload_n hx hb dX2_getOrRefuse_4 rfl (lv_at hl 0 rfl) ?_
  refine lv_iload_n hx hb dX2_getOrRefuse_5 rfl (lv_at hl 2 rfl) ?_
  refine n_cuxvS (w2 := fun u_3 => (SW E o sc ar) ++ ([(q_1, .inr (7, [.ref (o 0), iv th, iv (bsI u_3), iv 0]))])) (va_runI (As := [.ref (o 0), iv th]) (rest := [.ref q_1]) ⟨hx, hb, hml, hown, hts⟩ (mt_X8_init l E q_1 o sc ar th g (by omega) (by assumption) (by assumption) (by assumption) (by assumption) _) (n_cwI 2 hts q777 q778 q124 q779 rfl rfl rfl (by decide +kernel) ⟨Nat.le_of_ble_eq_true rfl, Nat.le_of_ble_eq_true rfl⟩) (UW_S (hP.sub (ws' := ([(q_1, .inr (7, [.null, iv 0, iv 0, iv 0]))]) ++ (SW E o sc ar)) [17, 0, 1, 2, 3, 4, 5, 6, 7, 8, 9, 10, 11, 12, 13, 14, 15, 16] rfl) hK (hD.sub (ws' := ([(q_1, .inr (7, [.null, iv 0, iv 0, iv 0]))]) ++ (SW E o sc ar)) [17, 0, 1, 2, 3, 4, 5, 6, 7, 8, 9, 10, 11, 12, 13, 14, 15, 16] rfl rfl)) rfl rfl hl.1 rfl (lv_room (Nat.le_of_ble_eq_true rfl)) dX2_getOrRefuse_6 ⟨Nat.le_of_ble_eq_true rfl, Nat.le_of_ble_eq_true rfl⟩) hP hD hS hA [17, 0, 1, 2, 3, 4, 5, 6, 7, 8, 9, 10, 11, 12, 13, 14, 15, 16] [] [1, 2, 3, 4, 5, 6, 7, 8, 9, 10, 11, 12, 13, 14, 15, 16, 17, 0] rfl rfl rfl rfl rfl (fun _ => rfl) (fun u_3 H locs hu_3 hP hD hS => ?_)
  have hu_3 : ∀ v, 0 ≤ v → v < 8 → m_has g v = true → u_3 v = (decide (0 ≤ m_exist g v th) || (fun _ => false : Int → Bool) v) := hu_3
  have hP : va_P E.1 CL ((SW E o sc ar) ++ ([(q_1, .inr (7, [.ref (o 0), iv th, iv (bsI u_3), iv 0]))])) H := hP
  have hD : va_D A ((SW E o sc ar) ++ ([(q_1, .inr (7, [.ref (o 0), iv th, iv (bsI u_3), iv 0]))])) := hD
  refine lv_iload_n hx hb dX2_getOrRefuse_9 rfl (lv_at hl 1 rfl) ?_
  have hr9 := hr8 (m_stands g t) (m_stands_r hsw ht).1 (m_stands_r hsw ht).2
  refine n_cuxS (x := fun u_4 => (m_cnt g th 8 t ((fun _ => false), -1)).2.2) (w2 := fun u_4 => (SW E o sc ar) ++ ([(q_1, .inr (7, [.ref (o 0), iv th, iv (bsI u_4.1), iv u_4.2]))])) (va_runV (As := [iv t]) (rest := []) ⟨hx, hb, hml, hown, hts⟩ (mt_X8_missing l E 8 q_1 th u_3 0 o sc ar t g r (fun _ => false) (by omega) (by first | assumption | exact hsr.br) (by assumption) (by assumption) (by assumption) (by assumption) (by assumption) (by exact hr9) (by omega) (by exact hu_3) _) (cwV 1 hts (lw_V q798 q799 q800 q124 q801) rfl rfl rfl (by decide +kernel) ⟨Nat.le_of_ble_eq_true rfl, Nat.le_of_ble_eq_true rfl⟩) (UW_V (hP.sub (ws' := ([(q_1, .inr (7, [.ref (o 0), iv th, iv (bsI u_3), iv 0]))]) ++ (SW E o sc ar)) [17, 0, 1, 2, 3, 4, 5, 6, 7, 8, 9, 10, 11, 12, 13, 14, 15, 16] rfl) hK (hD.sub (ws' := ([(q_1, .inr (7, [.ref (o 0), iv th, iv (bsI u_3), iv 0]))]) ++ (SW E o sc ar)) [17, 0, 1, 2, 3, 4, 5, 6, 7, 8, 9, 10, 11, 12, 13, 14, 15, 16] rfl rfl) (va_recv hK.1 hP (ci := 7) (q0 := 17) rfl rfl)) rfl rfl hl.1 rfl (lv_room (Nat.le_of_ble_eq_true rfl)) dX2_getOrRefuse_10 ⟨Nat.le_of_ble_eq_true rfl, Nat.le_of_ble_eq_true rfl⟩) hP hD hS hA [17, 0, 1, 2, 3, 4, 5, 6, 7, 8, 9, 10, 11, 12, 13, 14, 15, 16] [] [1, 2, 3, 4, 5, 6, 7, 8, 9, 10, 11, 12, 13, 14, 15, 16, 17, 0] rfl rfl rfl rfl rfl (fun _ => rfl) (fun u_4 H locs hu_4 hP hD hS => ?_)
  have hu_4 : (m_cnt g th 8 t ((fun _ => false), -1)).2.2 = -1 → (∀ v, 0 ≤ v → v < 8 → m_has g v = true → u_4.1 v = (decide (0 ≤ m_exist g v th) || (m_cnt g th 8 t ((fun _ => false), -1)).2.1 v)) ∧ u_4.2 = 0 + (m_cnt g th 8 t ((fun _ => false), -1)).1 := hu_4
  have hP : va_P E.1 CL ((SW E o sc ar) ++ ([(q_1, .inr (7, [.ref (o 0), iv th, iv (bsI u_4.1), iv u_4.2]))])) H := hP
  have hD : va_D A ((SW E o sc ar) ++ ([(q_1, .inr (7, [.ref (o 0), iv th, iv (bsI u_4.1), iv u_4.2]))])) := hD
  have hdu := m_dues_r (th := th) htw hsw ht
  refine n_top (y := (m_dues g t th).2.2) (by rfl) ?_
  refine lv_istore_n (lv' := [(3, iv ((m_dues g t th).2.2)), (0, .ref (o 0)), (1, iv t), (2, iv th)]) hx hb dX2_getOrRefuse_13 rfl hl (by decide) rfl (fun ls hl => ?_)
  refine lv_iload_n hx hb dX2_getOrRefuse_14 rfl (lv_at hl 0 rfl) ?_
  refine lv_iconst (v := iI (-1)) hx hb dX2_getOrRefuse_15 rfl ?_
  refine n_icmp_eq (tgt := 23) hx hb dX2_getOrRefuse_16 (by decide) (by omega) (by omega) (fun c_5 => ?_) (fun c_5 => ?_)
  · refine lv_iconst (v := iI 0) hx hb dX2_getOrRefuse_23 rfl ?_
    refine lv_iconst (v := iI 5) hx hb dX2_getOrRefuse_24 rfl ?_
    refine lv_iload_n hx hb dX2_getOrRefuse_25 rfl (lv_at hl 0 rfl) ?_
    refine n_csv ((va_runSN (As := [iv 0, iv 5, iv ((m_dues g t th).2.2)]) (rest := []) ⟨hx, hb, hml, hown, hts⟩ (mt_X1_refuseNo l E false 5 ((m_dues g t th).2.2) (by first | assumption | rfl)) ⟨(va_cnB 3 hts (lw_meth q814) rfl rfl rfl (hK.nv q812) (hts _ q94) (by decide +kernel) ⟨Nat.le_of_ble_eq_true rfl, Nat.le_of_ble_eq_true rfl⟩), hts _ q813, trivial⟩ (PW_S (hP.sub (ws' := []) [] rfl) hK) rfl rfl hl.1 rfl (lv_room (Nat.le_of_ble_eq_true rfl)) dX2_getOrRefuse_26 ⟨Nat.le_of_ble_eq_true rfl, Nat.le_of_ble_eq_true rfl⟩).run) ?_
    have hm9 : (m_dues g t th).2.2 < 0 := by omega
    have hsg0 := hsr.sg
    have hmade := get_made (fl := (fun x => ar 16 x + 1)) htw hsw how.1 ht hm9
    have hfit9 : (m_get g th 8 t 0 (g, (fun x => ar 16 x + 1))).2.1 1 ≤ 160 := by rw [hmade]; exact hfit
    refine lv_aload_n hx hb dX2_getOrRefuse_29 rfl (lv_at hl 1 rfl) ?_
    refine lv_iload_n hx hb dX2_getOrRefuse_30 rfl (lv_at hl 2 rfl) ?_
    refine lv_iload_n hx hb dX2_getOrRefuse_31 rfl (lv_at hl 3 rfl) ?_
    refine n_cuxS (x := fun u_6 => (m_get g th 8 t 0 (g, (fun x => ar 16 x + 1))).1) (w2 := fun u_6 => (SW E o u_6.1 u_6.2) ++ ([(q_1, .inr (7, [.ref (o 0), iv th, iv (bsI u_4.1), iv u_4.2]))])) (va_runV (As := [iv t, iv th]) (rest := []) ⟨hx, hb, hml, hown, hts⟩ (mt_X2_get l E 8 o sc ar t th g r g (fun x => ar 16 x + 1) 0 (fun _ => false) (by omega) (by omega) (by exact hsg0) (by exact TE_rf g) (by assumption) (by assumption) (by assumption) (by assumption) (by assumption) (by assumption) (by exact hr9) (by omega) (by assumption) (by exact RF_rf how.1) (by exact hm9) (by exact hfit9) _) (cwV 2 hts (lw_V q807 q809 qs14 q95 q810) rfl rfl rfl (by decide +kernel) ⟨(show 3 + 2 * 8 + 1 ≤ 20 by omega), (show 8 + (5 + 11) + (200 + 50 * 8) ≤ 624 by omega)⟩) (UW_V (hP.sub (ws' := SW E o sc ar) [0, 1, 2, 3, 4, 5, 6, 7, 8, 9, 10, 11, 12, 13, 14, 15, 16] rfl) hK (hD.sub (ws' := SW E o sc ar) [0, 1, 2, 3, 4, 5, 6, 7, 8, 9, 10, 11, 12, 13, 14, 15, 16] rfl rfl) (va_recv hK.1 hP (ci := 2) (q0 := 0) rfl rfl)) rfl rfl hl.1 rfl (lv_room (Nat.le_of_ble_eq_true rfl)) dX2_getOrRefuse_32 ⟨Nat.le_of_ble_eq_true rfl, Nat.le_of_ble_eq_true rfl⟩) hP hD hS hA [0, 1, 2, 3, 4, 5, 6, 7, 8, 9, 10, 11, 12, 13, 14, 15, 16] [17] [1, 2, 3, 4, 5, 6, 7, 8, 9, 10, 11, 12, 13, 14, 15, 16, 17, 0] rfl rfl rfl rfl rfl (fun _ => rfl) (fun u_6 H locs hu_6 hP hD hS => ?_)
    have hu_6 : SG g (m_get g th 8 t 0 (g, (fun x => ar 16 x + 1))).2.1 (m_get g th 8 t 0 (g, (fun x => ar 16 x + 1))).2.2 0 u_6.1 u_6.2 := hu_6
    have hP : va_P E.1 CL ((SW E o u_6.1 u_6.2) ++ ([(q_1, .inr (7, [.ref (o 0), iv th, iv (bsI u_4.1), iv u_4.2]))])) H := hP
    have hD : va_D A ((SW E o u_6.1 u_6.2) ++ ([(q_1, .inr (7, [.ref (o 0), iv th, iv (bsI u_4.1), iv u_4.2]))])) := hD
    have hsg9 := hu_6
    have hte9 := get_te (fl := (fun x => ar 16 x + 1)) htw hsw how.1 ht hm9
    have hn9 := hsg9.n1.1
    refine lv_istore (lv' := [(4, iv ((m_get g th 8 t 0 (g, (fun x => ar 16 x + 1))).1)), (3, iv ((m_dues g t th).2.2)), (0, .ref (o 0)), (1, iv t), (2, iv th)]) hx hb dX2_getOrRefuse_35 hl (by decide) rfl (fun ls hl => ?_)
    refine lv_aload_n hx hb dX2_getOrRefuse_37 rfl (lv_at hl 2 rfl) ?_
    refine va_get (D := E.1) (ci := 2) (v := iv (u_6.1 2)) (C := RX2) (T := TX2) (N := 14) hx hb hts in_X2 hown hK.1 hP 0 rfl rfl 2 (by decide) (hts _ q193) (fun _ h9 => h9) rfl dX2_getOrRefuse_38 ?_
    refine n_top (y := (m_get g th 8 t 0 (g, (fun x => ar 16 x + 1))).2.1 1) (by exact hn9) ?_
    refine lv_bipush (v := iI 60) hx hb dX2_getOrRefuse_41 (by decide) ?_
    refine n_icmp_le (tgt := 50) hx hb dX2_getOrRefuse_43 (by decide) (by omega) (by omega) (fun c_7 => ?_) (fun c_7 => ?_)
    · refine lv_iconst (v := iI 0) hx hb dX2_getOrRefuse_50 rfl ?_
      refine lv_bipush (v := iI 6) hx hb dX2_getOrRefuse_51 (by decide) ?_
      refine lv_bipush (v := iI 60) hx hb dX2_getOrRefuse_53 (by decide) ?_
      refine n_csv ((va_runSN (As := [iv 0, iv 6, iv 60]) (rest := []) ⟨hx, hb, hml, hown, hts⟩ (mt_X1_refuseNo l E false 6 60 (by first | assumption | rfl)) ⟨(va_cnB 3 hts (lw_meth q814) rfl rfl rfl (hK.nv q812) (hts _ q94) (by decide +kernel) ⟨Nat.le_of_ble_eq_true rfl, Nat.le_of_ble_eq_true rfl⟩), hts _ q813, trivial⟩ (PW_S (hP.sub (ws' := []) [] rfl) hK) rfl rfl hl.1 rfl (lv_room (Nat.le_of_ble_eq_true rfl)) dX2_getOrRefuse_55 ⟨Nat.le_of_ble_eq_true rfl, Nat.le_of_ble_eq_true rfl⟩).run) ?_
      have hA : A_gor g fl t th = .inr (.inr ((m_get g th 8 t 0 (g, (fun x => ar 16 x + 1))).1, (m_get g th 8 t 0 (g, (fun x => ar 16 x + 1))).2.1)) := (gor_fl htw hsw ht fl (fun x => ar 16 x + 1)).trans (gor_ok (by omega) (by omega))
      have hsr2 : SR (m_get g th 8 t 0 (g, (fun x => ar 16 x + 1))).2.1 u_6.1 u_6.2 := hsg9.sr hte9
      refine lv_iload hx hb dX2_getOrRefuse_58 (lv_at hl 0 rfl) ?_
      have hfin : (m_get g th 8 t 0 (g, (fun x => ar 16 x + 1))).1 = rs_val 0 (A_gor g fl t th) := by
        rw [hA]
        rfl
      have hP := hP.sub (ws' := SW E o u_6.1 u_6.2) [0, 1, 2, 3, 4, 5, 6, 7, 8, 9, 10, 11, 12, 13, 14, 15, 16] rfl
      have hD := hD.sub (ws' := SW E o u_6.1 u_6.2) [0, 1, 2, 3, 4, 5, 6, 7, 8, 9, 10, 11, 12, 13, 14, 15, 16] (by decide) rfl
      refine vx_ret ?_
      refine W.widen (k := 2) (n := 13) (Nat.le_of_ble_eq_true rfl) (Nat.le_of_ble_eq_true rfl) ?_
      exact W.iret (v := iI ((m_get g th 8 t 0 (g, (fun x => ar 16 x + 1))).1)) hx hb hr (fun tt_ ht_ hW_ => ⟨⟨iI ((m_get g th 8 t 0 (g, (fun x => ar 16 x + 1))).1), (u_6.1, u_6.2), rfl, ⟨⟨⟨_, hA⟩, by rw [hA]; exact hsr2⟩, (congrArg iI hfin)⟩, by rw [ht_]; exact hP, hD⟩, hS.F ht_⟩) hS.2.2 dX2_getOrRefuse_60
    · refine lv_iconst (v := iI 1) hx hb dX2_getOrRefuse_46 rfl ?_
      refine lv_goto (tgt := 51) hx hb dX2_getOrRefuse_47 (by decide) ?_
      refine lv_bipush (v := iI 6) hx hb dX2_getOrRefuse_51 (by decide) ?_
      refine lv_bipush (v := iI 60) hx hb dX2_getOrRefuse_53 (by decide) ?_
      have hz_8 : s.heap.size ≤ H.size := hS.1
      refine n_txvS (w2 := fun u_9 => (SW E o u_6.1 u_6.2) ++ ([(q_1, .inr (7, [.ref (o 0), iv th, iv (bsI u_4.1), iv u_4.2]))])) (w3 := fun u_10 => (SW E o u_6.1 u_6.2) ++ ([(q_1, .inr (7, [.ref (o 0), iv th, iv (bsI u_4.1), iv u_4.2]))])) (vx_runSN (As := [iv 1, iv 6, iv 60]) (rest := []) ⟨hx, hb, hml, hown, hts⟩ (mt_X1_refuseIf l E true 6 60 (by exact hst) _) ⟨(va_cnB 3 hts (lw_meth q814) rfl rfl rfl (hK.nv q812) (hts _ q94) (by decide +kernel) ⟨Nat.le_of_ble_eq_true rfl, Nat.le_of_ble_eq_true rfl⟩), hts _ q813, trivial⟩ (UX_S (hP.sub (ws' := []) [] rfl) hK (hD.sub (ws' := []) [] rfl rfl) hE hS (va_sub_free hD hS hA [] rfl)) rfl rfl hl.1 rfl (lv_room (Nat.le_of_ble_eq_true rfl)) dX2_getOrRefuse_55 ⟨Nat.le_of_ble_eq_true rfl, Nat.le_of_ble_eq_true rfl⟩) hP hD hS hA [] [0, 1, 2, 3, 4, 5, 6, 7, 8, 9, 10, 11, 12, 13, 14, 15, 16, 17] [0, 1, 2, 3, 4, 5, 6, 7, 8, 9, 10, 11, 12, 13, 14, 15, 16, 17] [0, 1, 2, 3, 4, 5, 6, 7, 8, 9, 10, 11, 12, 13, 14, 15, 16, 17] rfl rfl rfl rfl rfl (fun _ => rfl) rfl (fun _ => rfl) ?_ ?_
      · intro En ce q9 u_10 H locs hCx hP hD hS hxf hq9 hce hcv hcl
        have hCx : En = "ClockworkTailor$Refusal" ∧ true = true := hCx
        have hP : va_P E.1 CL ((SW E o u_6.1 u_6.2) ++ ([(q_1, .inr (7, [.ref (o 0), iv th, iv (bsI u_4.1), iv u_4.2]))])) H := hP
        have hD : va_D A ((SW E o u_6.1 u_6.2) ++ ([(q_1, .inr (7, [.ref (o 0), iv th, iv (bsI u_4.1), iv u_4.2]))])) := hD
        have hP := hP.sub (ws' := SW E o u_6.1 u_6.2) [0, 1, 2, 3, 4, 5, 6, 7, 8, 9, 10, 11, 12, 13, 14, 15, 16] rfl
        have hD := hD.sub (ws' := SW E o u_6.1 u_6.2) [0, 1, 2, 3, 4, 5, 6, 7, 8, 9, 10, 11, 12, 13, 14, 15, 16] (by decide) rfl
        exact n_out (u_6.1, u_6.2, some (5, [iv 6, iv 60, .null])) (by exact Or.inr ⟨(6, 60), gor_many (by omega) (by omega), hCx.1, rfl⟩) hP hD hS hxf (Nat.le_trans hz_8 hq9) hce hcv hcl (fun x hx9 => (htb x hx9).elim) hlocks (Nat.le_of_ble_eq_true rfl) (Nat.le_of_ble_eq_true rfl)
      · intro u_9 H locs hC hP hD hS
        exact absurd hC (by decide)
  · refine lv_iconst (v := iI 1) hx hb dX2_getOrRefuse_19 rfl ?_
    refine lv_goto (tgt := 24) hx hb dX2_getOrRefuse_20 (by decide) ?_
    refine lv_iconst (v := iI 5) hx hb dX2_getOrRefuse_24 rfl ?_
    refine lv_iload_n hx hb dX2_getOrRefuse_25 rfl (lv_at hl 0 rfl) ?_
    have hz_11 : s.heap.size ≤ H.size := hS.1
    refine n_txvS (w2 := fun u_12 => (SW E o sc ar) ++ ([(q_1, .inr (7, [.ref (o 0), iv th, iv (bsI u_4.1), iv u_4.2]))])) (w3 := fun u_13 => (SW E o sc ar) ++ ([(q_1, .inr (7, [.ref (o 0), iv th, iv (bsI u_4.1), iv u_4.2]))])) (vx_runSN (As := [iv 1, iv 5, iv ((m_dues g t th).2.2)]) (rest := []) ⟨hx, hb, hml, hown, hts⟩ (mt_X1_refuseIf l E true 5 ((m_dues g t th).2.2) (by exact hst) _) ⟨(va_cnB 3 hts (lw_meth q814) rfl rfl rfl (hK.nv q812) (hts _ q94) (by decide +kernel) ⟨Nat.le_of_ble_eq_true rfl, Nat.le_of_ble_eq_true rfl⟩), hts _ q813, trivial⟩ (UX_S (hP.sub (ws' := []) [] rfl) hK (hD.sub (ws' := []) [] rfl rfl) hE hS (va_sub_free hD hS hA [] rfl)) rfl rfl hl.1 rfl (lv_room (Nat.le_of_ble_eq_true rfl)) dX2_getOrRefuse_26 ⟨Nat.le_of_ble_eq_true rfl, Nat.le_of_ble_eq_true rfl⟩) hP hD hS hA [] [0, 1, 2, 3, 4, 5, 6, 7, 8, 9, 10, 11, 12, 13, 14, 15, 16, 17] [0, 1, 2, 3, 4, 5, 6, 7, 8, 9, 10, 11, 12, 13, 14, 15, 16, 17] [0, 1, 2, 3, 4, 5, 6, 7, 8, 9, 10, 11, 12, 13, 14, 15, 16, 17] rfl rfl rfl rfl rfl (fun _ => rfl) rfl (fun _ => rfl) ?_ ?_
    · intro En ce q9 u_13 H locs hCx hP hD hS hxf hq9 hce hcv hcl
      have hCx : En = "ClockworkTailor$Refusal" ∧ true = true := hCx
      have hP : va_P E.1 CL ((SW E o sc ar) ++ ([(q_1, .inr (7, [.ref (o 0), iv th, iv (bsI u_4.1), iv u_4.2]))])) H := hP
      have hD : va_D A ((SW E o sc ar) ++ ([(q_1, .inr (7, [.ref (o 0), iv th, iv (bsI u_4.1), iv u_4.2]))])) := hD
      have hP := hP.sub (ws' := SW E o sc ar) [0, 1, 2, 3, 4, 5, 6, 7, 8, 9, 10, 11, 12, 13, 14, 15, 16] rfl
      have hD := hD.sub (ws' := SW E o sc ar) [0, 1, 2, 3, 4, 5, 6, 7, 8, 9, 10, 11, 12, 13, 14, 15, 16] (by decide) rfl
      exact n_out (sc, ar, some (5, [iv 5, iv ((m_dues g t th).2.2), .null])) (by exact Or.inr ⟨_, gor_mis (by omega), hCx.1, rfl⟩) hP hD hS hxf (Nat.le_trans hz_11 hq9) hce hcv hcl (fun x hx9 => (htb x hx9).elim) hlocks (Nat.le_of_ble_eq_true rfl) (Nat.le_of_ble_eq_true rfl)
    · intro u_12 H locs hC hP hD hS
      exact absurd hC (by decide)
set_option maxHeartbeats 1000000 in
set_option maxRecDepth 100000 in
theorem mt_X2_make (l : Launch) (E : EE) (o : Nat → Nat) (sc : Nat → Int) (ar : Nat → Int → Int) (t : Int) (th : Int) (g : Int → Int) (r : Int → Nat) (fl : Int → Int) (hst : l.stackTraces = false) (hsr : SR g sc ar) (ht : 0 ≤ t ∧ t < 65536) (hth : -2147483648 ≤ th ∧ th < 2147483648) (htw : TW g) (hsw : SwOK g) (htm : TM g) (hhn : HN g) (hsc : SC g) (hrk : RK g r) (hr8 : ∀ t, 0 ≤ t → t < 8 → r t < 8) (how : OY g) (h60 : g 1 ≤ 60) (hfit : ∀ t, 0 ≤ t → t < 8 → ∀ th, g 1 + (m_dues g t th).1 ≤ 160) (sz : Nat) : vx_Met l yX2_make (ws_ yX2_make cX2_make 4 (some .int)) { frames := 21, cells := 4, slots := 25, locals := 648 } (va_Pc [.ref (o 0), iv t, iv th] (UX E (SW E o sc ar) sz)) (UQx E (fun u : SU => (∃ q, A_make g fl t th = .inr (.inr q)) ∧ SR (rs_g g (A_make g fl t th)) u.1 u.2) (fun u : SU => rs_val 0 (A_make g fl t th)) (fun u : SU => SW E o u.1 u.2) (va_A (SW E o sc ar) sz)) (UXx E (fun (En : String) (u : SUX) => XC1 (nmX "java/lang/IllegalArgumentException" "java/lang/IndexOutOfBoundsException" "") (A_make g fl t th) En u.2.2) (fun u : SUX => SW E o u.1 u.2.1) (fun u : SUX => u.2.2) (va_A (SW E o sc ar) sz)) 4 25 (va_A (SW E o sc ar) sz) := by
  refine vx_ofW (cc := cX2_make) (maxL := 4) (ret := (some .int)) (by decide) rfl ?_
  intro p e s m args below meth c s₁ B hml htb hv
  obtain ⟨rfl, hsz, hP, hK, hD0, hE⟩ := hv
  have hx := B.exec
  have hb := B.bytes
  have hr := B.returns
  have hts := atoms_spec (ws := (ws_ yX2_make cX2_make 4 (some .int))) B.pre
  have hts : ∀ w ∈ lw_all, w.before _ s = true := fun w h => hts w (List.mem_cons_of_mem _ h)
  have hown : s.vm.findClass RX2 = some m.cls := findClass_of_methodNamed B.named
  have hlocks := B.notSynchronized
  subst hsz
  have hD := hD0.self (sz := s.heap.size)
  generalize hAe : va_A (SW E o sc ar) s.heap.size = A at hD hE ⊢
  have hA : ∀ q : Nat, s.heap.size ≤ q → A q := fun q h => by rw [← hAe]; exact Or.inr h
  have hS : va_S A s.heap s.heap [] := va_S.rf
  have hl := lv_entry ([.ref (o 0), iv t, iv th]) (n := 4) (Nat.le_of_ble_eq_true rfl)
  rw [lg_entry_eq]
  generalize (lg_sl ([.ref (o 0), iv t, iv th]) ++ List.replicate (4 - (lg_sl ([.ref (o 0), iv t, iv th])).length) Slot.unset).toArray = ls at hl ⊢
  have hl : lv_has ls 4 [(0, .ref (o 0)), (1, iv t), (2, iv th)] := hl
  have hn1 := hsr.n1
  have ho1 := how.1
  have ho2 := how.2.1
  refine lv_iload_n hx hb dX2_make_0 rfl (lv_at hl 1 rfl) ?_
  have hz_1 : s.heap.size ≤ s.heap.size := hS.1
  refine n_txS (x := fun u_2 => t - 97) (w2 := fun u_2 => SW E o sc ar) (w3 := fun u_3 => SW E o sc ar) (vx_runSN (As := [iv t]) (rest := []) ⟨hx, hb, hml, hown, hts⟩ (mt_X1_indexOf l E t (by exact hst) (by omega) _) ⟨(va_cnB 1 hts (lw_meth q964) rfl rfl rfl (hK.nv q962) (hts _ q94) (by decide +kernel) ⟨Nat.le_of_ble_eq_true rfl, Nat.le_of_ble_eq_true rfl⟩), hts _ q963, trivial⟩ (UX_S (hP.sub (ws' := []) [] rfl) hK (hD.sub (ws' := []) [] rfl rfl) hE hS (va_sub_free hD hS hA [] rfl)) rfl rfl hl.1 rfl (lv_room (Nat.le_of_ble_eq_true rfl)) dX2_make_1 ⟨Nat.le_of_ble_eq_true rfl, Nat.le_of_ble_eq_true rfl⟩) hP hD hS hA [] [0, 1, 2, 3, 4, 5, 6, 7, 8, 9, 10, 11, 12, 13, 14, 15, 16] [0, 1, 2, 3, 4, 5, 6, 7, 8, 9, 10, 11, 12, 13, 14, 15, 16] [0, 1, 2, 3, 4, 5, 6, 7, 8, 9, 10, 11, 12, 13, 14, 15, 16] rfl rfl rfl rfl rfl (fun _ => rfl) rfl (fun _ => rfl) ?_ ?_
  · intro En ce q9 u_3 H locs hCx hP hD hS hxf hq9 hce hcv hcl
    have hCx : En = "java/lang/IllegalArgumentException" ∧ ¬ (97 ≤ t ∧ t ≤ 104) := hCx
    have hP : va_P E.1 CL (SW E o sc ar) H := hP
    have hD : va_D A (SW E o sc ar) := hD
    exact n_out (sc, ar, none) (by exact Or.inl ⟨1, by have hz : c_op g t th = 1 := (by unfold c_op; rw [if_neg hCx.2]); unfold A_make; rw [if_pos (by omega), hz], hCx.1⟩) hP hD hS hxf (Nat.le_trans hz_1 hq9) hce hcv hcl (fun x hx9 => (htb x hx9).elim) hlocks (Nat.le_of_ble_eq_true rfl) (Nat.le_of_ble_eq_true rfl)
  · intro u_2 H locs hC hP hD hS
    have hu_2 : 97 ≤ t ∧ t ≤ 104 := hC
    have hP : va_P E.1 CL (SW E o sc ar) H := hP
    have hD : va_D A (SW E o sc ar) := hD
    have hti : 97 ≤ t ∧ t ≤ 104 := by assumption
    refine lv_istore_n (lv' := [(3, iv (t - 97)), (0, .ref (o 0)), (1, iv t), (2, iv th)]) hx hb dX2_make_4 rfl hl (by decide) rfl (fun ls hl => ?_)
    refine lv_aload_n hx hb dX2_make_5 rfl (lv_at hl 1 rfl) ?_
    refine lv_iload_n hx hb dX2_make_6 rfl (lv_at hl 3 rfl) ?_
    have hz_4 : s.heap.size ≤ H.size := hS.1
    refine n_txvS (w2 := fun u_5 => SW E o sc ar) (w3 := fun u_6 => SW E o sc ar) (vx_runV (As := [iv th]) (rest := []) ⟨hx, hb, hml, hown, hts⟩ (mt_X2_checkThread l E o sc ar th g (by exact hst) (by omega) (by assumption) _) (cwV 1 hts (lw_V q1239 q1240 q1241 q95 q1242) rfl rfl rfl (by decide +kernel) ⟨Nat.le_of_ble_eq_true rfl, Nat.le_of_ble_eq_true rfl⟩) (UX_V hP hK (hD) hE hS (va_A_in hD hS hA) (va_recv hK.1 hP (ci := 2) (q0 := 0) rfl rfl)) rfl rfl hl.1 rfl (lv_room (Nat.le_of_ble_eq_true rfl)) dX2_make_7 ⟨Nat.le_of_ble_eq_true rfl, Nat.le_of_ble_eq_true rfl⟩) hP hD hS hA [0, 1, 2, 3, 4, 5, 6, 7, 8, 9, 10, 11, 12, 13, 14, 15, 16] [] [0, 1, 2, 3, 4, 5, 6, 7, 8, 9, 10, 11, 12, 13, 14, 15, 16] [0, 1, 2, 3, 4, 5, 6, 7, 8, 9, 10, 11, 12, 13, 14, 15, 16] rfl rfl rfl rfl rfl (fun _ => rfl) rfl (fun _ => rfl) ?_ ?_
    · intro En ce q9 u_6 H locs hCx hP hD hS hxf hq9 hce hcv hcl
      have hCx : En = "java/lang/IndexOutOfBoundsException" ∧ m_opened g th = false := hCx
      have hP : va_P E.1 CL (SW E o sc ar) H := hP
      have hD : va_D A (SW E o sc ar) := hD
      exact n_out (sc, ar, none) (by exact Or.inl ⟨2, by have hz : c_op g t th = 2 := (by unfold c_op; rw [if_pos hti, if_neg (by rw [hCx.2]; decide)]); unfold A_make; rw [if_pos (by omega), hz], hCx.1⟩) hP hD hS hxf (Nat.le_trans hz_4 hq9) hce hcv hcl (fun x hx9 => (htb x hx9).elim) hlocks (Nat.le_of_ble_eq_true rfl) (Nat.le_of_ble_eq_true rfl)
    · intro u_5 H locs hC hP hD hS
      have hu_5 : m_opened g th = true := hC
      have hP : va_P E.1 CL (SW E o sc ar) H := hP
      have hD : va_D A (SW E o sc ar) := hD
      have hop : m_opened g th = true := hu_5
      have hthr := m_opened_r hop
      have hz : c_op g t th = 0 := by unfold c_op; rw [if_pos hti, if_pos hop]
      have hmk : A_make g fl t th = A_gor g fl (t - 97) th := make_gor (by omega)
      refine lv_aload_n hx hb dX2_make_10 rfl (lv_at hl 1 rfl) ?_
      refine lv_iload_n hx hb dX2_make_11 rfl (lv_at hl 0 rfl) ?_
      refine lv_iload_n hx hb dX2_make_12 rfl (lv_at hl 3 rfl) ?_
      have hz_7 : s.heap.size ≤ H.size := hS.1
      refine n_txS (x := fun u_8 => rs_val 0 (A_gor g fl (t - 97) th)) (w2 := fun u_8 => SW E o u_8.1 u_8.2) (w3 := fun u_9 => SW E o u_9.1 u_9.2.1) (vx_runV (As := [iv (t - 97), iv th]) (rest := []) ⟨hx, hb, hml, hown, hts⟩ (mt_X2_getOrRefuse l E o sc ar (t - 97) th g r fl (by exact hst) (by assumption) (by omega) (by omega) (by assumption) (by assumption) (by assumption) (by assumption) (by assumption) (by assumption) (by assumption) (by assumption) (by assumption) (by exact hfit _ (by omega) (by omega) th) _) (cwV 2 hts (lw_V q1268 q1270 qs21 q95 q1271) rfl rfl rfl (by decide +kernel) ⟨Nat.le_of_ble_eq_true rfl, Nat.le_of_ble_eq_true rfl⟩) (UX_V hP hK (hD) hE hS (va_A_in hD hS hA) (va_recv hK.1 hP (ci := 2) (q0 := 0) rfl rfl)) rfl rfl hl.1 rfl (lv_room (Nat.le_of_ble_eq_true rfl)) dX2_make_13 ⟨Nat.le_of_ble_eq_true rfl, Nat.le_of_ble_eq_true rfl⟩) hP hD hS hA [0, 1, 2, 3, 4, 5, 6, 7, 8, 9, 10, 11, 12, 13, 14, 15, 16] [] [0, 1, 2, 3, 4, 5, 6, 7, 8, 9, 10, 11, 12, 13, 14, 15, 16] [0, 1, 2, 3, 4, 5, 6, 7, 8, 9, 10, 11, 12, 13, 14, 15, 16] rfl rfl rfl rfl rfl (fun _ => rfl) rfl (fun _ => rfl) ?_ ?_
      · intro En ce q9 u_9 H locs hCx hP hD hS hxf hq9 hce hcv hcl
        have hCx : XC1 (fun _ => "") (A_gor g fl (t - 97) th) En u_9.2.2 := hCx
        have hP : va_P E.1 CL (SW E o u_9.1 u_9.2.1) H := hP
        have hD : va_D A (SW E o u_9.1 u_9.2.1) := hD
        exact n_out (u_9.1, u_9.2.1, u_9.2.2) (by rw [hmk]; exact XC1_gor hCx) hP hD hS hxf (Nat.le_trans hz_7 hq9) hce hcv hcl (fun x hx9 => (htb x hx9).elim) hlocks (Nat.le_of_ble_eq_true rfl) (Nat.le_of_ble_eq_true rfl)
      · intro u_8 H locs hC hP hD hS
        have hu_8 : (∃ q, A_gor g fl (t - 97) th = .inr (.inr q)) ∧ SR (rs_g g (A_gor g fl (t - 97) th)) u_8.1 u_8.2 := hC
        have hP : va_P E.1 CL (SW E o u_8.1 u_8.2) H := hP
        have hD : va_D A (SW E o u_8.1 u_8.2) := hD
        obtain ⟨⟨q9, hA9⟩, hs9⟩ := hu_8
        have hA := hmk.trans hA9
        have hsr2 := hs9
        rw [hA9] at hsr2
        have hfin : rs_val 0 (A_gor g fl (t - 97) th) = rs_val 0 (A_make g fl t th) := by
          rw [hmk]
        refine vx_ret ?_
        refine W.widen (k := 4) (n := 25) (Nat.le_of_ble_eq_true rfl) (Nat.le_of_ble_eq_true rfl) ?_
        exact W.iret (v := iI (rs_val 0 (A_gor g fl (t - 97) th))) hx hb hr (fun tt_ ht_ hW_ => ⟨⟨iI (rs_val 0 (A_gor g fl (t - 97) th)), (u_8.1, u_8.2), rfl, ⟨⟨⟨_, hA⟩, by rw [hA]; exact hsr2⟩, (congrArg iI hfin)⟩, by rw [ht_]; exact hP, hD⟩, hS.F ht_⟩) hS.2.2 dX2_make_16
set_option maxHeartbeats 1000000 in
set_option maxRecDepth 100000 in
theorem mt_X2_touch (l : Launch) (E : EE) (o : Nat → Nat) (sc : Nat → Int) (ar : Nat → Int → Int) (k : Int) (p9 : Int) (th : Int) (g : Int → Int) (r : Int → Nat) (fl : Int → Int) (hst : l.stackTraces = false) (hsr : SR g sc ar) (hk : -2147483648 ≤ k ∧ k < 2147483648) (hp : -2147483648 ≤ p9 ∧ p9 < 2147483648) (hth : -2147483648 ≤ th ∧ th < 2147483648) (htw : TW g) (hsw : SwOK g) (htm : TM g) (hhn : HN g) (hsc : SC g) (hrk : RK g r) (hr8 : ∀ t, 0 ≤ t → t < 8 → r t < 8) (how : OY g) (h60 : g 1 ≤ 60) (hfit : ∀ t, 0 ≤ t → t < 8 → ∀ th, g 1 + (m_dues g t th).1 ≤ 160) (sz : Nat) : vx_Met l yX2_touch (ws_ yX2_touch cX2_touch 6 (some .int)) { frames := 21, cells := 5, slots := 31, locals := 648 } (va_Pc [.ref (o 0), iv k, iv p9, iv th] (UX E (SW E o sc ar) sz)) (UQx E (fun u : SU => (∃ q, A_tch g fl k p9 th = .inr (.inr q)) ∧ SR (rs_g g (A_tch g fl k p9 th)) u.1 u.2) (fun u : SU => rs_val 0 (A_tch g fl k p9 th)) (fun u : SU => SW E o u.1 u.2) (va_A (SW E o sc ar) sz)) (UXx E (fun (En : String) (u : SUX) => XC1 (nmX "java/lang/IndexOutOfBoundsException" "" "") (A_tch g fl k p9 th) En u.2.2) (fun u : SUX => SW E o u.1 u.2.1) (fun u : SUX => u.2.2) (va_A (SW E o sc ar) sz)) 5 31 (va_A (SW E o sc ar) sz) := by
  refine vx_ofW (cc := cX2_touch) (maxL := 6) (ret := (some .int)) (by decide) rfl ?_
  intro p e s m args below meth c s₁ B hml htb hv
  obtain ⟨rfl, hsz, hP, hK, hD0, hE⟩ := hv
  have hx := B.exec
  have hb := B.bytes
  have hr := B.returns
  have hts := atoms_spec (ws := (ws_ yX2_touch cX2_touch 6 (some .int))) B.pre
  have hts : ∀ w ∈ lw_all, w.before _ s = true := fun w h => hts w (List.mem_cons_of_mem _ h)
  have hown : s.vm.findClass RX2 = some m.cls := findClass_of_methodNamed B.named
  have hlocks := B.notSynchronized
  subst hsz
  have hD := hD0.self (sz := s.heap.size)
  generalize hAe : va_A (SW E o sc ar) s.heap.size = A at hD hE ⊢
  have hA : ∀ q : Nat, s.heap.size ≤ q → A q := fun q h => by rw [← hAe]; exact Or.inr h
  have hS : va_S A s.heap s.heap [] := va_S.rf
  have hl := lv_entry ([.ref (o 0), iv k, iv p9, iv th]) (n := 6) (Nat.le_of_ble_eq_true rfl)
  rw [lg_entry_eq]
  generalize (lg_sl ([.ref (o 0), iv k, iv p9, iv th]) ++ List.replicate (6 - (lg_sl ([.ref (o 0), iv k, iv p9, iv th])).length) Slot.unset).toArray = ls at hl ⊢
  have hl : lv_has ls 6 [(0, .ref (o 0)), (1, iv k), (2, iv p9), (3, iv th)] := hl
  have hn1 := hsr.n1
  have ho1 := how.1
  have ho2 := how.2.1
  refine lv_aload_n hx hb dX2_touch_0 rfl (lv_at hl 0 rfl) ?_
  refine lv_iload_n hx hb dX2_touch_1 rfl (lv_at hl 1 rfl) ?_
  refine lv_iload_n hx hb dX2_touch_2 rfl (lv_at hl 2 rfl) ?_
  have hz_1 : s.heap.size ≤ s.heap.size := hS.1
  refine n_txvS (w2 := fun u_2 => SW E o sc ar) (w3 := fun u_3 => SW E o sc ar) (vx_runV (As := [iv k, iv p9]) (rest := []) ⟨hx, hb, hml, hown, hts⟩ (mt_X2_checkNeed l E o sc ar k p9 g (by exact hst) (by omega) (by omega) (by assumption) (by assumption) _) (cwV 2 hts (lw_V q1285 q1286 q1287 q95 q1288) rfl rfl rfl (by decide +kernel) ⟨Nat.le_of_ble_eq_true rfl, Nat.le_of_ble_eq_true rfl⟩) (UX_V hP hK (hD) hE hS (va_A_in hD hS hA) (va_recv hK.1 hP (ci := 2) (q0 := 0) rfl rfl)) rfl rfl hl.1 rfl (lv_room (Nat.le_of_ble_eq_true rfl)) dX2_touch_3 ⟨Nat.le_of_ble_eq_true rfl, Nat.le_of_ble_eq_true rfl⟩) hP hD hS hA [0, 1, 2, 3, 4, 5, 6, 7, 8, 9, 10, 11, 12, 13, 14, 15, 16] [] [0, 1, 2, 3, 4, 5, 6, 7, 8, 9, 10, 11, 12, 13, 14, 15, 16] [0, 1, 2, 3, 4, 5, 6, 7, 8, 9, 10, 11, 12, 13, 14, 15, 16] rfl rfl rfl rfl rfl (fun _ => rfl) rfl (fun _ => rfl) ?_ ?_
  · intro En ce q9 u_3 H locs hCx hP hD hS hxf hq9 hce hcv hcl
    have hCx : En = "java/lang/IndexOutOfBoundsException" ∧ m_noneed g k p9 = true := hCx
    have hP : va_P E.1 CL (SW E o sc ar) H := hP
    have hD : va_D A (SW E o sc ar) := hD
    exact n_out (sc, ar, none) (by exact Or.inl ⟨1, by have hz : c_tch g k p9 th = 1 := (by unfold c_tch; rw [if_pos (Or.inl hCx.2)]); unfold A_tch; rw [if_pos (by omega), hz], hCx.1⟩) hP hD hS hxf (Nat.le_trans hz_1 hq9) hce hcv hcl (fun x hx9 => (htb x hx9).elim) hlocks (Nat.le_of_ble_eq_true rfl) (Nat.le_of_ble_eq_true rfl)
  · intro u_2 H locs hC hP hD hS
    have hu_2 : m_noneed g k p9 = false := hC
    have hP : va_P E.1 CL (SW E o sc ar) H := hP
    have hD : va_D A (SW E o sc ar) := hD
    have hnn := noneed_ok hu_2
    have hnn9 := hu_2
    have hob := how.2.2 k hnn.1.1 hnn.1.2
    have hob2 := hob.2.1
    have hob3 := hob.2.2.1 p9 (by omega) (by omega) (by omega)
    refine lv_aload_n hx hb dX2_touch_6 rfl (lv_at hl 0 rfl) ?_
    refine lv_iload_n hx hb dX2_touch_7 rfl (lv_at hl 3 rfl) ?_
    have hz_4 : s.heap.size ≤ H.size := hS.1
    refine n_txvS (w2 := fun u_5 => SW E o sc ar) (w3 := fun u_6 => SW E o sc ar) (vx_runV (As := [iv th]) (rest := []) ⟨hx, hb, hml, hown, hts⟩ (mt_X2_checkThread l E o sc ar th g (by exact hst) (by omega) (by assumption) _) (cwV 1 hts (lw_V q1239 q1240 q1241 q95 q1242) rfl rfl rfl (by decide +kernel) ⟨Nat.le_of_ble_eq_true rfl, Nat.le_of_ble_eq_true rfl⟩) (UX_V hP hK (hD) hE hS (va_A_in hD hS hA) (va_recv hK.1 hP (ci := 2) (q0 := 0) rfl rfl)) rfl rfl hl.1 rfl (lv_room (Nat.le_of_ble_eq_true rfl)) dX2_touch_8 ⟨Nat.le_of_ble_eq_true rfl, Nat.le_of_ble_eq_true rfl⟩) hP hD hS hA [0, 1, 2, 3, 4, 5, 6, 7, 8, 9, 10, 11, 12, 13, 14, 15, 16] [] [0, 1, 2, 3, 4, 5, 6, 7, 8, 9, 10, 11, 12, 13, 14, 15, 16] [0, 1, 2, 3, 4, 5, 6, 7, 8, 9, 10, 11, 12, 13, 14, 15, 16] rfl rfl rfl rfl rfl (fun _ => rfl) rfl (fun _ => rfl) ?_ ?_
    · intro En ce q9 u_6 H locs hCx hP hD hS hxf hq9 hce hcv hcl
      have hCx : En = "java/lang/IndexOutOfBoundsException" ∧ m_opened g th = false := hCx
      have hP : va_P E.1 CL (SW E o sc ar) H := hP
      have hD : va_D A (SW E o sc ar) := hD
      exact n_out (sc, ar, none) (by exact Or.inl ⟨1, by have hz : c_tch g k p9 th = 1 := (by unfold c_tch; rw [if_pos (Or.inr hCx.2)]); unfold A_tch; rw [if_pos (by omega), hz], hCx.1⟩) hP hD hS hxf (Nat.le_trans hz_4 hq9) hce hcv hcl (fun x hx9 => (htb x hx9).elim) hlocks (Nat.le_of_ble_eq_true rfl) (Nat.le_of_ble_eq_true rfl)
    · intro u_5 H locs hC hP hD hS
      have hu_5 : m_opened g th = true := hC
      have hP : va_P E.1 CL (SW E o sc ar) H := hP
      have hD : va_D A (SW E o sc ar) := hD
      have hop : m_opened g th = true := hu_5
      have hthr := m_opened_r hop
      have hz : c_tch g k p9 th = 0 := by unfold c_tch; rw [if_neg (by rw [hnn9, hop]; decide)]
      refine lv_aload_n hx hb dX2_touch_11 rfl (lv_at hl 0 rfl) ?_
      refine va_get (D := E.1) (ci := 2) (v := .ref (o 15)) (C := RX2) (T := TX2) (N := 14) hx hb hts in_X2 hown hK.1 hP 0 rfl rfl 8 (by decide) (hts _ q203) (fun _ h9 => h9) rfl dX2_touch_12 ?_
      refine lv_iconst (v := iI 3) hx hb dX2_touch_15 rfl ?_
      refine lv_iload_n hx hb dX2_touch_16 rfl (lv_at hl 1 rfl) ?_
      refine n_imul hx hb dX2_touch_17 ?_
      refine lv_iload_n hx hb dX2_touch_18 rfl (lv_at hl 2 rfl) ?_
      refine n_iadd hx hb dX2_touch_19 ?_
      refine n_iald (f := ar 15) hx hb hK.1 hP 15 0 rfl rfl (by omega) (by decide) dX2_touch_20 ?_
      rw [hsr.fil (k := k) (j := p9) (by omega) (by omega)]
      refine lv_istore (lv' := [(4, iv (m_thing g k (7 + p9) - 1)), (0, .ref (o 0)), (1, iv k), (2, iv p9), (3, iv th)]) hx hb dX2_touch_21 hl (by decide) rfl (fun ls hl => ?_)
      refine lv_iload hx hb dX2_touch_23 (lv_at hl 0 rfl) ?_
      refine lv_iconst (v := iI (-1)) hx hb dX2_touch_25 rfl ?_
      refine n_icmp_eq (tgt := 33) hx hb dX2_touch_26 (by decide) (by omega) (by omega) (fun c_7 => ?_) (fun c_7 => ?_)
      · refine lv_iconst (v := iI 0) hx hb dX2_touch_33 rfl ?_
        refine lv_bipush (v := iI 7) hx hb dX2_touch_34 (by decide) ?_
        refine lv_iload hx hb dX2_touch_36 (lv_at hl 0 rfl) ?_
        refine n_csv ((va_runSN (As := [iv 0, iv 7, iv (m_thing g k (7 + p9) - 1)]) (rest := []) ⟨hx, hb, hml, hown, hts⟩ (mt_X1_refuseNo l E false 7 (m_thing g k (7 + p9) - 1) (by first | assumption | rfl)) ⟨(va_cnB 3 hts (lw_meth q814) rfl rfl rfl (hK.nv q812) (hts _ q94) (by decide +kernel) ⟨Nat.le_of_ble_eq_true rfl, Nat.le_of_ble_eq_true rfl⟩), hts _ q813, trivial⟩ (PW_S (hP.sub (ws' := []) [] rfl) hK) rfl rfl hl.1 rfl (lv_room (Nat.le_of_ble_eq_true rfl)) dX2_touch_38 ⟨Nat.le_of_ble_eq_true rfl, Nat.le_of_ble_eq_true rfl⟩).run) ?_
        refine lv_aload_n hx hb dX2_touch_41 rfl (lv_at hl 1 rfl) ?_
        refine lv_aload_n hx hb dX2_touch_42 rfl (lv_at hl 1 rfl) ?_
        refine va_get (D := E.1) (ci := 2) (v := .ref (o 14)) (C := RX2) (T := TX2) (N := 14) hx hb hts in_X2 hown hK.1 hP 0 rfl rfl 7 (by decide) (hts _ q202) (fun _ h9 => h9) rfl dX2_touch_43 ?_
        refine lv_iconst (v := iI 3) hx hb dX2_touch_46 rfl ?_
        refine lv_iload_n hx hb dX2_touch_47 rfl (lv_at hl 2 rfl) ?_
        refine n_imul hx hb dX2_touch_48 ?_
        refine lv_iload_n hx hb dX2_touch_49 rfl (lv_at hl 3 rfl) ?_
        refine n_iadd hx hb dX2_touch_50 ?_
        refine n_iald (f := ar 14) hx hb hK.1 hP 14 0 rfl rfl (by omega) (by decide) dX2_touch_51 ?_
        rw [hsr.wish (k := k) (j := p9) (by omega) (by omega)]
        refine lv_iload_n hx hb dX2_touch_52 rfl (lv_at hl 4 rfl) ?_
        have hz_8 : s.heap.size ≤ H.size := hS.1
        refine n_txS (x := fun u_9 => rs_val 0 (A_gor g fl (m_thing g k (4 + p9)) th)) (w2 := fun u_9 => SW E o u_9.1 u_9.2) (w3 := fun u_10 => SW E o u_10.1 u_10.2.1) (vx_runV (As := [iv (m_thing g k (4 + p9)), iv th]) (rest := []) ⟨hx, hb, hml, hown, hts⟩ (mt_X2_getOrRefuse l E o sc ar (m_thing g k (4 + p9)) th g r fl (by exact hst) (by assumption) (by omega) (by omega) (by assumption) (by assumption) (by assumption) (by assumption) (by assumption) (by assumption) (by assumption) (by assumption) (by assumption) (by exact hfit _ (by omega) (by omega) th) _) (cwV 2 hts (lw_V q1268 q1270 qs21 q95 q1271) rfl rfl rfl (by decide +kernel) ⟨Nat.le_of_ble_eq_true rfl, Nat.le_of_ble_eq_true rfl⟩) (UX_V hP hK (hD) hE hS (va_A_in hD hS hA) (va_recv hK.1 hP (ci := 2) (q0 := 0) rfl rfl)) rfl rfl hl.1 rfl (lv_room (Nat.le_of_ble_eq_true rfl)) dX2_touch_53 ⟨Nat.le_of_ble_eq_true rfl, Nat.le_of_ble_eq_true rfl⟩) hP hD hS hA [0, 1, 2, 3, 4, 5, 6, 7, 8, 9, 10, 11, 12, 13, 14, 15, 16] [] [0, 1, 2, 3, 4, 5, 6, 7, 8, 9, 10, 11, 12, 13, 14, 15, 16] [0, 1, 2, 3, 4, 5, 6, 7, 8, 9, 10, 11, 12, 13, 14, 15, 16] rfl rfl rfl rfl rfl (fun _ => rfl) rfl (fun _ => rfl) ?_ ?_
        · intro En ce q9 u_10 H locs hCx hP hD hS hxf hq9 hce hcv hcl
          have hCx : XC1 (fun _ => "") (A_gor g fl (m_thing g k (4 + p9)) th) En u_10.2.2 := hCx
          have hP : va_P E.1 CL (SW E o u_10.1 u_10.2.1) H := hP
          have hD : va_D A (SW E o u_10.1 u_10.2.1) := hD
          exact n_out (u_10.1, u_10.2.1, u_10.2.2) (by exact XC1_tch (by omega) (by omega) hCx) hP hD hS hxf (Nat.le_trans hz_8 hq9) hce hcv hcl (fun x hx9 => (htb x hx9).elim) hlocks (Nat.le_of_ble_eq_true rfl) (Nat.le_of_ble_eq_true rfl)
        · intro u_9 H locs hC hP hD hS
          have hu_9 : (∃ q, A_gor g fl (m_thing g k (4 + p9)) th = .inr (.inr q)) ∧ SR (rs_g g (A_gor g fl (m_thing g k (4 + p9)) th)) u_9.1 u_9.2 := hC
          have hP : va_P E.1 CL (SW E o u_9.1 u_9.2) H := hP
          have hD : va_D A (SW E o u_9.1 u_9.2) := hD
          obtain ⟨⟨q9, hA9⟩, hs9⟩ := hu_9
          rw [hA9] at hs9
          have hv9 : rs_val 0 (A_gor g fl (m_thing g k (4 + p9)) th) = q9.1 := by rw [hA9]; rfl
          refine lv_istore (lv' := [(5, iv (rs_val 0 (A_gor g fl (m_thing g k (4 + p9)) th))), (4, iv (m_thing g k (7 + p9) - 1)), (0, .ref (o 0)), (1, iv k), (2, iv p9), (3, iv th)]) hx hb dX2_touch_56 hl (by decide) rfl (fun ls hl => ?_)
          refine lv_aload_n hx hb dX2_touch_58 rfl (lv_at hl 2 rfl) ?_
          refine va_get (D := E.1) (ci := 2) (v := .ref (o 15)) (C := RX2) (T := TX2) (N := 14) hx hb hts in_X2 hown hK.1 hP 0 rfl rfl 8 (by decide) (hts _ q203) (fun _ h9 => h9) rfl dX2_touch_59 ?_
          refine lv_iconst (v := iI 3) hx hb dX2_touch_62 rfl ?_
          refine lv_iload_n hx hb dX2_touch_63 rfl (lv_at hl 3 rfl) ?_
          refine n_imul hx hb dX2_touch_64 ?_
          refine lv_iload_n hx hb dX2_touch_65 rfl (lv_at hl 4 rfl) ?_
          refine n_iadd hx hb dX2_touch_66 ?_
          refine lv_iload hx hb dX2_touch_67 (lv_at hl 0 rfl) ?_
          refine n_iast (f := u_9.2 15) hx hb hK.1 hP hD hS 15 0 rfl rfl (by omega) (by decide) dX2_touch_69 (ws2 := SW E o u_9.1 (ua u_9.2 15 (ui (u_9.2 15) ((3 * k) + p9) (rs_val 0 (A_gor g fl (m_thing g k (4 + p9)) th))))) rfl (fun H locs hP hD hS => ?_)
          have hA := tch_ok (by omega) (by omega) hA9
          have hsr2 : SR (ui q9.2 (61 + 10 * k + (7 + p9)) (q9.1 + 1)) u_9.1 (ua u_9.2 15 (ui (u_9.2 15) ((3 * k) + p9) (rs_val 0 (A_gor g fl (m_thing g k (4 + p9)) th)))) := by
            rw [hv9]
            exact SR_fill hs9 (by omega) (by omega)
          refine lv_iload hx hb dX2_touch_70 (lv_at hl 0 rfl) ?_
          have hfin : rs_val 0 (A_gor g fl (m_thing g k (4 + p9)) th) = rs_val 0 (A_tch g fl k p9 th) := by
            rw [hA]
            exact hv9
          refine vx_ret ?_
          refine W.widen (k := 5) (n := 31) (Nat.le_of_ble_eq_true rfl) (Nat.le_of_ble_eq_true rfl) ?_
          exact W.iret (v := iI (rs_val 0 (A_gor g fl (m_thing g k (4 + p9)) th))) hx hb hr (fun tt_ ht_ hW_ => ⟨⟨iI (rs_val 0 (A_gor g fl (m_thing g k (4 + p9)) th)), (u_9.1, (ua u_9.2 15 (ui (u_9.2 15) ((3 * k) + p9) (rs_val 0 (A_gor g fl (m_thing g k (4 + p9)) th))))), rfl, ⟨⟨⟨_, hA⟩, by rw [hA]; exact hsr2⟩, (congrArg iI hfin)⟩, by rw [ht_]; exact hP, hD⟩, hS.F ht_⟩) hS.2.2 dX2_touch_72
      · refine lv_iconst (v := iI 1) hx hb dX2_touch_29 rfl ?_
        refine lv_goto (tgt := 34) hx hb dX2_touch_30 (by decide) ?_
        refine lv_bipush (v := iI 7) hx hb dX2_touch_34 (by decide) ?_
        refine lv_iload hx hb dX2_touch_36 (lv_at hl 0 rfl) ?_
        have hz_11 : s.heap.size ≤ H.size := hS.1
        refine n_txvS (w2 := fun u_12 => SW E o sc ar) (w3 := fun u_13 => SW E o sc ar) (vx_runSN (As := [iv 1, iv 7, iv (m_thing g k (7 + p9) - 1)]) (rest := []) ⟨hx, hb, hml, hown, hts⟩ (mt_X1_refuseIf l E true 7 (m_thing g k (7 + p9) - 1) (by exact hst) _) ⟨(va_cnB 3 hts (lw_meth q814) rfl rfl rfl (hK.nv q812) (hts _ q94) (by decide +kernel) ⟨Nat.le_of_ble_eq_true rfl, Nat.le_of_ble_eq_true rfl⟩), hts _ q813, trivial⟩ (UX_S (hP.sub (ws' := []) [] rfl) hK (hD.sub (ws' := []) [] rfl rfl) hE hS (va_sub_free hD hS hA [] rfl)) rfl rfl hl.1 rfl (lv_room (Nat.le_of_ble_eq_true rfl)) dX2_touch_38 ⟨Nat.le_of_ble_eq_true rfl, Nat.le_of_ble_eq_true rfl⟩) hP hD hS hA [] [0, 1, 2, 3, 4, 5, 6, 7, 8, 9, 10, 11, 12, 13, 14, 15, 16] [0, 1, 2, 3, 4, 5, 6, 7, 8, 9, 10, 11, 12, 13, 14, 15, 16] [0, 1, 2, 3, 4, 5, 6, 7, 8, 9, 10, 11, 12, 13, 14, 15, 16] rfl rfl rfl rfl rfl (fun _ => rfl) rfl (fun _ => rfl) ?_ ?_
        · intro En ce q9 u_13 H locs hCx hP hD hS hxf hq9 hce hcv hcl
          have hCx : En = "ClockworkTailor$Refusal" ∧ true = true := hCx
          have hP : va_P E.1 CL (SW E o sc ar) H := hP
          have hD : va_D A (SW E o sc ar) := hD
          exact n_out (sc, ar, some (5, [iv 7, iv (m_thing g k (7 + p9) - 1), .null])) (by exact Or.inr ⟨(7, m_thing g k (7 + p9) - 1), by unfold A_tch; rw [if_neg (by omega), if_pos (by omega)], hCx.1, rfl⟩) hP hD hS hxf (Nat.le_trans hz_11 hq9) hce hcv hcl (fun x hx9 => (htb x hx9).elim) hlocks (Nat.le_of_ble_eq_true rfl) (Nat.le_of_ble_eq_true rfl)
        · intro u_12 H locs hC hP hD hS
          exact absurd hC (by decide)
