set_option maxHeartbeats 2000000 in
set_option maxRecDepth 100000 in
theorem mt_X2_areWaysConsistent (l : Launch) (E : EE) (o : Nat → Nat) (sc : Nat → Int) (ar : Nat → Int → Int)  (g : Int → Int) (r : Int → Nat) (hsr : SR g sc ar) (htw : TW g) (hsw : SwOK g) (htm : TM g) (hhn : HN g) (hsc : SC g) (hrk : RK g r) (hr8 : ∀ t, 0 ≤ t → t < 8 → r t < 8) (how : OY g) (hhh : HH g) (hsi : SI g) (hgb : 0 ≤ g 2 ∧ g 2 < 2147483648 ∧ 0 ≤ g 3 ∧ g 1 + g 3 < 2147483648) (sz : Nat) : Met l yX2_areWaysConsistent (ws_ yX2_areWaysConsistent cX2_areWaysConsistent 3 (some .boolean)) { frames := 27, cells := 247, slots := 1812, locals := 3123 } (va_Pc [.ref (o 0)] (UX E (SW E o sc ar) sz)) (UQi E (b2 (decide (g 2 = g 1 + g 3))) (SW E o sc ar) (va_A (SW E o sc ar) sz)) 247 1812 (va_A (SW E o sc ar) sz) := by
  refine Met.ofW (cc := cX2_areWaysConsistent) (maxL := 3) (ret := (some .boolean)) (by decide) rfl ?_
  intro p e s m args below meth c s₁ B hml hv
  obtain ⟨rfl, hsz, hP, hK, hD0, hE⟩ := hv
  have hx := B.exec
  have hb := B.bytes
  have hr := B.returns
  have hts := atoms_spec (ws := (ws_ yX2_areWaysConsistent cX2_areWaysConsistent 3 (some .boolean))) B.pre
  have hts : ∀ w ∈ lw_all, w.before _ s = true := fun w h => hts w (List.mem_cons_of_mem _ h)
  have hown : s.vm.findClass RX2 = some m.cls := findClass_of_methodNamed B.named
  have hlocks := B.notSynchronized
  subst hsz
  have hD := hD0.self (sz := s.heap.size)
  generalize hAe : va_A (SW E o sc ar) s.heap.size = A at hD hE ⊢
  have hA : ∀ q : Nat, s.heap.size ≤ q → A q := fun q h => by rw [← hAe]; exact Or.inr h
  have hS : va_S A s.heap s.heap [] := va_S.rf
  have hl := lv_entry ([.ref (o 0)]) (n := 3) (Nat.le_of_ble_eq_true rfl)
  rw [lg_entry_eq]
  generalize (lg_sl ([.ref (o 0)]) ++ List.replicate (3 - (lg_sl ([.ref (o 0)])).length) Slot.unset).toArray = ls at hl ⊢
  have hl : lv_has ls 3 [(0, .ref (o 0))] := hl
  have hn1 := hsr.n1
  have ho1 := how.1
  have ho2 := how.2.1
  have hbr := hsr.br
  refine lv_aload_n hx hb dX2_areWaysConsistent_0 rfl (lv_at hl 0 rfl) ?_
  refine va_get (D := E.1) (ci := 2) (v := .ref (o 1)) (C := RX2) (T := TX2) (N := 14) hx hb hts in_X2 hown hK.1 hP 0 rfl rfl 0 (by decide) (hts _ q188) (fun _ h9 => h9) rfl dX2_areWaysConsistent_1 ?_
  refine n_cuiS (x := sumI (fun k => b2 (m_reach g true k k)) 8) (w2 := SW E o sc ar) (va_runV (As := []) (rest := []) ⟨hx, hb, hml, hown, hts⟩ (mt_X3_inCircles l E o sc ar  g (by assumption) (by assumption) (by assumption) (by assumption) _) (cwV 0 hts (lw_V q707 q523 q524 q96 q525) rfl rfl rfl (by decide +kernel) ⟨Nat.le_of_ble_eq_true rfl, Nat.le_of_ble_eq_true rfl⟩) (UX_V (hP.sub (ws' := BW E o sc ar) [1, 2, 3, 4, 5, 6, 7, 8] rfl) hK (hD.sub (ws' := BW E o sc ar) [1, 2, 3, 4, 5, 6, 7, 8] rfl rfl) hE hS (va_sub_free hD hS hA [1, 2, 3, 4, 5, 6, 7, 8] rfl) (va_recv hK.1 hP (ci := 3) (q0 := 1) rfl rfl)) rfl rfl hl.1 rfl (lv_room (Nat.le_of_ble_eq_true rfl)) dX2_areWaysConsistent_4 ⟨Nat.le_of_ble_eq_true rfl, Nat.le_of_ble_eq_true rfl⟩) hP hD hS hA [1, 2, 3, 4, 5, 6, 7, 8] [0, 9, 10, 11, 12, 13, 14, 15, 16] [0, 9, 10, 11, 12, 13, 14, 15, 16, 1, 2, 3, 4, 5, 6, 7, 8] rfl rfl rfl rfl rfl rfl (fun H locs hP hD hS => ?_)
  have hP : va_P E.1 CL (SW E o sc ar) H := hP
  have hD : va_D A (SW E o sc ar) := hD
  refine lv_aload_n hx hb dX2_areWaysConsistent_7 rfl (lv_at hl 0 rfl) ?_
  refine va_get (D := E.1) (ci := 2) (v := .ref (o 1)) (C := RX2) (T := TX2) (N := 14) hx hb hts in_X2 hown hK.1 hP 0 rfl rfl 0 (by decide) (hts _ q188) (fun _ h9 => h9) rfl dX2_areWaysConsistent_8 ?_
  refine n_cuiS (x := sumI (fun k => b2 (m_reach g true k k)) 8) (w2 := SW E o sc ar) (va_runV (As := []) (rest := [iv (sumI (fun k => b2 (m_reach g true k k)) 8)]) ⟨hx, hb, hml, hown, hts⟩ (mt_X3_inCirclesBySets l E o sc ar  g (by assumption) (by assumption) (by assumption) (by assumption) _) (cwV 0 hts (lw_V q708 q604 q605 q96 q606) rfl rfl rfl (by decide +kernel) ⟨Nat.le_of_ble_eq_true rfl, Nat.le_of_ble_eq_true rfl⟩) (UX_V (hP.sub (ws' := BW E o sc ar) [1, 2, 3, 4, 5, 6, 7, 8] rfl) hK (hD.sub (ws' := BW E o sc ar) [1, 2, 3, 4, 5, 6, 7, 8] rfl rfl) hE hS (va_sub_free hD hS hA [1, 2, 3, 4, 5, 6, 7, 8] rfl) (va_recv hK.1 hP (ci := 3) (q0 := 1) rfl rfl)) rfl rfl hl.1 rfl (lv_room (Nat.le_of_ble_eq_true rfl)) dX2_areWaysConsistent_11 ⟨Nat.le_of_ble_eq_true rfl, Nat.le_of_ble_eq_true rfl⟩) hP hD hS hA [1, 2, 3, 4, 5, 6, 7, 8] [0, 9, 10, 11, 12, 13, 14, 15, 16] [0, 9, 10, 11, 12, 13, 14, 15, 16, 1, 2, 3, 4, 5, 6, 7, 8] rfl rfl rfl rfl rfl rfl (fun H locs hP hD hS => ?_)
  have hP : va_P E.1 CL (SW E o sc ar) H := hP
  have hD : va_D A (SW E o sc ar) := hD
  have b_1 := sum8 (fun k => m_reach g true k k)
  refine n_icmp_ne (tgt := 21) hx hb dX2_areWaysConsistent_14 (by decide) (by omega) (by omega) (fun c_2 => ?_) (fun c_2 => ?_)
  · exact absurd rfl c_2
  · refine lv_iconst (v := iI 1) hx hb dX2_areWaysConsistent_17 rfl ?_
    refine lv_goto (tgt := 22) hx hb dX2_areWaysConsistent_18 (by decide) ?_
    refine lv_istore_n (lv' := [(1, iv 1), (0, .ref (o 0))]) hx hb dX2_areWaysConsistent_22 rfl hl (by decide) rfl (fun ls hl => ?_)
    refine lv_iconst (v := iI 0) hx hb dX2_areWaysConsistent_23 rfl ?_
    refine lv_istore_n (lv' := [(2, iv 0), (1, iv 1), (0, .ref (o 0))]) hx hb dX2_areWaysConsistent_24 rfl hl (by decide) rfl (fun ls hl => ?_)
    have l25 : ∀ (fu : Nat) (cll25 sll25 : Nat) (x1 : Int) (x2 : Int), (cll25 + 25 * fu ≤ 272 ∧ sll25 + 183 * fu ≤ 1995) → (0 ≤ x2 ∧ x2 ≤ 8 ∧ x1 = 1) → (8 - x2 < (fu : Int)) → ∀ (H : Heap) (locs : List Loc), va_P E.1 CL (SW E o sc ar) H → va_D A (SW E o sc ar) → va_S A s.heap H locs → ∀ ls : Array Slot, lv_has ls 3 [(2, iv x2), (1, iv x1), (0, .ref (o 0))] → W p l e (headSpec (ws_ yX2_areWaysConsistent cX2_areWaysConsistent 3 (some .boolean)) { frames := 27, cells := 247, slots := 1812, locals := 3123 }).room s m ([.ref (o 0)] : List Value).toArray below meth c H locs cll25 sll25 (MQ below (UQi E (b2 (decide (g 2 = g 1 + g 3))) (SW E o sc ar) A) ([.ref (o 0)] : List Value).toArray s 247 1812 A) (F0 m 25 ls []) := by
      intro fu
      induction fu with
      | zero =>
        intro cll25 sll25 x1 x2 hgl25 il25_0 hm
        exfalso; omega
      | succ fu ih =>
        intro cll25 sll25 x1 x2 hgl25 il25_0 hm H locs hP hD hS ls hl
        have ihl25 := ih
        refine lv_iload_n hx hb dX2_areWaysConsistent_25 rfl (lv_at hl 0 rfl) ?_
        refine lv_bipush (v := iI 8) hx hb dX2_areWaysConsistent_26 (by decide) ?_
        refine n_icmp_ge (tgt := 83) hx hb dX2_areWaysConsistent_28 (by decide) (by omega) (by omega) (fun c_3 => ?_) (fun c_3 => ?_)
        · refine lv_iload_n hx hb dX2_areWaysConsistent_83 rfl (lv_at hl 1 rfl) ?_
          refine n_if_eq (tgt := 114) hx hb dX2_areWaysConsistent_84 (by decide) (by omega) (fun c_4 => ?_) (fun c_4 => ?_)
          · exfalso; omega
          · refine lv_aload_n hx hb dX2_areWaysConsistent_87 rfl (lv_at hl 2 rfl) ?_
            refine n_csi (x := 1) (va_runV (As := []) (rest := []) ⟨hx, hb, hml, hown, hts⟩ (mt_X2_areSinglesSingle l E o sc ar  g (by assumption) (by assumption) (by assumption) (by assumption) (by assumption)) (cwV 0 hts (lw_V q745 q747 qs10 q95 q748) rfl rfl rfl (by decide +kernel) ⟨Nat.le_of_ble_eq_true rfl, Nat.le_of_ble_eq_true rfl⟩) (PW_V hP hK (va_recv hK.1 hP (ci := 2) (q0 := 0) rfl rfl)) rfl rfl hl.1 rfl (lv_room (Nat.le_of_ble_eq_true rfl)) dX2_areWaysConsistent_88 ⟨(show cll25 + 0 ≤ 247 by omega), (show sll25 + 0 ≤ 1812 by omega)⟩) ?_
            refine n_if_eq (tgt := 114) hx hb dX2_areWaysConsistent_91 (by decide) (by omega) (fun c_5 => absurd c_5 (by decide)) (fun _ => ?_)
            refine lv_aload_n hx hb dX2_areWaysConsistent_94 rfl (lv_at hl 2 rfl) ?_
            refine va_get (D := E.1) (ci := 2) (v := iv (sc 9)) (C := RX2) (T := TX2) (N := 14) hx hb hts in_X2 hown hK.1 hP 0 rfl rfl 9 (by decide) (hts _ q205) (fun _ h9 => h9) rfl dX2_areWaysConsistent_95 ?_
            refine n_top (y := g 2) (by exact hn1.2.1) ?_
            refine lv_aload_n hx hb dX2_areWaysConsistent_98 rfl (lv_at hl 2 rfl) ?_
            refine va_get (D := E.1) (ci := 2) (v := iv (sc 2)) (C := RX2) (T := TX2) (N := 14) hx hb hts in_X2 hown hK.1 hP 0 rfl rfl 2 (by decide) (hts _ q193) (fun _ h9 => h9) rfl dX2_areWaysConsistent_99 ?_
            refine n_top (y := g 1) (by exact hn1.1) ?_
            refine lv_aload_n hx hb dX2_areWaysConsistent_102 rfl (lv_at hl 2 rfl) ?_
            refine va_get (D := E.1) (ci := 2) (v := iv (sc 10)) (C := RX2) (T := TX2) (N := 14) hx hb hts in_X2 hown hK.1 hP 0 rfl rfl 10 (by decide) (hts _ q207) (fun _ h9 => h9) rfl dX2_areWaysConsistent_103 ?_
            refine n_top (y := g 3) (by exact hn1.2.2.1) ?_
            refine n_iadd hx hb dX2_areWaysConsistent_106 ?_
            refine n_icmp_ne (tgt := 114) hx hb dX2_areWaysConsistent_107 (by decide) (by omega) (by omega) (fun c_6 => ?_) (fun c_6 => ?_)
            · refine lv_iconst (v := iI 0) hx hb dX2_areWaysConsistent_114 rfl ?_
              have hfin : 0 = b2 (decide (g 2 = g 1 + g 3)) := by
                first | exact (b2_pos (by assumption)).symm | exact (b2_neg (by assumption)).symm
              refine W.widen (k := 247) (n := 1812) (show cll25 + 0 ≤ 247 by omega) (show sll25 + 0 ≤ 1812 by omega) ?_
              exact W.zret (v := iI 0) hx hb hr (nr_b (by decide)) (fun tt_ ht_ hW_ => ⟨⟨iI 0, (), rfl, (congrArg iI hfin), by rw [ht_]; exact hP, hD⟩, hS.F ht_⟩) hS.2.2 dX2_areWaysConsistent_115
            · refine lv_iconst (v := iI 1) hx hb dX2_areWaysConsistent_110 rfl ?_
              refine lv_goto (tgt := 115) hx hb dX2_areWaysConsistent_111 (by decide) ?_
              have hfin : 1 = b2 (decide (g 2 = g 1 + g 3)) := by
                first | exact (b2_pos (by assumption)).symm | exact (b2_neg (by assumption)).symm
              refine W.widen (k := 247) (n := 1812) (show cll25 + 0 ≤ 247 by omega) (show sll25 + 0 ≤ 1812 by omega) ?_
              exact W.zret (v := iI 1) hx hb hr (nr_b (by decide)) (fun tt_ ht_ hW_ => ⟨⟨iI 1, (), rfl, (congrArg iI hfin), by rw [ht_]; exact hP, hD⟩, hS.F ht_⟩) hS.2.2 dX2_areWaysConsistent_115
        · refine lv_iload_n hx hb dX2_areWaysConsistent_31 rfl (lv_at hl 1 rfl) ?_
          refine lv_aload_n hx hb dX2_areWaysConsistent_32 rfl (lv_at hl 2 rfl) ?_
          refine va_get (D := E.1) (ci := 2) (v := .ref (o 1)) (C := RX2) (T := TX2) (N := 14) hx hb hts in_X2 hown hK.1 hP 0 rfl rfl 0 (by decide) (hts _ q188) (fun _ h9 => h9) rfl dX2_areWaysConsistent_33 ?_
          refine lv_iload_n hx hb dX2_areWaysConsistent_36 rfl (lv_at hl 0 rfl) ?_
          refine n_cuiS (x := sumI (fun k => b2 (m_reach g true x2 k)) 8) (w2 := SW E o sc ar) (va_runV (As := [iv x2]) (rest := [iv x1]) ⟨hx, hb, hml, hown, hts⟩ (mt_X3_leadsToCount l E o sc ar x2 g (by omega) (by assumption) (by assumption) (by assumption) (by assumption) _) (cwV 1 hts (lw_V q709 q710 q711 q96 q712) rfl rfl rfl (by decide +kernel) ⟨Nat.le_of_ble_eq_true rfl, Nat.le_of_ble_eq_true rfl⟩) (UX_V (hP.sub (ws' := BW E o sc ar) [1, 2, 3, 4, 5, 6, 7, 8] rfl) hK (hD.sub (ws' := BW E o sc ar) [1, 2, 3, 4, 5, 6, 7, 8] rfl rfl) hE hS (va_sub_free hD hS hA [1, 2, 3, 4, 5, 6, 7, 8] rfl) (va_recv hK.1 hP (ci := 3) (q0 := 1) rfl rfl)) rfl rfl hl.1 rfl (lv_room (Nat.le_of_ble_eq_true rfl)) dX2_areWaysConsistent_37 ⟨(show cll25 + 5 ≤ 247 by omega), (show sll25 + 37 ≤ 1812 by omega)⟩) hP hD hS hA [1, 2, 3, 4, 5, 6, 7, 8] [0, 9, 10, 11, 12, 13, 14, 15, 16] [0, 9, 10, 11, 12, 13, 14, 15, 16, 1, 2, 3, 4, 5, 6, 7, 8] rfl rfl rfl rfl rfl rfl (fun H locs hP hD hS => ?_)
          have hP : va_P E.1 CL (SW E o sc ar) H := hP
          have hD : va_D A (SW E o sc ar) := hD
          refine lv_aload_n hx hb dX2_areWaysConsistent_40 rfl (lv_at hl 2 rfl) ?_
          refine va_get (D := E.1) (ci := 2) (v := .ref (o 1)) (C := RX2) (T := TX2) (N := 14) hx hb hts in_X2 hown hK.1 hP 0 rfl rfl 0 (by decide) (hts _ q188) (fun _ h9 => h9) rfl dX2_areWaysConsistent_41 ?_
          refine lv_iload_n hx hb dX2_areWaysConsistent_44 rfl (lv_at hl 0 rfl) ?_
          refine n_cuiS (x := sumI (fun k => b2 (m_reach g true x2 k)) 8) (w2 := SW E o sc ar) (va_runV (As := [iv x2]) (rest := [iv (sumI (fun k => b2 (m_reach g true x2 k)) 8), iv x1]) ⟨hx, hb, hml, hown, hts⟩ (mt_X3_leadsToByTable l E o sc ar x2 g (by omega) (by assumption) (by assumption) (by assumption) (by assumption) _) (cwV 1 hts (lw_V q713 q714 q715 q96 q716) rfl rfl rfl (by decide +kernel) ⟨Nat.le_of_ble_eq_true rfl, Nat.le_of_ble_eq_true rfl⟩) (UX_V (hP.sub (ws' := BW E o sc ar) [1, 2, 3, 4, 5, 6, 7, 8] rfl) hK (hD.sub (ws' := BW E o sc ar) [1, 2, 3, 4, 5, 6, 7, 8] rfl rfl) hE hS (va_sub_free hD hS hA [1, 2, 3, 4, 5, 6, 7, 8] rfl) (va_recv hK.1 hP (ci := 3) (q0 := 1) rfl rfl)) rfl rfl hl.1 rfl (lv_room (Nat.le_of_ble_eq_true rfl)) dX2_areWaysConsistent_45 ⟨(show (cll25 + 5) + 10 ≤ 247 by omega), (show (sll25 + 37) + 73 ≤ 1812 by omega)⟩) hP hD hS hA [1, 2, 3, 4, 5, 6, 7, 8] [0, 9, 10, 11, 12, 13, 14, 15, 16] [0, 9, 10, 11, 12, 13, 14, 15, 16, 1, 2, 3, 4, 5, 6, 7, 8] rfl rfl rfl rfl rfl rfl (fun H locs hP hD hS => ?_)
          have hP : va_P E.1 CL (SW E o sc ar) H := hP
          have hD : va_D A (SW E o sc ar) := hD
          have b_7 := sum8 (fun k => m_reach g true x2 k)
          refine n_icmp_ne (tgt := 74) hx hb dX2_areWaysConsistent_48 (by decide) (by omega) (by omega) (fun c_8 => ?_) (fun c_8 => ?_)
          · exact absurd rfl c_8
          · have hr9 := hr8 x2 (by omega) (by omega)
            refine lv_aload_n hx hb dX2_areWaysConsistent_51 rfl (lv_at hl 2 rfl) ?_
            refine va_get (D := E.1) (ci := 2) (v := .ref (o 1)) (C := RX2) (T := TX2) (N := 14) hx hb hts in_X2 hown hK.1 hP 0 rfl rfl 0 (by decide) (hts _ q188) (fun _ h9 => h9) rfl dX2_areWaysConsistent_52 ?_
            refine lv_iload_n hx hb dX2_areWaysConsistent_55 rfl (lv_at hl 0 rfl) ?_
            refine n_csi (x := k_lng g 8 x2) (va_runV (As := [iv x2]) (rest := [iv x1]) ⟨hx, hb, hml, hown, hts⟩ (mt_X3_longest l E 8 o sc ar x2 g r (by omega) (by assumption) (by assumption) (by assumption) (by assumption) (by assumption) (by assumption) (by omega) (by omega)) (cwV 1 hts (lw_V q719 q720 q721 q96 q722) rfl rfl rfl (by decide +kernel) ⟨Nat.le_of_ble_eq_true rfl, Nat.le_of_ble_eq_true rfl⟩) (PW_V (hP.sub (ws' := BW E o sc ar) [1, 2, 3, 4, 5, 6, 7, 8] rfl) hK (va_recv hK.1 hP (ci := 3) (q0 := 1) rfl rfl)) rfl rfl hl.1 rfl (lv_room (Nat.le_of_ble_eq_true rfl)) dX2_areWaysConsistent_56 ⟨(show (cll25 + 15) + 0 ≤ 247 by omega), (show (sll25 + 110) + 0 ≤ 1812 by omega)⟩) ?_
            refine lv_aload_n hx hb dX2_areWaysConsistent_59 rfl (lv_at hl 2 rfl) ?_
            refine va_get (D := E.1) (ci := 2) (v := .ref (o 1)) (C := RX2) (T := TX2) (N := 14) hx hb hts in_X2 hown hK.1 hP 0 rfl rfl 0 (by decide) (hts _ q188) (fun _ h9 => h9) rfl dX2_areWaysConsistent_60 ?_
            refine lv_iload_n hx hb dX2_areWaysConsistent_63 rfl (lv_at hl 0 rfl) ?_
            refine n_cuiS (x := k_lng g 8 x2) (w2 := SW E o sc ar) (va_runV (As := [iv x2]) (rest := [iv (k_lng g 8 x2), iv x1]) ⟨hx, hb, hml, hown, hts⟩ (mt_X3_longestByRounds l E o sc ar x2 g r (by omega) (by assumption) (by assumption) (by assumption) (by assumption) (by assumption) (by assumption) (by assumption) _) (cwV 1 hts (lw_V q727 q728 q729 q96 q730) rfl rfl rfl (by decide +kernel) ⟨Nat.le_of_ble_eq_true rfl, Nat.le_of_ble_eq_true rfl⟩) (UX_V (hP.sub (ws' := BW E o sc ar) [1, 2, 3, 4, 5, 6, 7, 8] rfl) hK (hD.sub (ws' := BW E o sc ar) [1, 2, 3, 4, 5, 6, 7, 8] rfl rfl) hE hS (va_sub_free hD hS hA [1, 2, 3, 4, 5, 6, 7, 8] rfl) (va_recv hK.1 hP (ci := 3) (q0 := 1) rfl rfl)) rfl rfl hl.1 rfl (lv_room (Nat.le_of_ble_eq_true rfl)) dX2_areWaysConsistent_64 ⟨(show (cll25 + 15) + 10 ≤ 247 by omega), (show (sll25 + 110) + 73 ≤ 1812 by omega)⟩) hP hD hS hA [1, 2, 3, 4, 5, 6, 7, 8] [0, 9, 10, 11, 12, 13, 14, 15, 16] [0, 9, 10, 11, 12, 13, 14, 15, 16, 1, 2, 3, 4, 5, 6, 7, 8] rfl rfl rfl rfl rfl rfl (fun H locs hP hD hS => ?_)
            have hP : va_P E.1 CL (SW E o sc ar) H := hP
            have hD : va_D A (SW E o sc ar) := hD
            have b_9 := k_lng_r (g := g) (by assumption) (by assumption) (by assumption) 8 x2 (by omega) (by omega)
            refine n_icmp_ne (tgt := 74) hx hb dX2_areWaysConsistent_67 (by decide) (by omega) (by omega) (fun c_10 => ?_) (fun c_10 => ?_)
            · exact absurd rfl c_10
            · refine lv_iconst (v := iI 1) hx hb dX2_areWaysConsistent_70 rfl ?_
              refine lv_goto (tgt := 75) hx hb dX2_areWaysConsistent_71 (by decide) ?_
              refine n_iand1 hx hb dX2_areWaysConsistent_75 ?_
              refine lv_istore_n (lv' := [(1, iv (x1 % 2)), (2, iv x2), (0, .ref (o 0))]) hx hb dX2_areWaysConsistent_76 rfl hl (by decide) rfl (fun ls hl => ?_)
              refine lv_iinc (v := iI (x2 + 1)) (lv' := [(2, iv (x2 + 1)), (1, iv (x1 % 2)), (0, .ref (o 0))]) hx hb dX2_areWaysConsistent_77 hl (k := 1) rfl (iI_add _ _) (by decide) rfl (fun ls hl => ?_)
              refine lv_goto (tgt := 25) hx hb dX2_areWaysConsistent_80 (by decide) ?_
              exact ihl25 (cll25 + 25) (sll25 + 183) (x1 % 2) (x2 + 1) (by omega) (by first | omega | rfl) (by omega) H locs hP hD hS ls (lv_sub hl [0, 1, 2] rfl)
    exact l25 9 47 348 1 0 (by omega) (by first | omega | rfl | trivial) (by omega) H locs hP hD hS ls hl
set_option maxHeartbeats 1000000 in
set_option maxRecDepth 100000 in
theorem mt_X8_wouldMake (l : Launch) (E : EE) (oc : Nat) (th : Int) (w9 : Int → Bool) (o : Nat → Nat) (sc : Nat → Int) (ar : Nat → Int → Int) (t : Int) (g : Int → Int) (r : Int → Nat) (ht : 0 ≤ t ∧ t < 8) (hbr : BR g ar) (htw : TW g) (hsw : SwOK g) (hhn : HN g) (hsc : SC g) (hrk : RK g r) (hr8 : ∀ t, 0 ≤ t → t < 8 → r t < 8) (hw : ∀ v, 0 ≤ v → v < 8 → m_has g v = true → w9 v = (decide (0 ≤ m_exist g v th) || (fun _ => false : Int → Bool) v)) (sz : Nat) : Met l yX8_wouldMake (ws_ yX8_wouldMake cX8_wouldMake 2 (some .int)) { frames := 10, cells := 0, slots := 0, locals := 247 } (va_Pc [.ref oc, iv t] (UW E (([(oc, .inr (7, [.ref (o 0), iv th, iv (bsI w9), iv 0]))]) ++ (SW E o sc ar)) sz)) (UQx E (fun u : (Int → Bool) × Int => True) (fun u : (Int → Bool) × Int => (if (m_dues g t th).2.2 < 0 then (m_dues g t th).1 else -1)) (fun u : (Int → Bool) × Int => ([(oc, .inr (7, [.ref (o 0), iv th, iv (bsI u.1), iv u.2]))]) ++ (SW E o sc ar)) (va_A (([(oc, .inr (7, [.ref (o 0), iv th, iv (bsI w9), iv 0]))]) ++ (SW E o sc ar)) sz)) 0 0 (va_A (([(oc, .inr (7, [.ref (o 0), iv th, iv (bsI w9), iv 0]))]) ++ (SW E o sc ar)) sz) := by
  refine Met.ofW (cc := cX8_wouldMake) (maxL := 2) (ret := (some .int)) (by decide) rfl ?_
  intro p e s m args below meth c s₁ B hml hv
  obtain ⟨rfl, hsz, hP, hK, hD0⟩ := hv
  have hx := B.exec
  have hb := B.bytes
  have hr := B.returns
  have hts := atoms_spec (ws := (ws_ yX8_wouldMake cX8_wouldMake 2 (some .int))) B.pre
  have hts : ∀ w ∈ lw_all, w.before _ s = true := fun w h => hts w (List.mem_cons_of_mem _ h)
  have hown : s.vm.findClass RX8 = some m.cls := findClass_of_methodNamed B.named
  have hlocks := B.notSynchronized
  subst hsz
  have hD := hD0.self (sz := s.heap.size)
  generalize hAe : va_A (([(oc, .inr (7, [.ref (o 0), iv th, iv (bsI w9), iv 0]))]) ++ (SW E o sc ar)) s.heap.size = A at hD ⊢
  have hA : ∀ q : Nat, s.heap.size ≤ q → A q := fun q h => by rw [← hAe]; exact Or.inr h
  have hS : va_S A s.heap s.heap [] := va_S.rf
  have hl := lv_entry ([.ref oc, iv t]) (n := 2) (Nat.le_of_ble_eq_true rfl)
  rw [lg_entry_eq]
  generalize (lg_sl ([.ref oc, iv t]) ++ List.replicate (2 - (lg_sl ([.ref oc, iv t])).length) Slot.unset).toArray = ls at hl ⊢
  have hl : lv_has ls 2 [(0, .ref oc), (1, iv t)] := hl
  refine lv_aload_n hx hb dX8_wouldMake_0 rfl (lv_at hl 0 rfl) ?_
  refine lv_iload_n hx hb dX8_wouldMake_1 rfl (lv_at hl 1 rfl) ?_
  have hur := m_stands_r hsw ht
  have hr9 := hr8 (m_stands g t) hur.1 hur.2
  refine n_cuxS (x := fun u_1 => (m_cnt g th 8 t ((fun _ => false), -1)).2.2) (w2 := fun u_1 => ([(oc, .inr (7, [.ref (o 0), iv th, iv (bsI u_1.1), iv u_1.2]))]) ++ (SW E o sc ar)) (va_runV (As := [iv t]) (rest := []) ⟨hx, hb, hml, hown, hts⟩ (mt_X8_missing l E 8 oc th w9 0 o sc ar t g r (fun _ => false) (by omega) (by first | assumption | exact hsr.br) (by assumption) (by assumption) (by assumption) (by assumption) (by assumption) (by omega) (by omega) (by exact hw) _) (cwV 1 hts (lw_V q806 q799 q800 q124 q801) rfl rfl rfl (by decide +kernel) ⟨Nat.le_of_ble_eq_true rfl, Nat.le_of_ble_eq_true rfl⟩) (UW_V hP hK (hD) (va_recv hK.1 hP (ci := 7) (q0 := 0) rfl rfl)) rfl rfl hl.1 rfl (lv_room (Nat.le_of_ble_eq_true rfl)) dX8_wouldMake_2 ⟨Nat.le_of_ble_eq_true rfl, Nat.le_of_ble_eq_true rfl⟩) hP hD hS hA [0, 1, 2, 3, 4, 5, 6, 7, 8, 9, 10, 11, 12, 13, 14, 15, 16, 17] [] [0, 1, 2, 3, 4, 5, 6, 7, 8, 9, 10, 11, 12, 13, 14, 15, 16, 17] rfl rfl rfl rfl rfl (fun _ => rfl) (fun u_1 H locs hu_1 hP hD hS => ?_)
  have hu_1 : (m_cnt g th 8 t ((fun _ => false), -1)).2.2 = -1 → (∀ v, 0 ≤ v → v < 8 → m_has g v = true → u_1.1 v = (decide (0 ≤ m_exist g v th) || (m_cnt g th 8 t ((fun _ => false), -1)).2.1 v)) ∧ u_1.2 = 0 + (m_cnt g th 8 t ((fun _ => false), -1)).1 := hu_1
  have hP : va_P E.1 CL (([(oc, .inr (7, [.ref (o 0), iv th, iv (bsI u_1.1), iv u_1.2]))]) ++ (SW E o sc ar)) H := hP
  have hD : va_D A (([(oc, .inr (7, [.ref (o 0), iv th, iv (bsI u_1.1), iv u_1.2]))]) ++ (SW E o sc ar)) := hD
  have hdu := m_dues_r (th := th) htw hsw ht
  refine n_top (y := (m_dues g t th).2.2) (by rfl) ?_
  refine lv_iconst (v := iI (-1)) hx hb dX8_wouldMake_5 rfl ?_
  refine n_icmp_ne (tgt := 16) hx hb dX8_wouldMake_6 (by decide) (by omega) (by omega) (fun c_2 => ?_) (fun c_2 => ?_)
  · refine lv_iconst (v := iI (-1)) hx hb dX8_wouldMake_16 rfl ?_
    have hfin : (-1) = (if (m_dues g t th).2.2 < 0 then (m_dues g t th).1 else -1) := by
      first | (rw [if_pos (by omega)]; have q9 := (hu_1 (by show (m_dues g t th).2.2 = -1; omega)).2; rw [q9]; show (0 : Int) + (m_dues g t th).1 = _; omega) | rw [if_neg (by omega)]
    exact W.iret (v := iI (-1)) hx hb hr (fun tt_ ht_ hW_ => ⟨⟨iI (-1), (u_1.1, u_1.2), rfl, ⟨trivial, (congrArg iI hfin)⟩, by rw [ht_]; exact hP, hD⟩, hS.F ht_⟩) hS.2.2 dX8_wouldMake_17
  · refine lv_aload_n hx hb dX8_wouldMake_9 rfl (lv_at hl 0 rfl) ?_
    refine va_get (D := E.1) (ci := 7) (v := iv u_1.2) (C := RX8) (T := TX8) (N := 4) hx hb hts in_X8 hown hK.1 hP 0 rfl rfl 3 (by decide) (hts _ q788) (fun _ h9 => h9) rfl dX8_wouldMake_10 ?_
    refine lv_goto (tgt := 17) hx hb dX8_wouldMake_13 (by decide) ?_
    have hfin : u_1.2 = (if (m_dues g t th).2.2 < 0 then (m_dues g t th).1 else -1) := by
      first | (rw [if_pos (by omega)]; have q9 := (hu_1 (by show (m_dues g t th).2.2 = -1; omega)).2; rw [q9]; show (0 : Int) + (m_dues g t th).1 = _; omega) | rw [if_neg (by omega)]
    exact W.iret (v := iI u_1.2) hx hb hr (fun tt_ ht_ hW_ => ⟨⟨iI u_1.2, (u_1.1, u_1.2), rfl, ⟨trivial, (congrArg iI hfin)⟩, by rw [ht_]; exact hP, hD⟩, hS.F ht_⟩) hS.2.2 dX8_wouldMake_17
set_option maxHeartbeats 2000000 in
set_option maxRecDepth 100000 in
theorem mt_X2_tried (l : Launch) (E : EE) (o : Nat → Nat) (sc : Nat → Int) (ar : Nat → Int → Int) (t : Int) (th : Int) (g : Int → Int) (r : Int → Nat) (hst : l.stackTraces = false) (hsr : SR g sc ar) (ht : 0 ≤ t ∧ t < 8) (hth : 0 ≤ th ∧ th ≤ 3) (htw : TW g) (hsw : SwOK g) (htm : TM g) (hhn : HN g) (hsc : SC g) (hrk : RK g r) (hr8 : ∀ t, 0 ≤ t → t < 8 → r t < 8) (how : OY g) (hfit : g 1 + (m_dues g t th).1 ≤ 160) (sz : Nat) : vx_Met l yX2_tried (wsW_ yX2_tried cX2_tried 5 (some .int) [(24, 32, 35, 201)]) { frames := 20, cells := 1, slots := 4, locals := 624 } (va_Pc [.ref (o 0), iv t, iv th] (UX E (SW E o sc ar) sz)) (UQx E (fun u : SU => True) (fun u : SU => (if (m_dues g t th).2.2 < 0 then (m_dues g t th).1 else -1)) (fun u : SU => SW E o u.1 u.2) (va_A (SW E o sc ar) sz)) (UXx E (fun (En : String) (u : Unit) => False) (fun u : Unit => SW E o sc ar) (fun u : Unit => none) (va_A (SW E o sc ar) sz)) 1 4 (va_A (SW E o sc ar) sz) := by
  refine vx_ofWH (hh := [(24, 32, 35, 201)]) (cc := cX2_tried) (maxL := 5) (ret := (some .int)) (by decide) rfl ?_
  intro p e s m args below meth c s₁ B hml hv
  obtain ⟨rfl, hsz, hP, hK, hD0, hE⟩ := hv
  have hx := B.exec
  have hb := B.bytes
  have hr := B.returns
  have hts := atoms_spec (ws := (wsW_ yX2_tried cX2_tried 5 (some .int) [(24, 32, 35, 201)])) B.pre
  have htab : c.exceptionTable.toList = tableOf [(24, 32, 35, 201)] := vx_table (x := yX2_tried) B (hts _ List.mem_cons_self)
  have hts : ∀ w ∈ lw_all, w.before _ s = true := fun w h => hts w (List.mem_cons_of_mem _ h)
  have hown : s.vm.findClass RX2 = some m.cls := findClass_of_methodNamed B.named
  have hlocks := B.notSynchronized
  subst hsz
  have hD := hD0.self (sz := s.heap.size)
  generalize hAe : va_A (SW E o sc ar) s.heap.size = A at hD hE ⊢
  have hA : ∀ q : Nat, s.heap.size ≤ q → A q := fun q h => by rw [← hAe]; exact Or.inr h
  have hS : va_S A s.heap s.heap [] := va_S.rf
  have hl := lv_entry ([.ref (o 0), iv t, iv th]) (n := 5) (Nat.le_of_ble_eq_true rfl)
  rw [lg_entry_eq]
  generalize (lg_sl ([.ref (o 0), iv t, iv th]) ++ List.replicate (5 - (lg_sl ([.ref (o 0), iv t, iv th])).length) Slot.unset).toArray = ls at hl ⊢
  have hl : lv_has ls 5 [(0, .ref (o 0)), (1, iv t), (2, iv th)] := hl
  have hn1 := hsr.n1
  have ho1 := how.1
  have ho2 := how.2.1
  have hpl := how.pl
  have hbr := hsr.br
  have hz9_q_1 : s.heap.size ≤ (s.heap).size := hS.1
  refine n_newK (ci := 7) (fs := [.null, iv 0, iv 0, iv 0]) (C := RX8) (T := TX8) (N := 4) hx hb hts in_X8 tyX8 tyX8_ok hown (hts _ q775) (hts _ q776) (hts _ q124) hK hP hD hS hA rfl (fun j hj => by rcases (show j = 0 ∨ j = 1 ∨ j = 2 ∨ j = 3 by omega) with rfl | rfl | rfl | rfl <;> rfl) (Nat.le_of_ble_eq_true rfl) (Nat.le_of_ble_eq_true rfl) dX2_tried_0 (fun q_1 H hfr_q_1 o_2 hsz_q_1 hP hD hS => ?_)
  have hge_q_1 : s.heap.size ≤ q_1 := Nat.le_trans hz9_q_1 hsz_q_1
  have hP : va_P E.1 CL ((SW E o sc ar) ++ ([(q_1, .inr (7, [.null, iv 0, iv 0, iv 0]))])) H := hP
  have hD : va_D A ((SW E o sc ar) ++ ([(q_1, .inr (7, [.null, iv 0, iv 0, iv 0]))])) := hD
  refine lv_dup hx hb dX2_tried_3 rfl ?_
  refine lv_aload_n hx hb dX2_tried_4 rfl (lv_at hl 0 rfl) ?_
  refine lv_iload_n hx hb dX2_tried_5 rfl (lv_at hl 2 rfl) ?_
  refine n_cuxvS (w2 := fun u_3 => (SW E o sc ar) ++ ([(q_1, .inr (7, [.ref (o 0), iv th, iv (bsI u_3), iv 0]))])) (va_runI (As := [.ref (o 0), iv th]) (rest := [.ref q_1]) ⟨hx, hb, hml, hown, hts⟩ (mt_X8_init l E q_1 o sc ar th g (by omega) (by assumption) (by assumption) (by assumption) (by assumption) _) (n_cwI 2 hts q777 q778 q124 q779 rfl rfl rfl (by decide +kernel) ⟨Nat.le_of_ble_eq_true rfl, Nat.le_of_ble_eq_true rfl⟩) (UW_S (hP.sub (ws' := ([(q_1, .inr (7, [.null, iv 0, iv 0, iv 0]))]) ++ (SW E o sc ar)) [17, 0, 1, 2, 3, 4, 5, 6, 7, 8, 9, 10, 11, 12, 13, 14, 15, 16] rfl) hK (hD.sub (ws' := ([(q_1, .inr (7, [.null, iv 0, iv 0, iv 0]))]) ++ (SW E o sc ar)) [17, 0, 1, 2, 3, 4, 5, 6, 7, 8, 9, 10, 11, 12, 13, 14, 15, 16] rfl rfl)) rfl rfl hl.1 rfl (lv_room (Nat.le_of_ble_eq_true rfl)) dX2_tried_6 ⟨Nat.le_of_ble_eq_true rfl, Nat.le_of_ble_eq_true rfl⟩) hP hD hS hA [17, 0, 1, 2, 3, 4, 5, 6, 7, 8, 9, 10, 11, 12, 13, 14, 15, 16] [] [1, 2, 3, 4, 5, 6, 7, 8, 9, 10, 11, 12, 13, 14, 15, 16, 17, 0] rfl rfl rfl rfl rfl (fun _ => rfl) (fun u_3 H locs hu_3 hP hD hS => ?_)
  have hu_3 : ∀ v, 0 ≤ v → v < 8 → m_has g v = true → u_3 v = (decide (0 ≤ m_exist g v th) || (fun _ => false : Int → Bool) v) := hu_3
  have hP : va_P E.1 CL ((SW E o sc ar) ++ ([(q_1, .inr (7, [.ref (o 0), iv th, iv (bsI u_3), iv 0]))])) H := hP
  have hD : va_D A ((SW E o sc ar) ++ ([(q_1, .inr (7, [.ref (o 0), iv th, iv (bsI u_3), iv 0]))])) := hD
  have hr9 := hr8 (m_stands g t) (m_stands_r hsw ht).1 (m_stands_r hsw ht).2
  refine lv_iload_n hx hb dX2_tried_9 rfl (lv_at hl 1 rfl) ?_
  refine n_cuxS (x := fun u_4 => (m_cnt g th 8 t ((fun _ => false), -1)).2.2) (w2 := fun u_4 => (SW E o sc ar) ++ ([(q_1, .inr (7, [.ref (o 0), iv th, iv (bsI u_4.1), iv u_4.2]))])) (va_runV (As := [iv t]) (rest := []) ⟨hx, hb, hml, hown, hts⟩ (mt_X8_missing l E 8 q_1 th u_3 0 o sc ar t g r (fun _ => false) (by omega) (by first | assumption | exact hsr.br) (by assumption) (by assumption) (by assumption) (by assumption) (by assumption) (by exact hr9) (by omega) (by exact hu_3) _) (cwV 1 hts (lw_V q798 q799 q800 q124 q801) rfl rfl rfl (by decide +kernel) ⟨Nat.le_of_ble_eq_true rfl, Nat.le_of_ble_eq_true rfl⟩) (UW_V (hP.sub (ws' := ([(q_1, .inr (7, [.ref (o 0), iv th, iv (bsI u_3), iv 0]))]) ++ (SW E o sc ar)) [17, 0, 1, 2, 3, 4, 5, 6, 7, 8, 9, 10, 11, 12, 13, 14, 15, 16] rfl) hK (hD.sub (ws' := ([(q_1, .inr (7, [.ref (o 0), iv th, iv (bsI u_3), iv 0]))]) ++ (SW E o sc ar)) [17, 0, 1, 2, 3, 4, 5, 6, 7, 8, 9, 10, 11, 12, 13, 14, 15, 16] rfl rfl) (va_recv hK.1 hP (ci := 7) (q0 := 17) rfl rfl)) rfl rfl hl.1 rfl (lv_room (Nat.le_of_ble_eq_true rfl)) dX2_tried_10 ⟨Nat.le_of_ble_eq_true rfl, Nat.le_of_ble_eq_true rfl⟩) hP hD hS hA [17, 0, 1, 2, 3, 4, 5, 6, 7, 8, 9, 10, 11, 12, 13, 14, 15, 16] [] [1, 2, 3, 4, 5, 6, 7, 8, 9, 10, 11, 12, 13, 14, 15, 16, 17, 0] rfl rfl rfl rfl rfl (fun _ => rfl) (fun u_4 H locs hu_4 hP hD hS => ?_)
  have hu_4 : (m_cnt g th 8 t ((fun _ => false), -1)).2.2 = -1 → (∀ v, 0 ≤ v → v < 8 → m_has g v = true → u_4.1 v = (decide (0 ≤ m_exist g v th) || (m_cnt g th 8 t ((fun _ => false), -1)).2.1 v)) ∧ u_4.2 = 0 + (m_cnt g th 8 t ((fun _ => false), -1)).1 := hu_4
  have hP : va_P E.1 CL ((SW E o sc ar) ++ ([(q_1, .inr (7, [.ref (o 0), iv th, iv (bsI u_4.1), iv u_4.2]))])) H := hP
  have hD : va_D A ((SW E o sc ar) ++ ([(q_1, .inr (7, [.ref (o 0), iv th, iv (bsI u_4.1), iv u_4.2]))])) := hD
  have hdu := m_dues_r (th := th) htw hsw ht
  refine n_top (y := (m_dues g t th).2.2) (by rfl) ?_
  refine lv_iconst (v := iI (-1)) hx hb dX2_tried_13 rfl ?_
  refine n_icmp_eq (tgt := 19) hx hb dX2_tried_14 (by decide) (by omega) (by omega) (fun c_5 => ?_) (fun c_5 => ?_)
  · refine lv_aload_n hx hb dX2_tried_19 rfl (lv_at hl 0 rfl) ?_
    refine va_get (D := E.1) (ci := 2) (v := iv (sc 2)) (C := RX2) (T := TX2) (N := 14) hx hb hts in_X2 hown hK.1 hP 0 rfl rfl 2 (by decide) (hts _ q193) (fun _ h9 => h9) rfl dX2_tried_20 ?_
    refine n_top (y := g 1) (by exact hn1.1) ?_
    refine lv_istore_n (lv' := [(3, iv (g 1)), (0, .ref (o 0)), (1, iv t), (2, iv th)]) hx hb dX2_tried_23 rfl hl (by decide) rfl (fun ls hl => ?_)
    refine lv_aload_n hx hb dX2_tried_24 rfl (lv_at hl 1 rfl) ?_
    refine lv_iload_n hx hb dX2_tried_25 rfl (lv_at hl 2 rfl) ?_
    refine lv_iload_n hx hb dX2_tried_26 rfl (lv_at hl 3 rfl) ?_
    have hm9 : (m_dues g t th).2.2 < 0 := by omega
    have hsg0 := hsr.sg
    have hmade := get_made (fl := (fun x => ar 16 x + 1)) htw hsw how.1 ht hm9
    have hfit9 : (m_get g th 8 t 0 (g, (fun x => ar 16 x + 1))).2.1 1 ≤ 160 := by rw [hmade]; exact hfit
    refine n_cuxS (x := fun u_6 => (m_get g th 8 t 0 (g, (fun x => ar 16 x + 1))).1) (w2 := fun u_6 => (SW E o u_6.1 u_6.2) ++ ([(q_1, .inr (7, [.ref (o 0), iv th, iv (bsI u_4.1), iv u_4.2]))])) (va_runV (As := [iv t, iv th]) (rest := []) ⟨hx, hb, hml, hown, hts⟩ (mt_X2_get l E 8 o sc ar t th g r g (fun x => ar 16 x + 1) 0 (fun _ => false) (by omega) (by omega) (by exact hsg0) (by exact TE_rf g) (by assumption) (by assumption) (by assumption) (by assumption) (by assumption) (by assumption) (by exact hr9) (by omega) (by assumption) (by exact RF_rf how.1) (by exact hm9) (by exact hfit9) _) (cwV 2 hts (lw_V q807 q809 qs14 q95 q810) rfl rfl rfl (by decide +kernel) ⟨(show 3 + 2 * 8 + 1 ≤ 20 by omega), (show 8 + (5 + 11) + (200 + 50 * 8) ≤ 624 by omega)⟩) (UW_V (hP.sub (ws' := SW E o sc ar) [0, 1, 2, 3, 4, 5, 6, 7, 8, 9, 10, 11, 12, 13, 14, 15, 16] rfl) hK (hD.sub (ws' := SW E o sc ar) [0, 1, 2, 3, 4, 5, 6, 7, 8, 9, 10, 11, 12, 13, 14, 15, 16] rfl rfl) (va_recv hK.1 hP (ci := 2) (q0 := 0) rfl rfl)) rfl rfl hl.1 rfl (lv_room (Nat.le_of_ble_eq_true rfl)) dX2_tried_27 ⟨Nat.le_of_ble_eq_true rfl, Nat.le_of_ble_eq_true rfl⟩) hP hD hS hA [0, 1, 2, 3, 4, 5, 6, 7, 8, 9, 10, 11, 12, 13, 14, 15, 16] [17] [1, 2, 3, 4, 5, 6, 7, 8, 9, 10, 11, 12, 13, 14, 15, 16, 17, 0] rfl rfl rfl rfl rfl (fun _ => rfl) (fun u_6 H locs hu_6 hP hD hS => ?_)
    have hu_6 : SG g (m_get g th 8 t 0 (g, (fun x => ar 16 x + 1))).2.1 (m_get g th 8 t 0 (g, (fun x => ar 16 x + 1))).2.2 0 u_6.1 u_6.2 := hu_6
    have hP : va_P E.1 CL ((SW E o u_6.1 u_6.2) ++ ([(q_1, .inr (7, [.ref (o 0), iv th, iv (bsI u_4.1), iv u_4.2]))])) H := hP
    have hD : va_D A ((SW E o u_6.1 u_6.2) ++ ([(q_1, .inr (7, [.ref (o 0), iv th, iv (bsI u_4.1), iv u_4.2]))])) := hD
    refine lv_istore (lv' := [(4, iv ((m_get g th 8 t 0 (g, (fun x => ar 16 x + 1))).1)), (3, iv (g 1)), (0, .ref (o 0)), (1, iv t), (2, iv th)]) hx hb dX2_tried_30 hl (by decide) rfl (fun ls hl => ?_)
    refine lv_goto (tgt := 39) hx hb dX2_tried_32 (by decide) ?_
    have hn9 := hu_6.n1.1
    refine lv_aload_n hx hb dX2_tried_39 rfl (lv_at hl 2 rfl) ?_
    refine va_get (D := E.1) (ci := 2) (v := iv (u_6.1 2)) (C := RX2) (T := TX2) (N := 14) hx hb hts in_X2 hown hK.1 hP 0 rfl rfl 2 (by decide) (hts _ q193) (fun _ h9 => h9) rfl dX2_tried_40 ?_
    refine n_top (y := (m_get g th 8 t 0 (g, (fun x => ar 16 x + 1))).2.1 1) (by exact hn9) ?_
    refine lv_iload_n hx hb dX2_tried_43 rfl (lv_at hl 1 rfl) ?_
    refine n_isub hx hb dX2_tried_44 ?_
    have hfin : ((m_get g th 8 t 0 (g, (fun x => ar 16 x + 1))).2.1 1) - (g 1) = (if (m_dues g t th).2.2 < 0 then (m_dues g t th).1 else -1) := by
      rw [hmade, if_pos hm9]
      omega
    have hP := hP.sub (ws' := SW E o u_6.1 u_6.2) [0, 1, 2, 3, 4, 5, 6, 7, 8, 9, 10, 11, 12, 13, 14, 15, 16] rfl
    have hD := hD.sub (ws' := SW E o u_6.1 u_6.2) [0, 1, 2, 3, 4, 5, 6, 7, 8, 9, 10, 11, 12, 13, 14, 15, 16] (by decide) rfl
    refine vx_ret ?_
    refine W.widen (k := 1) (n := 4) (Nat.le_of_ble_eq_true rfl) (Nat.le_of_ble_eq_true rfl) ?_
    exact W.iret (v := iI (((m_get g th 8 t 0 (g, (fun x => ar 16 x + 1))).2.1 1) - (g 1))) hx hb hr (fun tt_ ht_ hW_ => ⟨⟨iI (((m_get g th 8 t 0 (g, (fun x => ar 16 x + 1))).2.1 1) - (g 1)), (u_6.1, u_6.2), rfl, ⟨trivial, (congrArg iI hfin)⟩, by rw [ht_]; exact hP, hD⟩, hS.F ht_⟩) hS.2.2 dX2_tried_45
  · refine lv_iconst (v := iI (-1)) hx hb dX2_tried_17 rfl ?_
    have hfin : (-1) = (if (m_dues g t th).2.2 < 0 then (m_dues g t th).1 else -1) := by
      exact (if_neg (by omega)).symm
    have hP := hP.sub (ws' := SW E o sc ar) [0, 1, 2, 3, 4, 5, 6, 7, 8, 9, 10, 11, 12, 13, 14, 15, 16] rfl
    have hD := hD.sub (ws' := SW E o sc ar) [0, 1, 2, 3, 4, 5, 6, 7, 8, 9, 10, 11, 12, 13, 14, 15, 16] (by decide) rfl
    refine vx_ret ?_
    refine W.widen (k := 1) (n := 4) (Nat.le_of_ble_eq_true rfl) (Nat.le_of_ble_eq_true rfl) ?_
    exact W.iret (v := iI (-1)) hx hb hr (fun tt_ ht_ hW_ => ⟨⟨iI (-1), (sc, ar), rfl, ⟨trivial, (congrArg iI hfin)⟩, by rw [ht_]; exact hP, hD⟩, hS.F ht_⟩) hS.2.2 dX2_tried_18
