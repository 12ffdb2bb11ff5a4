set_option maxHeartbeats 4000000 in
set_option maxRecDepth 100000 in
theorem mt_X5_gets (l : Launch) (E : EE) (d : Nat) : ∀ (o : Nat → Nat) (sc : Nat → Int) (ar : Nat → Int → Int) (t : Int) (th : Int) (dp : Int) (r : Int → Nat) (G : Int → Int) (hB : ∀ k x, 0 ≤ ar k x ∧ ar k x < 2147483648) (h : 0 ≤ t ∧ t < 8) (hth : 0 ≤ th ∧ th ≤ 3) (hdp : 0 ≤ dp ∧ dp + d ≤ 8) (htw : TW G) (hsw : SwOK G) (htm : TM G) (hrk : RK G r) (hgi : GI G (ar 1) (5 ^ d)) (h60 : (m_get G th d t dp ((ar 1), ar 7)).2.1 1 ≤ 60) (hd : r (m_stands G t) < d) (sz : Nat), Met l yX5_gets (ws_ yX5_gets cX5_gets 9 (some .int)) { frames := 3 + d, cells := 0, slots := 0, locals := 66 + 28 * d } (va_Pc [.ref (o 0), iv t, iv th, iv dp] (UW E (MW E o sc ar) sz)) (UQi E ((m_get G th d t dp (ar 1, ar 7)).1) (MW E o sc (ua (ua ar 1 ((m_get G th d t dp (ar 1, ar 7)).2.1)) 7 ((m_get G th d t dp (ar 1, ar 7)).2.2))) (va_A (MW E o sc ar) sz)) 0 0 (va_A (MW E o sc ar) sz) := by
  induction d with
  | zero => intro o sc ar t th dp r G hB h hth hdp htw hsw htm hrk hgi h60 hd sz; exfalso; omega
  | succ d ihd =>
    intro o sc ar t th dp r G hB h hth hdp htw hsw htm hrk hgi h60 hd sz
    refine Met.ofW (cc := cX5_gets) (maxL := 9) (ret := (some .int)) (by decide) rfl ?_
    intro p e s m args below meth c s₁ B hml hv
    obtain ⟨rfl, hsz, hP, hK, hD0⟩ := hv
    have hx := B.exec
    have hb := B.bytes
    have hr := B.returns
    have hts := atoms_spec (ws := (ws_ yX5_gets cX5_gets 9 (some .int))) B.pre
    have hts : ∀ w ∈ lw_all, w.before _ s = true := fun w h => hts w (List.mem_cons_of_mem _ h)
    have hown : s.vm.findClass RX5 = some m.cls := findClass_of_methodNamed B.named
    have hlocks := B.notSynchronized
    subst hsz
    have hD := hD0.self (sz := s.heap.size)
    generalize hAe : va_A (MW E o sc ar) s.heap.size = A at hD ⊢
    have hA : ∀ q : Nat, s.heap.size ≤ q → A q := fun q h => by rw [← hAe]; exact Or.inr h
    have hS : va_S A s.heap s.heap [] := va_S.rf
    have hl := lv_entry ([.ref (o 0), iv t, iv th, iv dp]) (n := 9) (Nat.le_of_ble_eq_true rfl)
    rw [lg_entry_eq]
    generalize (lg_sl ([.ref (o 0), iv t, iv th, iv dp]) ++ List.replicate (9 - (lg_sl ([.ref (o 0), iv t, iv th, iv dp])).length) Slot.unset).toArray = ls at hl ⊢
    have hl : lv_has ls 9 [(0, .ref (o 0)), (1, iv t), (2, iv th), (3, iv dp)] := hl
    have hp5 : (1 : Int) ≤ 5 ^ d := by have := Int.pow_pos (n := 5) (m := d) (by decide); omega
    have hpe : (5 : Int) ^ (d + 1) = 5 ^ d * 5 := Int.pow_succ 5 d
    have hu := m_stands_r hsw h
    have hnn := htw (m_stands G t) hu.1 hu.2
    have hmm := htm (m_stands G t) hu.1 hu.2
    have hz2 := hgi.2.2.2.1
    have hz3 := hgi.2.2.2.2.1
    have hz4 := hgi.2.2.2.2.2
    refine lv_aload_n hx hb dX5_gets_0 rfl (lv_at hl 0 rfl) ?_
    refine va_get (D := E.1) (ci := 0) (v := .ref (o 1)) (C := RX5) (T := TX5) (N := 23) hx hb hts in_X5 hown hK.1 hP 0 rfl rfl 0 (by decide) (hts _ q2029) (fun _ h9 => h9) rfl dX5_gets_1 ?_
    refine lv_iconst (v := iI 2) hx hb dX5_gets_4 rfl ?_
    refine lv_dup2_11 hx hb dX5_gets_5 rfl rfl ?_
    refine n_iald (f := ar 1) hx hb hK.1 hP 1 0 rfl rfl (by omega) (by decide) dX5_gets_6 ?_
    refine lv_iconst (v := iI 1) hx hb dX5_gets_7 rfl ?_
    refine n_iadd hx hb dX5_gets_8 ?_
    have b_1 := (hB 1) 2
    refine n_iast (f := ar 1) hx hb hK.1 hP hD hS 1 0 rfl rfl (by omega) (by decide) dX5_gets_9 (ws2 := MW E o sc (ua ar 1 (ui (ar 1) 2 ((ar 1 2) + 1)))) rfl (fun H locs hP hD hS => ?_)
    obtain ⟨a_2, ea_2⟩ : ∃ zz : Int → Int, zz = ui (ar 1) 2 ((ar 1 2) + 1) := ⟨_, rfl⟩
    rw [← ea_2] at hP hD
    have hBa_2 := ui_b (i := 2) (hB 1) (show 0 ≤ (ar 1 2) + 1 ∧ (ar 1 2) + 1 < 2147483648 by omega); rw [← ea_2] at hBa_2
    have hgi1 : GI G a_2 (5 ^ (d + 1) - 1) := by rw [ea_2]; exact GI_ui2 (by omega) (by rw [show (5 : Int) ^ (d + 1) - 1 + 1 = 5 ^ (d + 1) by omega]; exact hgi)
    have hsw1 : SwOK a_2 := te_sw hgi1.1 hsw
    have hom : 0 ≤ a_2 1 ∧ a_2 1 ≤ 60 := hgi1.2.1
    refine lv_aload_n hx hb dX5_gets_10 rfl (lv_at hl 0 rfl) ?_
    refine lv_iload_n hx hb dX5_gets_11 rfl (lv_at hl 1 rfl) ?_
    refine n_csi (x := m_stands a_2 t) (va_runV (As := [iv t]) (rest := []) ⟨hx, hb, hml, hown, hts⟩ (mt_X5_stands l E o sc (ua ar 1 a_2) t (ua_b 1 hB hgi1.2.2.1) (by omega) (by exact hsw1)) (cwV 1 hts (lw_V q2191 q2193 qs64 q113 q2194) rfl rfl rfl (by decide +kernel) ⟨(show 1 + 1 ≤ 3 + (d + 1) by omega), (show 8 + (3 + 11) + 22 ≤ 66 + 28 * (d + 1) by omega)⟩) (PW_V hP hK (va_recv hK.1 hP (ci := 0) (q0 := 0) rfl rfl)) rfl rfl hl.1 rfl (lv_room (Nat.le_of_ble_eq_true rfl)) dX5_gets_12 ⟨Nat.le_of_ble_eq_true rfl, Nat.le_of_ble_eq_true rfl⟩) ?_
    refine n_top (y := m_stands G t) (by exact te_stands hgi1.1 hsw (by omega)) ?_
    refine lv_istore (lv' := [(4, iv (m_stands G t)), (0, .ref (o 0)), (1, iv t), (2, iv th), (3, iv dp)]) hx hb dX5_gets_15 hl (by decide) rfl (fun ls hl => ?_)
    refine lv_aload_n hx hb dX5_gets_17 rfl (lv_at hl 1 rfl) ?_
    refine lv_iload hx hb dX5_gets_18 (lv_at hl 0 rfl) ?_
    refine lv_iload_n hx hb dX5_gets_20 rfl (lv_at hl 3 rfl) ?_
    have b_3 := m_stands_r (g := G) hsw (t := t) (by omega)
    refine n_csi (x := m_exist a_2 (m_stands G t) th) (va_runV (As := [iv (m_stands G t), iv th]) (rest := []) ⟨hx, hb, hml, hown, hts⟩ (mt_X5_existing l E o sc (ua ar 1 a_2) (m_stands G t) th (ua_b 1 hB hgi1.2.2.1) (by omega) (by omega) (by first | exact hom | exact ⟨how.1, how.2.1⟩ | omega)) (cwV 2 hts (lw_V q2328 q2330 qs75 q113 q2331) rfl rfl rfl (by decide +kernel) ⟨(show 2 + 1 ≤ 3 + (d + 1) by omega), (show 8 + (4 + 11) + 43 ≤ 66 + 28 * (d + 1) by omega)⟩) (PW_V hP hK (va_recv hK.1 hP (ci := 0) (q0 := 0) rfl rfl)) rfl rfl hl.1 rfl (lv_room (Nat.le_of_ble_eq_true rfl)) dX5_gets_21 ⟨Nat.le_of_ble_eq_true rfl, Nat.le_of_ble_eq_true rfl⟩) ?_
    refine lv_istore (lv' := [(5, iv (m_exist a_2 (m_stands G t) th)), (4, iv (m_stands G t)), (0, .ref (o 0)), (1, iv t), (2, iv th), (3, iv dp)]) hx hb dX5_gets_24 hl (by decide) rfl (fun ls hl => ?_)
    refine lv_iload hx hb dX5_gets_26 (lv_at hl 0 rfl) ?_
    have b_4 := m_exist_r (g := a_2) (by first | exact hom | exact ⟨how.1, how.2.1⟩ | omega) (m_stands G t) th
    refine n_if_lt (tgt := 44) hx hb dX5_gets_28 (by decide) (by omega) (fun c_5 => ?_) (fun c_5 => ?_)
    · have hq60 : (itI (m_getF G th d (m_stands G t) dp) (m_of G (m_stands G t) 2) (a_2, ar 7)).1 1 + 1 ≤ 60 := by
        have hh := h60
        rw [m_get_s, if_neg (by rw [← ea_2]; omega), ← ea_2] at hh
        simp only [m_put_1] at hh
        exact hh
      refine lv_iconst (v := iI 0) hx hb dX5_gets_44 rfl ?_
      refine lv_istore (lv' := [(6, iv 0), (5, iv (m_exist a_2 (m_stands G t) th)), (4, iv (m_stands G t)), (0, .ref (o 0)), (1, iv t), (2, iv th), (3, iv dp)]) hx hb dX5_gets_45 hl (by decide) rfl (fun ls hl => ?_)
      have l47 : ∀ (fu : Nat) (x6 : Int) (gv : Int → Int) (fv : Int → Int), (0 ≤ x6 ∧ x6 ≤ m_of G (m_stands G t) 2) → ((gv, fv) = itI (m_getF G th d (m_stands G t) dp) x6 (a_2, ar 7)) → (GI G gv (5 ^ (d + 1) - 1 - x6 * 5 ^ d)) → (∀ x, 0 ≤ fv x ∧ fv x < 2147483648) → (m_of G (m_stands G t) 2 - x6 < (fu : Int)) → ∀ (H : Heap) (locs : List Loc), va_P E.1 CL (MW E o sc (ua (ua ar 1 gv) 7 fv)) H → va_D A (MW E o sc (ua (ua ar 1 gv) 7 fv)) → va_S A s.heap H locs → ∀ ls : Array Slot, lv_has ls 9 [(6, iv x6), (5, iv (m_exist a_2 (m_stands G t) th)), (4, iv (m_stands G t)), (0, .ref (o 0)), (1, iv t), (2, iv th), (3, iv dp)] → W p l e (headSpec (ws_ yX5_gets cX5_gets 9 (some .int)) { frames := 3 + (d + 1), cells := 0, slots := 0, locals := 66 + 28 * (d + 1) }).room s m ([.ref (o 0), iv t, iv th, iv dp] : List Value).toArray below meth c H locs 0 0 (MQ below (UQi E ((m_get G th (d + 1) t dp (ar 1, ar 7)).1) (MW E o sc (ua (ua ar 1 ((m_get G th (d + 1) t dp (ar 1, ar 7)).2.1)) 7 ((m_get G th (d + 1) t dp (ar 1, ar 7)).2.2))) A) ([.ref (o 0), iv t, iv th, iv dp] : List Value).toArray s 0 0 A) (F0 m 47 ls []) := by
        intro fu
        induction fu with
        | zero =>
          intro x6 gv fv il47_0 il47_1 il47_2 il47_3 hm
          exfalso; omega
        | succ fu ih =>
          intro x6 gv fv il47_0 il47_1 il47_2 il47_3 hm H locs hP hD hS ls hl
          have ihl47 := ih
          refine lv_iload hx hb dX5_gets_47 (lv_at hl 0 rfl) ?_
          refine lv_aload_n hx hb dX5_gets_49 rfl (lv_at hl 3 rfl) ?_
          refine lv_iload hx hb dX5_gets_50 (lv_at hl 2 rfl) ?_
          refine lv_iconst (v := iI 2) hx hb dX5_gets_52 rfl ?_
          refine n_csi (x := m_of gv (m_stands G t) 2) (va_runV (As := [iv (m_stands G t), iv 2]) (rest := [iv x6]) ⟨hx, hb, hml, hown, hts⟩ (mt_X5_of l E o sc (ua (ua ar 1 gv) 7 fv) (m_stands G t) 2 (by omega)) (cwV 2 hts (lw_V q2120 q2122 qs49 q113 q2123) rfl rfl rfl (by decide +kernel) ⟨(show 0 + 1 ≤ 3 + (d + 1) by omega), (show 8 + (3 + 11) + 0 ≤ 66 + 28 * (d + 1) by omega)⟩) (PW_V hP hK (va_recv hK.1 hP (ci := 0) (q0 := 0) rfl rfl)) rfl rfl hl.1 rfl (lv_room (Nat.le_of_ble_eq_true rfl)) dX5_gets_53 ⟨Nat.le_of_ble_eq_true rfl, Nat.le_of_ble_eq_true rfl⟩) ?_
          refine n_top (y := m_of G (m_stands G t) 2) (by exact te_of il47_2.1 (by omega) (by omega)) ?_
          refine n_icmp_ge (tgt := 109) hx hb dX5_gets_56 (by decide) (by omega) (by omega) (fun c_6 => ?_) (fun c_6 => ?_)
          · have hx6 : x6 = m_of G (m_stands G t) 2 := by omega
            have hq : (gv, fv) = itI (m_getF G th d (m_stands G t) dp) (m_of G (m_stands G t) 2) (a_2, ar 7) := by rw [← hx6]; exact il47_1
            have hget : m_get G th (d + 1) t dp (ar 1, ar 7) = (gv 1, m_put G (m_stands G t) th dp gv fv, fv) := by
              rw [m_get_s, if_neg (by rw [← ea_2]; omega), ← ea_2, ← hq]
            have hg60 : gv 1 + 1 ≤ 60 := by have hh := h60; rw [hget] at hh; simp only [m_put_1] at hh; exact hh
            have hk5 : m_of G (m_stands G t) 2 * (5 : Int) ^ d ≤ 3 * 5 ^ d := Int.mul_le_mul_of_nonneg_right (by omega) (by omega)
            have hgv1 := il47_2.2.1
            have hk6 : x6 * (5 : Int) ^ d ≤ 3 * 5 ^ d := by rw [hx6]; exact hk5
            refine lv_aload_n hx hb dX5_gets_109 rfl (lv_at hl 3 rfl) ?_
            refine va_get (D := E.1) (ci := 0) (v := .ref (o 1)) (C := RX5) (T := TX5) (N := 23) hx hb hts in_X5 hown hK.1 hP 0 rfl rfl 0 (by decide) (hts _ q2029) (fun _ h9 => h9) rfl dX5_gets_110 ?_
            refine lv_iconst (v := iI 1) hx hb dX5_gets_113 rfl ?_
            refine n_iald (f := gv) hx hb hK.1 hP 1 0 rfl rfl (by omega) (by decide) dX5_gets_114 ?_
            refine lv_istore (lv' := [(6, iv (gv 1)), (5, iv (m_exist a_2 (m_stands G t) th)), (4, iv (m_stands G t)), (0, .ref (o 0)), (1, iv t), (2, iv th), (3, iv dp)]) hx hb dX5_gets_115 hl (by decide) rfl (fun ls hl => ?_)
            refine lv_bipush (v := iI 61) hx hb dX5_gets_117 (by decide) ?_
            refine lv_bipush (v := iI 10) hx hb dX5_gets_119 (by decide) ?_
            refine lv_iload hx hb dX5_gets_121 (lv_at hl 0 rfl) ?_
            refine n_imul hx hb dX5_gets_123 ?_
            refine n_iadd hx hb dX5_gets_124 ?_
            refine lv_istore (lv' := [(7, iv (61 + (10 * (gv 1)))), (6, iv (gv 1)), (5, iv (m_exist a_2 (m_stands G t) th)), (4, iv (m_stands G t)), (0, .ref (o 0)), (1, iv t), (2, iv th), (3, iv dp)]) hx hb dX5_gets_125 hl (by decide) rfl (fun ls hl => ?_)
            refine lv_aload_n hx hb dX5_gets_127 rfl (lv_at hl 4 rfl) ?_
            refine va_get (D := E.1) (ci := 0) (v := .ref (o 1)) (C := RX5) (T := TX5) (N := 23) hx hb hts in_X5 hown hK.1 hP 0 rfl rfl 0 (by decide) (hts _ q2029) (fun _ h9 => h9) rfl dX5_gets_128 ?_
            refine lv_iload hx hb dX5_gets_131 (lv_at hl 0 rfl) ?_
            refine lv_iconst (v := iI 0) hx hb dX5_gets_133 rfl ?_
            refine n_iadd hx hb dX5_gets_134 ?_
            refine lv_iload hx hb dX5_gets_135 (lv_at hl 3 rfl) ?_
            have b_7 := il47_2.2.2.1 1
            refine n_iast (f := gv) hx hb hK.1 hP hD hS 1 0 rfl rfl (by omega) (by decide) dX5_gets_137 (ws2 := MW E o sc (ua (ua ar 1 (ui gv ((61 + (10 * (gv 1))) + 0) (m_stands G t))) 7 fv)) rfl (fun H locs hP hD hS => ?_)
            obtain ⟨a_8, ea_8⟩ : ∃ zz : Int → Int, zz = ui gv ((61 + (10 * (gv 1))) + 0) (m_stands G t) := ⟨_, rfl⟩
            rw [← ea_8] at hP hD
            have hte_a_8 : TE G a_8 := by rw [ea_8]; exact te_ui il47_2.1 (by omega)
            have hBa_8 := ui_b (i := ((61 + (10 * (gv 1))) + 0)) il47_2.2.2.1 (show 0 ≤ m_stands G t ∧ m_stands G t < 2147483648 by omega); rw [← ea_8] at hBa_8
            refine lv_aload_n hx hb dX5_gets_138 rfl (lv_at hl 4 rfl) ?_
            refine va_get (D := E.1) (ci := 0) (v := .ref (o 1)) (C := RX5) (T := TX5) (N := 23) hx hb hts in_X5 hown hK.1 hP 0 rfl rfl 0 (by decide) (hts _ q2029) (fun _ h9 => h9) rfl dX5_gets_139 ?_
            refine lv_iload hx hb dX5_gets_142 (lv_at hl 0 rfl) ?_
            refine lv_iconst (v := iI 1) hx hb dX5_gets_144 rfl ?_
            refine n_iadd hx hb dX5_gets_145 ?_
            refine lv_iload_n hx hb dX5_gets_146 rfl (lv_at hl 6 rfl) ?_
            refine n_iast (f := a_8) hx hb hK.1 hP hD hS 1 0 rfl rfl (by omega) (by decide) dX5_gets_147 (ws2 := MW E o sc (ua (ua ar 1 (ui a_8 ((61 + (10 * (gv 1))) + 1) th)) 7 fv)) rfl (fun H locs hP hD hS => ?_)
            obtain ⟨a_9, ea_9⟩ : ∃ zz : Int → Int, zz = ui a_8 ((61 + (10 * (gv 1))) + 1) th := ⟨_, rfl⟩
            rw [← ea_9] at hP hD
            have hte_a_9 : TE G a_9 := by rw [ea_9]; exact te_ui hte_a_8 (by omega)
            have hBa_9 := ui_b (i := ((61 + (10 * (gv 1))) + 1)) hBa_8 (show 0 ≤ th ∧ th < 2147483648 by omega); rw [← ea_9] at hBa_9
            refine lv_aload_n hx hb dX5_gets_148 rfl (lv_at hl 4 rfl) ?_
            refine va_get (D := E.1) (ci := 0) (v := .ref (o 1)) (C := RX5) (T := TX5) (N := 23) hx hb hts in_X5 hown hK.1 hP 0 rfl rfl 0 (by decide) (hts _ q2029) (fun _ h9 => h9) rfl dX5_gets_149 ?_
            refine lv_iload hx hb dX5_gets_152 (lv_at hl 0 rfl) ?_
            refine lv_iconst (v := iI 2) hx hb dX5_gets_154 rfl ?_
            refine n_iadd hx hb dX5_gets_155 ?_
            refine lv_iconst (v := iI 0) hx hb dX5_gets_156 rfl ?_
            refine n_iast (f := a_9) hx hb hK.1 hP hD hS 1 0 rfl rfl (by omega) (by decide) dX5_gets_157 (ws2 := MW E o sc (ua (ua ar 1 (ui a_9 ((61 + (10 * (gv 1))) + 2) 0)) 7 fv)) rfl (fun H locs hP hD hS => ?_)
            obtain ⟨a_10, ea_10⟩ : ∃ zz : Int → Int, zz = ui a_9 ((61 + (10 * (gv 1))) + 2) 0 := ⟨_, rfl⟩
            rw [← ea_10] at hP hD
            have hte_a_10 : TE G a_10 := by rw [ea_10]; exact te_ui hte_a_9 (by omega)
            have hBa_10 := ui_b (i := ((61 + (10 * (gv 1))) + 2)) hBa_9 (show 0 ≤ 0 ∧ 0 < 2147483648 by omega); rw [← ea_10] at hBa_10
            refine lv_aload_n hx hb dX5_gets_158 rfl (lv_at hl 4 rfl) ?_
            refine va_get (D := E.1) (ci := 0) (v := .ref (o 1)) (C := RX5) (T := TX5) (N := 23) hx hb hts in_X5 hown hK.1 hP 0 rfl rfl 0 (by decide) (hts _ q2029) (fun _ h9 => h9) rfl dX5_gets_159 ?_
            refine lv_iload hx hb dX5_gets_162 (lv_at hl 0 rfl) ?_
            refine lv_iconst (v := iI 3) hx hb dX5_gets_164 rfl ?_
            refine n_iadd hx hb dX5_gets_165 ?_
            refine lv_aload_n hx hb dX5_gets_166 rfl (lv_at hl 4 rfl) ?_
            refine lv_iload hx hb dX5_gets_167 (lv_at hl 3 rfl) ?_
            refine lv_iconst (v := iI 2) hx hb dX5_gets_169 rfl ?_
            refine n_csi (x := m_of a_10 (m_stands G t) 2) (va_runV (As := [iv (m_stands G t), iv 2]) (rest := [iv ((61 + (10 * (gv 1))) + 3), .ref (o 1)]) ⟨hx, hb, hml, hown, hts⟩ (mt_X5_of l E o sc (ua (ua ar 1 a_10) 7 fv) (m_stands G t) 2 (by omega)) (cwV 2 hts (lw_V q2120 q2122 qs49 q113 q2123) rfl rfl rfl (by decide +kernel) ⟨(show 0 + 1 ≤ 3 + (d + 1) by omega), (show 8 + (3 + 11) + 0 ≤ 66 + 28 * (d + 1) by omega)⟩) (PW_V hP hK (va_recv hK.1 hP (ci := 0) (q0 := 0) rfl rfl)) rfl rfl hl.1 rfl (lv_room (Nat.le_of_ble_eq_true rfl)) dX5_gets_170 ⟨Nat.le_of_ble_eq_true rfl, Nat.le_of_ble_eq_true rfl⟩) ?_
            refine n_top (y := m_of G (m_stands G t) 2) (by exact te_of hte_a_10 (by omega) (by omega)) ?_
            refine n_iast (f := a_10) hx hb hK.1 hP hD hS 1 0 rfl rfl (by omega) (by decide) dX5_gets_173 (ws2 := MW E o sc (ua (ua ar 1 (ui a_10 ((61 + (10 * (gv 1))) + 3) (m_of G (m_stands G t) 2))) 7 fv)) rfl (fun H locs hP hD hS => ?_)
            obtain ⟨a_11, ea_11⟩ : ∃ zz : Int → Int, zz = ui a_10 ((61 + (10 * (gv 1))) + 3) (m_of G (m_stands G t) 2) := ⟨_, rfl⟩
            rw [← ea_11] at hP hD
            have hte_a_11 : TE G a_11 := by rw [ea_11]; exact te_ui hte_a_10 (by omega)
            have hBa_11 := ui_b (i := ((61 + (10 * (gv 1))) + 3)) hBa_10 (show 0 ≤ m_of G (m_stands G t) 2 ∧ m_of G (m_stands G t) 2 < 2147483648 by omega); rw [← ea_11] at hBa_11
            refine lv_iconst (v := iI 0) hx hb dX5_gets_174 rfl ?_
            refine lv_istore (lv' := [(8, iv 0), (7, iv (61 + (10 * (gv 1)))), (6, iv (gv 1)), (5, iv (m_exist a_2 (m_stands G t) th)), (4, iv (m_stands G t)), (0, .ref (o 0)), (1, iv t), (2, iv th), (3, iv dp)]) hx hb dX5_gets_175 hl (by decide) rfl (fun ls hl => ?_)
            have l177 : ∀ (fu : Nat) (x8 : Int) (hv : Int → Int), (0 ≤ x8 ∧ x8 ≤ m_of G (m_stands G t) 2) → (∀ x, hv x = if 61 + 10 * gv 1 + 7 ≤ x ∧ x < 61 + 10 * gv 1 + 7 + x8 then fv (3 * dp + (x - (61 + 10 * gv 1 + 7))) else if 61 + 10 * gv 1 + 4 ≤ x ∧ x < 61 + 10 * gv 1 + 4 + x8 then m_need G (m_stands G t) (x - (61 + 10 * gv 1 + 4)) else a_11 x) → (∀ x, 0 ≤ hv x ∧ hv x < 2147483648) → (TE G hv) → (m_of G (m_stands G t) 2 - x8 < (fu : Int)) → ∀ (H : Heap) (locs : List Loc), va_P E.1 CL (MW E o sc (ua (ua ar 1 hv) 7 fv)) H → va_D A (MW E o sc (ua (ua ar 1 hv) 7 fv)) → va_S A s.heap H locs → ∀ ls : Array Slot, lv_has ls 9 [(8, iv x8), (7, iv (61 + (10 * (gv 1)))), (6, iv (gv 1)), (5, iv (m_exist a_2 (m_stands G t) th)), (4, iv (m_stands G t)), (0, .ref (o 0)), (1, iv t), (2, iv th), (3, iv dp)] → W p l e (headSpec (ws_ yX5_gets cX5_gets 9 (some .int)) { frames := 3 + (d + 1), cells := 0, slots := 0, locals := 66 + 28 * (d + 1) }).room s m ([.ref (o 0), iv t, iv th, iv dp] : List Value).toArray below meth c H locs 0 0 (MQ below (UQi E ((m_get G th (d + 1) t dp (ar 1, ar 7)).1) (MW E o sc (ua (ua ar 1 ((m_get G th (d + 1) t dp (ar 1, ar 7)).2.1)) 7 ((m_get G th (d + 1) t dp (ar 1, ar 7)).2.2))) A) ([.ref (o 0), iv t, iv th, iv dp] : List Value).toArray s 0 0 A) (F0 m 177 ls []) := by
              intro fu
              induction fu with
              | zero =>
                intro x8 hv il177_0 il177_1 il177_2 il177_3 hm
                exfalso; omega
              | succ fu ih =>
                intro x8 hv il177_0 il177_1 il177_2 il177_3 hm H locs hP hD hS ls hl
                have ihl177 := ih
                refine lv_iload hx hb dX5_gets_177 (lv_at hl 0 rfl) ?_
                refine lv_aload_n hx hb dX5_gets_179 rfl (lv_at hl 5 rfl) ?_
                refine lv_iload hx hb dX5_gets_180 (lv_at hl 4 rfl) ?_
                refine lv_iconst (v := iI 2) hx hb dX5_gets_182 rfl ?_
                refine n_csi (x := m_of hv (m_stands G t) 2) (va_runV (As := [iv (m_stands G t), iv 2]) (rest := [iv x8]) ⟨hx, hb, hml, hown, hts⟩ (mt_X5_of l E o sc (ua (ua ar 1 hv) 7 fv) (m_stands G t) 2 (by omega)) (cwV 2 hts (lw_V q2120 q2122 qs49 q113 q2123) rfl rfl rfl (by decide +kernel) ⟨(show 0 + 1 ≤ 3 + (d + 1) by omega), (show 8 + (3 + 11) + 0 ≤ 66 + 28 * (d + 1) by omega)⟩) (PW_V hP hK (va_recv hK.1 hP (ci := 0) (q0 := 0) rfl rfl)) rfl rfl hl.1 rfl (lv_room (Nat.le_of_ble_eq_true rfl)) dX5_gets_183 ⟨Nat.le_of_ble_eq_true rfl, Nat.le_of_ble_eq_true rfl⟩) ?_
                refine n_top (y := m_of G (m_stands G t) 2) (by exact te_of il177_3 (by omega) (by omega)) ?_
                refine n_icmp_ge (tgt := 239) hx hb dX5_gets_186 (by decide) (by omega) (by omega) (fun c_12 => ?_) (fun c_12 => ?_)
                · have hx8 : x8 = m_of G (m_stands G t) 2 := by omega
                  have hv1 : hv 1 = gv 1 := by rw [il177_1, if_neg (by omega), if_neg (by omega), ea_11, ea_10, ea_9, ea_8]; rw [ui_n (by omega), ui_n (by omega), ui_n (by omega), ui_n (by omega)]
                  have hv4 : hv 4 = gv 4 := by rw [il177_1, if_neg (by omega), if_neg (by omega), ea_11, ea_10, ea_9, ea_8]; rw [ui_n (by omega), ui_n (by omega), ui_n (by omega), ui_n (by omega)]
                  have hgv4 := il47_2.2.2.2.2.2
                  refine lv_aload_n hx hb dX5_gets_239 rfl (lv_at hl 5 rfl) ?_
                  refine va_get (D := E.1) (ci := 0) (v := .ref (o 1)) (C := RX5) (T := TX5) (N := 23) hx hb hts in_X5 hown hK.1 hP 0 rfl rfl 0 (by decide) (hts _ q2029) (fun _ h9 => h9) rfl dX5_gets_240 ?_
                  refine lv_iconst (v := iI 1) hx hb dX5_gets_243 rfl ?_
                  refine lv_dup2_11 hx hb dX5_gets_244 rfl rfl ?_
                  refine n_iald (f := hv) hx hb hK.1 hP 1 0 rfl rfl (by omega) (by decide) dX5_gets_245 ?_
                  refine lv_iconst (v := iI 1) hx hb dX5_gets_246 rfl ?_
                  refine n_iadd hx hb dX5_gets_247 ?_
                  have b_13 := il177_2 1
                  refine n_iast (f := hv) hx hb hK.1 hP hD hS 1 0 rfl rfl (by omega) (by decide) dX5_gets_248 (ws2 := MW E o sc (ua (ua ar 1 (ui hv 1 ((hv 1) + 1))) 7 fv)) rfl (fun H locs hP hD hS => ?_)
                  obtain ⟨a_14, ea_14⟩ : ∃ zz : Int → Int, zz = ui hv 1 ((hv 1) + 1) := ⟨_, rfl⟩
                  rw [← ea_14] at hP hD
                  have hte_a_14 : TE G a_14 := by rw [ea_14]; exact te_ui il177_3 (by omega)
                  have hBa_14 := ui_b (i := 1) il177_2 (show 0 ≤ (hv 1) + 1 ∧ (hv 1) + 1 < 2147483648 by omega); rw [← ea_14] at hBa_14
                  refine lv_aload_n hx hb dX5_gets_249 rfl (lv_at hl 5 rfl) ?_
                  refine va_get (D := E.1) (ci := 0) (v := .ref (o 1)) (C := RX5) (T := TX5) (N := 23) hx hb hts in_X5 hown hK.1 hP 0 rfl rfl 0 (by decide) (hts _ q2029) (fun _ h9 => h9) rfl dX5_gets_250 ?_
                  refine lv_iconst (v := iI 4) hx hb dX5_gets_253 rfl ?_
                  refine lv_dup2_11 hx hb dX5_gets_254 rfl rfl ?_
                  refine n_iald (f := a_14) hx hb hK.1 hP 1 0 rfl rfl (by omega) (by decide) dX5_gets_255 ?_
                  have h44 : a_14 4 = gv 4 := by rw [ea_14, ui_n (by decide)]; exact hv4
                  refine lv_aload_n hx hb dX5_gets_256 rfl (lv_at hl 5 rfl) ?_
                  refine lv_iload hx hb dX5_gets_257 (lv_at hl 4 rfl) ?_
                  refine lv_iconst (v := iI 1) hx hb dX5_gets_259 rfl ?_
                  refine n_csi (x := m_of a_14 (m_stands G t) 1) (va_runV (As := [iv (m_stands G t), iv 1]) (rest := [iv (a_14 4), iv 4, .ref (o 1)]) ⟨hx, hb, hml, hown, hts⟩ (mt_X5_of l E o sc (ua (ua ar 1 a_14) 7 fv) (m_stands G t) 1 (by omega)) (cwV 2 hts (lw_V q2120 q2122 qs49 q113 q2123) rfl rfl rfl (by decide +kernel) ⟨(show 0 + 1 ≤ 3 + (d + 1) by omega), (show 8 + (3 + 11) + 0 ≤ 66 + 28 * (d + 1) by omega)⟩) (PW_V hP hK (va_recv hK.1 hP (ci := 0) (q0 := 0) rfl rfl)) rfl rfl hl.1 rfl (lv_room (Nat.le_of_ble_eq_true rfl)) dX5_gets_260 ⟨Nat.le_of_ble_eq_true rfl, Nat.le_of_ble_eq_true rfl⟩) ?_
                  refine n_top (y := m_of G (m_stands G t) 1) (by exact te_of hte_a_14 (by omega) (by omega)) ?_
                  refine n_iadd hx hb dX5_gets_263 ?_
                  have b_15 := hBa_14 4
                  refine n_iast (f := a_14) hx hb hK.1 hP hD hS 1 0 rfl rfl (by omega) (by decide) dX5_gets_264 (ws2 := MW E o sc (ua (ua ar 1 (ui a_14 4 ((a_14 4) + (m_of G (m_stands G t) 1)))) 7 fv)) rfl (fun H locs hP hD hS => ?_)
                  obtain ⟨a_16, ea_16⟩ : ∃ zz : Int → Int, zz = ui a_14 4 ((a_14 4) + (m_of G (m_stands G t) 1)) := ⟨_, rfl⟩
                  rw [← ea_16] at hP hD
                  have hte_a_16 : TE G a_16 := by rw [ea_16]; exact te_ui hte_a_14 (by omega)
                  have hBa_16 := ui_b (i := 4) hBa_14 (show 0 ≤ (a_14 4) + (m_of G (m_stands G t) 1) ∧ (a_14 4) + (m_of G (m_stands G t) 1) < 2147483648 by omega); rw [← ea_16] at hBa_16
                  have hput : a_16 = m_put G (m_stands G t) th dp gv fv := by
                    funext x
                    have hh := il177_1 x
                    rw [ea_11, ea_10, ea_9, ea_8] at hh
                    have hv4b : a_14 4 = gv 4 := by rw [ea_14, ui_n (by decide)]; exact hv4
                    rw [ea_16, ea_14] at *
                    unfold ui at hh ⊢
                    unfold m_put
                    rw [hx8] at hh
                    simp only [hv1] at *
                    by_cases q4 : x = 4
                    · rw [if_pos q4, if_pos q4]; omega
                    · rw [if_neg q4, if_neg q4]
                      by_cases q1 : x = 1
                      · rw [if_pos q1, if_pos q1]
                      · rw [if_neg q1, if_neg q1, hh]
                        (repeat' split) <;> first | rfl | omega
                  refine lv_iload hx hb dX5_gets_265 (lv_at hl 2 rfl) ?_
                  have hfin : gv 1 = (m_get G th (d + 1) t dp (ar 1, ar 7)).1 := by
                    rw [hget]
                  have w_17 : a_16 = (m_get G th (d + 1) t dp (ar 1, ar 7)).2.1 := by
                    rw [hget]
                    exact hput
                  rw [show (ua (ua ar 1 a_16) 7 fv) = (ua (ua ar 1 ((m_get G th (d + 1) t dp (ar 1, ar 7)).2.1)) 7 fv) from congrArg (fun z0 : Int → Int => (ua (ua ar 1 z0) 7 fv)) w_17] at hP hD
                  have w_18 : fv = (m_get G th (d + 1) t dp (ar 1, ar 7)).2.2 := by
                    rw [hget]
                  rw [show (ua (ua ar 1 ((m_get G th (d + 1) t dp (ar 1, ar 7)).2.1)) 7 fv) = (ua (ua ar 1 ((m_get G th (d + 1) t dp (ar 1, ar 7)).2.1)) 7 ((m_get G th (d + 1) t dp (ar 1, ar 7)).2.2)) from congrArg (fun z0 : Int → Int => (ua (ua ar 1 ((m_get G th (d + 1) t dp (ar 1, ar 7)).2.1)) 7 z0)) w_18] at hP hD
                  exact W.iret (v := iI (gv 1)) hx hb hr (fun tt_ ht_ hW_ => ⟨⟨iI (gv 1), (), rfl, (congrArg iI hfin), by rw [ht_]; exact hP, hD⟩, hS.F ht_⟩) hS.2.2 dX5_gets_267
                · refine lv_aload_n hx hb dX5_gets_189 rfl (lv_at hl 5 rfl) ?_
                  refine va_get (D := E.1) (ci := 0) (v := .ref (o 1)) (C := RX5) (T := TX5) (N := 23) hx hb hts in_X5 hown hK.1 hP 0 rfl rfl 0 (by decide) (hts _ q2029) (fun _ h9 => h9) rfl dX5_gets_190 ?_
                  refine lv_iload hx hb dX5_gets_193 (lv_at hl 1 rfl) ?_
                  refine lv_iconst (v := iI 4) hx hb dX5_gets_195 rfl ?_
                  refine n_iadd hx hb dX5_gets_196 ?_
                  refine lv_iload hx hb dX5_gets_197 (lv_at hl 0 rfl) ?_
                  refine n_iadd hx hb dX5_gets_199 ?_
                  refine lv_aload_n hx hb dX5_gets_200 rfl (lv_at hl 5 rfl) ?_
                  refine lv_iload hx hb dX5_gets_201 (lv_at hl 4 rfl) ?_
                  refine lv_iload hx hb dX5_gets_203 (lv_at hl 0 rfl) ?_
                  refine n_csi (x := m_need hv (m_stands G t) x8) (va_runV (As := [iv (m_stands G t), iv x8]) (rest := [iv (((61 + (10 * (gv 1))) + 4) + x8), .ref (o 1)]) ⟨hx, hb, hml, hown, hts⟩ (mt_X5_need l E o sc (ua (ua ar 1 hv) 7 fv) (m_stands G t) x8 (ua_b 7 (ua_b 1 hB il177_2) il47_3) (by omega) (by omega)) (cwV 2 hts (lw_V q2167 q2169 qs58 q113 q2170) rfl rfl rfl (by decide +kernel) ⟨(show 1 + 1 ≤ 3 + (d + 1) by omega), (show 8 + (3 + 11) + 22 ≤ 66 + 28 * (d + 1) by omega)⟩) (PW_V hP hK (va_recv hK.1 hP (ci := 0) (q0 := 0) rfl rfl)) rfl rfl hl.1 rfl (lv_room (Nat.le_of_ble_eq_true rfl)) dX5_gets_205 ⟨Nat.le_of_ble_eq_true rfl, Nat.le_of_ble_eq_true rfl⟩) ?_
                  refine n_top (y := m_need G (m_stands G t) x8) (by exact te_need il177_3 (by omega) (by omega)) ?_
                  have b_19 := m_need_r G (m_stands G t) x8
                  refine n_iast (f := hv) hx hb hK.1 hP hD hS 1 0 rfl rfl (by omega) (by decide) dX5_gets_208 (ws2 := MW E o sc (ua (ua ar 1 (ui hv (((61 + (10 * (gv 1))) + 4) + x8) (m_need G (m_stands G t) x8))) 7 fv)) rfl (fun H locs hP hD hS => ?_)
                  obtain ⟨a_20, ea_20⟩ : ∃ zz : Int → Int, zz = ui hv (((61 + (10 * (gv 1))) + 4) + x8) (m_need G (m_stands G t) x8) := ⟨_, rfl⟩
                  rw [← ea_20] at hP hD
                  have hte_a_20 : TE G a_20 := by rw [ea_20]; exact te_ui il177_3 (by omega)
                  have hBa_20 := ui_b (i := (((61 + (10 * (gv 1))) + 4) + x8)) il177_2 (show 0 ≤ m_need G (m_stands G t) x8 ∧ m_need G (m_stands G t) x8 < 2147483648 by omega); rw [← ea_20] at hBa_20
                  refine lv_aload_n hx hb dX5_gets_209 rfl (lv_at hl 5 rfl) ?_
                  refine va_get (D := E.1) (ci := 0) (v := .ref (o 1)) (C := RX5) (T := TX5) (N := 23) hx hb hts in_X5 hown hK.1 hP 0 rfl rfl 0 (by decide) (hts _ q2029) (fun _ h9 => h9) rfl dX5_gets_210 ?_
                  refine lv_iload hx hb dX5_gets_213 (lv_at hl 1 rfl) ?_
                  refine lv_bipush (v := iI 7) hx hb dX5_gets_215 (by decide) ?_
                  refine n_iadd hx hb dX5_gets_217 ?_
                  refine lv_iload hx hb dX5_gets_218 (lv_at hl 0 rfl) ?_
                  refine n_iadd hx hb dX5_gets_220 ?_
                  refine lv_aload_n hx hb dX5_gets_221 rfl (lv_at hl 5 rfl) ?_
                  refine va_get (D := E.1) (ci := 0) (v := .ref (o 7)) (C := RX5) (T := TX5) (N := 23) hx hb hts in_X5 hown hK.1 hP 0 rfl rfl 19 (by decide) (hts _ q2048) (fun _ h9 => h9) rfl dX5_gets_222 ?_
                  refine lv_iconst (v := iI 3) hx hb dX5_gets_225 rfl ?_
                  refine lv_iload_n hx hb dX5_gets_226 rfl (lv_at hl 8 rfl) ?_
                  refine n_imul hx hb dX5_gets_227 ?_
                  refine lv_iload hx hb dX5_gets_228 (lv_at hl 0 rfl) ?_
                  refine n_iadd hx hb dX5_gets_230 ?_
                  refine n_iald (f := fv) hx hb hK.1 hP 7 0 rfl rfl (by omega) (by decide) dX5_gets_231 ?_
                  have b_21 := il47_3 ((3 * dp) + x8)
                  refine n_iast (f := a_20) hx hb hK.1 hP hD hS 1 0 rfl rfl (by omega) (by decide) dX5_gets_232 (ws2 := MW E o sc (ua (ua ar 1 (ui a_20 (((61 + (10 * (gv 1))) + 7) + x8) (fv ((3 * dp) + x8)))) 7 fv)) rfl (fun H locs hP hD hS => ?_)
                  obtain ⟨a_22, ea_22⟩ : ∃ zz : Int → Int, zz = ui a_20 (((61 + (10 * (gv 1))) + 7) + x8) (fv ((3 * dp) + x8)) := ⟨_, rfl⟩
                  rw [← ea_22] at hP hD
                  have hte_a_22 : TE G a_22 := by rw [ea_22]; exact te_ui hte_a_20 (by omega)
                  have hBa_22 := ui_b (i := (((61 + (10 * (gv 1))) + 7) + x8)) hBa_20 (show 0 ≤ fv ((3 * dp) + x8) ∧ fv ((3 * dp) + x8) < 2147483648 by omega); rw [← ea_22] at hBa_22
                  have hnext : ∀ x, a_22 x = if 61 + 10 * gv 1 + 7 ≤ x ∧ x < 61 + 10 * gv 1 + 7 + (x8 + 1) then fv (3 * dp + (x - (61 + 10 * gv 1 + 7))) else if 61 + 10 * gv 1 + 4 ≤ x ∧ x < 61 + 10 * gv 1 + 4 + (x8 + 1) then m_need G (m_stands G t) (x - (61 + 10 * gv 1 + 4)) else a_11 x := by
                    intro x
                    rw [ea_22, ea_20]
                    unfold ui
                    have hh := il177_1 x
                    by_cases q1 : x = 61 + 10 * gv 1 + 7 + x8
                    · rw [if_pos (by omega), if_pos (by omega)]; congr 1; omega
                    · by_cases q2 : x = 61 + 10 * gv 1 + 4 + x8
                      · rw [if_neg (by omega), if_pos (by omega), if_neg (by omega), if_pos (by omega)]; congr 1; omega
                      · rw [if_neg (by omega), if_neg (by omega), hh]; (repeat' split) <;> first | rfl | omega
                  refine lv_iinc (v := iI (x8 + 1)) (lv' := [(8, iv (x8 + 1)), (7, iv (61 + (10 * (gv 1)))), (6, iv (gv 1)), (5, iv (m_exist a_2 (m_stands G t) th)), (4, iv (m_stands G t)), (0, .ref (o 0)), (1, iv t), (2, iv th), (3, iv dp)]) hx hb dX5_gets_233 hl (k := 0) rfl (iI_add _ _) (by decide) rfl (fun ls hl => ?_)
                  refine lv_goto (tgt := 177) hx hb dX5_gets_236 (by decide) ?_
                  exact ihl177 (x8 + 1) a_22 (by first | omega | rfl) (by exact hnext) (by exact hBa_22) (by exact hte_a_22) (by omega) H locs hP hD hS ls (lv_sub hl [0, 1, 2, 3, 4, 5, 6, 7, 8] rfl)
            exact l177 4 0 a_11 (by first | omega | rfl | trivial) (by intro x; rw [if_neg (by omega), if_neg (by omega)]) (by exact hBa_11) (by exact hte_a_11) (by omega) H locs hP hD hS ls hl
          · refine lv_aload_n hx hb dX5_gets_59 rfl (lv_at hl 3 rfl) ?_
            refine va_get (D := E.1) (ci := 0) (v := .ref (o 7)) (C := RX5) (T := TX5) (N := 23) hx hb hts in_X5 hown hK.1 hP 0 rfl rfl 19 (by decide) (hts _ q2048) (fun _ h9 => h9) rfl dX5_gets_60 ?_
            refine lv_iconst (v := iI 3) hx hb dX5_gets_63 rfl ?_
            refine lv_iload_n hx hb dX5_gets_64 rfl (lv_at hl 6 rfl) ?_
            refine n_imul hx hb dX5_gets_65 ?_
            refine lv_iload hx hb dX5_gets_66 (lv_at hl 0 rfl) ?_
            refine n_iadd hx hb dX5_gets_68 ?_
            refine lv_aload_n hx hb dX5_gets_69 rfl (lv_at hl 3 rfl) ?_
            refine lv_iload hx hb dX5_gets_70 (lv_at hl 2 rfl) ?_
            refine lv_iload hx hb dX5_gets_72 (lv_at hl 0 rfl) ?_
            refine n_csi (x := b2 (m_dir gv (m_stands G t) x6)) (va_runV (As := [iv (m_stands G t), iv x6]) (rest := [iv ((3 * dp) + x6), .ref (o 7)]) ⟨hx, hb, hml, hown, hts⟩ (mt_X5_isDirect l E o sc (ua (ua ar 1 gv) 7 fv) (m_stands G t) x6 (ua_b 7 (ua_b 1 hB il47_2.2.2.1) il47_3) (by omega) (by omega)) (cwV 2 hts (lw_V q2187 q2189 qs63 q113 q2190) rfl rfl rfl (by decide +kernel) ⟨(show 1 + 1 ≤ 3 + (d + 1) by omega), (show 8 + (3 + 11) + 22 ≤ 66 + 28 * (d + 1) by omega)⟩) (PW_V hP hK (va_recv hK.1 hP (ci := 0) (q0 := 0) rfl rfl)) rfl rfl hl.1 rfl (lv_room (Nat.le_of_ble_eq_true rfl)) dX5_gets_74 ⟨Nat.le_of_ble_eq_true rfl, Nat.le_of_ble_eq_true rfl⟩) ?_
            refine n_top (y := b2 (m_dir G (m_stands G t) x6)) (by rw [te_dir il47_2.1 (by omega) (by omega)]) ?_
            refine n_ifb_eq (tgt := 101) hx hb dX5_gets_77 (by decide) (fun c_23 => ?_) (fun c_23 => ?_)
            · refine lv_iconst (v := iI 0) hx hb dX5_gets_101 rfl ?_
              refine n_iast (f := fv) hx hb hK.1 hP hD hS 7 0 rfl rfl (by omega) (by decide) dX5_gets_102 (ws2 := MW E o sc (ua (ua ar 1 gv) 7 (ui fv ((3 * dp) + x6) 0))) rfl (fun H locs hP hD hS => ?_)
              obtain ⟨a_24, ea_24⟩ : ∃ zz : Int → Int, zz = ui fv ((3 * dp) + x6) 0 := ⟨_, rfl⟩
              rw [← ea_24] at hP hD
              have hBa_24 := ui_b (i := ((3 * dp) + x6)) il47_3 (show 0 ≤ 0 ∧ 0 < 2147483648 by omega); rw [← ea_24] at hBa_24
              have hk4 : (x6 + 1) * (5 : Int) ^ d = x6 * 5 ^ d + 5 ^ d := by rw [Int.add_mul, Int.one_mul]
              have hstep : (gv, a_24) = m_getF G th d (m_stands G t) dp x6 (gv, fv) := by rw [getF_neg (by simp [c_5, c_6, c_23]), ea_24]
              refine lv_iinc (v := iI (x6 + 1)) (lv' := [(6, iv (x6 + 1)), (5, iv (m_exist a_2 (m_stands G t) th)), (4, iv (m_stands G t)), (0, .ref (o 0)), (1, iv t), (2, iv th), (3, iv dp)]) hx hb dX5_gets_103 hl (k := 0) rfl (iI_add _ _) (by decide) rfl (fun ls hl => ?_)
              refine lv_goto (tgt := 47) hx hb dX5_gets_106 (by decide) ?_
              exact ihl47 (x6 + 1) gv a_24 (by first | omega | rfl) (by rw [itI_s (by omega), ← il47_1]; exact hstep) (by exact (GI_le il47_2 (by omega))) (by exact hBa_24) (by omega) H locs hP hD hS ls (lv_sub hl [0, 1, 2, 3, 4, 5, 6] rfl)
            · refine lv_aload_n hx hb dX5_gets_80 rfl (lv_at hl 3 rfl) ?_
              refine lv_aload_n hx hb dX5_gets_81 rfl (lv_at hl 3 rfl) ?_
              refine lv_iload hx hb dX5_gets_82 (lv_at hl 2 rfl) ?_
              refine lv_iload hx hb dX5_gets_84 (lv_at hl 0 rfl) ?_
              refine n_csi (x := m_need gv (m_stands G t) x6) (va_runV (As := [iv (m_stands G t), iv x6]) (rest := [.ref (o 0), iv ((3 * dp) + x6), .ref (o 7)]) ⟨hx, hb, hml, hown, hts⟩ (mt_X5_need l E o sc (ua (ua ar 1 gv) 7 fv) (m_stands G t) x6 (ua_b 7 (ua_b 1 hB il47_2.2.2.1) il47_3) (by omega) (by omega)) (cwV 2 hts (lw_V q2167 q2169 qs58 q113 q2170) rfl rfl rfl (by decide +kernel) ⟨(show 1 + 1 ≤ 3 + (d + 1) by omega), (show 8 + (3 + 11) + 22 ≤ 66 + 28 * (d + 1) by omega)⟩) (PW_V hP hK (va_recv hK.1 hP (ci := 0) (q0 := 0) rfl rfl)) rfl rfl hl.1 rfl (lv_room (Nat.le_of_ble_eq_true rfl)) dX5_gets_86 ⟨Nat.le_of_ble_eq_true rfl, Nat.le_of_ble_eq_true rfl⟩) ?_
              refine n_top (y := m_need G (m_stands G t) x6) (by exact te_need il47_2.1 (by omega) (by omega)) ?_
              refine lv_iload_n hx hb dX5_gets_89 rfl (lv_at hl 5 rfl) ?_
              refine lv_iload_n hx hb dX5_gets_90 rfl (lv_at hl 6 rfl) ?_
              refine lv_iconst (v := iI 1) hx hb dX5_gets_91 rfl ?_
              refine n_iadd hx hb dX5_gets_92 ?_
              have hnr := m_need_r G (m_stands G t) x6
              have hq := hrk (m_stands G t) x6 (by omega) (by omega) (by omega) (by omega) (by assumption)
              have hm6 : (m_getF G th d (m_stands G t) dp x6 (gv, fv)).1 1 ≤ 60 := by
                have hm := itI_mono (F := m_getF G th d (m_stands G t) dp) (fun q => q.1 1) (getF_mono G th d (m_stands G t) dp) (a_2, ar 7) (k := x6 + 1) (n := m_of G (m_stands G t) 2) (by omega) (by omega)
                rw [itI_s (by omega), ← il47_1] at hm
                exact Int.le_trans hm (by omega)
              rw [getF_pos (by assumption)] at hm6
              have hk3 : x6 * (5 : Int) ^ d ≤ 2 * 5 ^ d := Int.mul_le_mul_of_nonneg_right (by omega) (by omega)
              have hk4 : (x6 + 1) * (5 : Int) ^ d = x6 * 5 ^ d + 5 ^ d := by rw [Int.add_mul, Int.one_mul]
              have hgic : GI G gv (5 ^ d) := GI_le il47_2 (by omega)
              have h60c : (m_get G th d (m_need G (m_stands G t) x6) (dp + 1) (gv, fv)).2.1 1 ≤ 60 := hm6
              have hinv := get_inv htw hsw htm hth d (m_need G (m_stands G t) x6) (dp + 1) (5 ^ (d + 1) - 1 - (x6 + 1) * 5 ^ d) (gv, fv) (by omega) (by omega) (by omega) (GI_le il47_2 (by omega)) il47_3 h60c
              have b_25 := m_need_r G (m_stands G t) x6
              refine n_cui (x := (m_get G th d (m_need G (m_stands G t) x6) (dp + 1) (gv, fv)).1) (va_runV (As := [iv (m_need G (m_stands G t) x6), iv th, iv (dp + 1)]) (rest := [iv ((3 * dp) + x6), .ref (o 7)]) ⟨hx, hb, hml, hown, hts⟩ (ihd o sc (ua (ua ar 1 gv) 7 fv) (m_need G (m_stands G t) x6) th (dp + 1) r G (ua_b 7 (ua_b 1 hB il47_2.2.2.1) il47_3) (by omega) (by omega) (by omega) (by assumption) (by assumption) (by assumption) (by assumption) (by exact hgic) (by exact h60c) (by omega) _) (cwV 3 hts (lw_V q2332 q2334 qs76 q113 q2335) rfl rfl rfl (by decide +kernel) ⟨(show 3 + d + 1 ≤ 3 + (d + 1) by omega), (show 8 + (9 + 11) + (66 + 28 * d) ≤ 66 + 28 * (d + 1) by omega)⟩) (UW_V hP hK (hD) (va_recv hK.1 hP (ci := 0) (q0 := 0) rfl rfl)) rfl rfl hl.1 rfl (lv_room (Nat.le_of_ble_eq_true rfl)) dX5_gets_93 ⟨Nat.le_of_ble_eq_true rfl, Nat.le_of_ble_eq_true rfl⟩) hD hS hA (fun H locs hP hD hS => ?_)
              have hP : va_P E.1 CL (MW E o sc (ua (ua ar 1 ((m_get G th d (m_need G (m_stands G t) x6) (dp + 1) (gv, fv)).2.1)) 7 ((m_get G th d (m_need G (m_stands G t) x6) (dp + 1) (gv, fv)).2.2))) H := hP
              have hD : va_D A (MW E o sc (ua (ua ar 1 ((m_get G th d (m_need G (m_stands G t) x6) (dp + 1) (gv, fv)).2.1)) 7 ((m_get G th d (m_need G (m_stands G t) x6) (dp + 1) (gv, fv)).2.2))) := hD
              obtain ⟨a_26, ea_26⟩ : ∃ zz : Int → Int, zz = (m_get G th d (m_need G (m_stands G t) x6) (dp + 1) (gv, fv)).2.1 := ⟨_, rfl⟩
              obtain ⟨a_27, ea_27⟩ : ∃ zz : Int → Int, zz = (m_get G th d (m_need G (m_stands G t) x6) (dp + 1) (gv, fv)).2.2 := ⟨_, rfl⟩
              rw [← ea_26, ← ea_27] at hP hD
              have hgi_a_26 : GI G a_26 (5 ^ (d + 1) - 1 - (x6 + 1) * 5 ^ d) := by rw [ea_26]; exact hinv.1
              have hBa_27 : ∀ x, 0 ≤ a_27 x ∧ a_27 x < 2147483648 := by rw [ea_27]; exact hinv.2.1
              refine lv_iconst (v := iI 1) hx hb dX5_gets_96 rfl ?_
              refine n_iadd hx hb dX5_gets_97 ?_
              refine lv_goto (tgt := 102) hx hb dX5_gets_98 (by decide) ?_
              have b_28 := hinv.2.2
              refine n_iast (f := a_27) hx hb hK.1 hP hD hS 7 0 rfl rfl (by omega) (by decide) dX5_gets_102 (ws2 := MW E o sc (ua (ua ar 1 a_26) 7 (ui a_27 ((3 * dp) + x6) (((m_get G th d (m_need G (m_stands G t) x6) (dp + 1) (gv, fv)).1) + 1)))) rfl (fun H locs hP hD hS => ?_)
              obtain ⟨a_29, ea_29⟩ : ∃ zz : Int → Int, zz = ui a_27 ((3 * dp) + x6) (((m_get G th d (m_need G (m_stands G t) x6) (dp + 1) (gv, fv)).1) + 1) := ⟨_, rfl⟩
              rw [← ea_29] at hP hD
              have hBa_29 := ui_b (i := ((3 * dp) + x6)) hBa_27 (show 0 ≤ ((m_get G th d (m_need G (m_stands G t) x6) (dp + 1) (gv, fv)).1) + 1 ∧ ((m_get G th d (m_need G (m_stands G t) x6) (dp + 1) (gv, fv)).1) + 1 < 2147483648 by omega); rw [← ea_29] at hBa_29
              have hstep : (a_26, a_29) = m_getF G th d (m_stands G t) dp x6 (gv, fv) := by rw [getF_pos (by assumption), ea_29, ea_27, ea_26]
              refine lv_iinc (v := iI (x6 + 1)) (lv' := [(6, iv (x6 + 1)), (5, iv (m_exist a_2 (m_stands G t) th)), (4, iv (m_stands G t)), (0, .ref (o 0)), (1, iv t), (2, iv th), (3, iv dp)]) hx hb dX5_gets_103 hl (k := 0) rfl (iI_add _ _) (by decide) rfl (fun ls hl => ?_)
              refine lv_goto (tgt := 47) hx hb dX5_gets_106 (by decide) ?_
              exact ihl47 (x6 + 1) a_26 a_29 (by first | omega | rfl) (by rw [itI_s (by omega), ← il47_1]; exact hstep) (by exact hgi_a_26) (by exact hBa_29) (by omega) H locs hP hD hS ls (lv_sub hl [0, 1, 2, 3, 4, 5, 6] rfl)
      exact l47 4 0 a_2 (ar 7) (by first | omega | rfl | trivial) (by rfl) (by exact GI_le hgi1 (by omega)) (by exact hB 7) (by omega) H locs hP hD hS ls hl
    · refine lv_aload_n hx hb dX5_gets_31 rfl (lv_at hl 2 rfl) ?_
      refine va_get (D := E.1) (ci := 0) (v := .ref (o 1)) (C := RX5) (T := TX5) (N := 23) hx hb hts in_X5 hown hK.1 hP 0 rfl rfl 0 (by decide) (hts _ q2029) (fun _ h9 => h9) rfl dX5_gets_32 ?_
      refine lv_iconst (v := iI 3) hx hb dX5_gets_35 rfl ?_
      refine lv_dup2_11 hx hb dX5_gets_36 rfl rfl ?_
      refine n_iald (f := a_2) hx hb hK.1 hP 1 0 rfl rfl (by omega) (by decide) dX5_gets_37 ?_
      have h33 : a_2 3 = ar 1 3 := by rw [ea_2]; exact ui_n (by decide)
      refine lv_iconst (v := iI 1) hx hb dX5_gets_38 rfl ?_
      refine n_iadd hx hb dX5_gets_39 ?_
      have b_30 := hgi1.2.2.1 3
      refine n_iast (f := a_2) hx hb hK.1 hP hD hS 1 0 rfl rfl (by omega) (by decide) dX5_gets_40 (ws2 := MW E o sc (ua ar 1 (ui a_2 3 ((a_2 3) + 1)))) rfl (fun H locs hP hD hS => ?_)
      obtain ⟨a_31, ea_31⟩ : ∃ zz : Int → Int, zz = ui a_2 3 ((a_2 3) + 1) := ⟨_, rfl⟩
      rw [← ea_31] at hP hD
      have hte_a_31 : TE G a_31 := by rw [ea_31]; exact te_ui hgi1.1 (by omega)
      have hBa_31 := ui_b (i := 3) hgi1.2.2.1 (show 0 ≤ (a_2 3) + 1 ∧ (a_2 3) + 1 < 2147483648 by omega); rw [← ea_31] at hBa_31
      refine lv_iload hx hb dX5_gets_41 (lv_at hl 0 rfl) ?_
      have hfin : m_exist a_2 (m_stands G t) th = (m_get G th (d + 1) t dp (ar 1, ar 7)).1 := by
        rw [m_get_s]
        rw [if_pos (by rw [← ea_2]; assumption), ← ea_2]
      have w_32 : a_31 = (m_get G th (d + 1) t dp (ar 1, ar 7)).2.1 := by
        rw [m_get_s]
        rw [if_pos (by rw [← ea_2]; assumption), ← ea_2, ea_31]
        rw [show a_2 3 = ar 1 3 by rw [ea_2]; exact ui_n (by decide)]
      rw [show (ua ar 1 a_31) = (ua ar 1 ((m_get G th (d + 1) t dp (ar 1, ar 7)).2.1)) from congrArg (fun z0 : Int → Int => (ua ar 1 z0)) w_32] at hP hD
      have hP : va_P E.1 CL (MW E o sc (ua (ua ar 1 ((m_get G th (d + 1) t dp (ar 1, ar 7)).2.1)) 7 (ar 7))) H := hP
      have hD : va_D A (MW E o sc (ua (ua ar 1 ((m_get G th (d + 1) t dp (ar 1, ar 7)).2.1)) 7 (ar 7))) := hD
      have w_33 : ar 7 = (m_get G th (d + 1) t dp (ar 1, ar 7)).2.2 := by
        rw [m_get_s]
        rw [if_pos (by rw [← ea_2]; assumption)]
      rw [show (ua (ua ar 1 ((m_get G th (d + 1) t dp (ar 1, ar 7)).2.1)) 7 (ar 7)) = (ua (ua ar 1 ((m_get G th (d + 1) t dp (ar 1, ar 7)).2.1)) 7 ((m_get G th (d + 1) t dp (ar 1, ar 7)).2.2)) from congrArg (fun z0 : Int → Int => (ua (ua ar 1 ((m_get G th (d + 1) t dp (ar 1, ar 7)).2.1)) 7 z0)) w_33] at hP hD
      exact W.iret (v := iI (m_exist a_2 (m_stands G t) th)) hx hb hr (fun tt_ ht_ hW_ => ⟨⟨iI (m_exist a_2 (m_stands G t) th), (), rfl, (congrArg iI hfin), by rw [ht_]; exact hP, hD⟩, hS.F ht_⟩) hS.2.2 dX5_gets_43
