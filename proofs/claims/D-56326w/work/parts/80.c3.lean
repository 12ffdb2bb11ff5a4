set_option maxHeartbeats 1000000 in
set_option maxRecDepth 100000 in
theorem mt_X2_define (l : Launch) (E : EE) (o : Nat → Nat) (sc : Nat → Int) (ar : Nat → Int → Int) (t : Int) (sp : Int) (mn : Int) (g : Int → Int) (hst : l.stackTraces = false) (hsr : SR g sc ar) (ht : 0 ≤ t ∧ t < 65536) (hs : 0 ≤ sp ∧ sp < 65536) (hm : -2147483648 ≤ mn ∧ mn < 2147483648) (sz : Nat) : vx_Met l yX2_define (ws_ yX2_define cX2_define 5 (some .int)) { frames := 7, cells := 2, slots := 12, locals := 112 } (va_Pc [.ref (o 0), iv t, iv sp, iv mn] (UX E (SW E o sc ar) sz)) (UQx E (fun u : SU => (∃ q, A_def g t sp mn = .inr (.inr q)) ∧ SR (rs_g g (A_def g t sp mn)) u.1 u.2) (fun u : SU => rs_val 0 (A_def g t sp mn)) (fun u : SU => SW E o u.1 u.2) (va_A (SW E o sc ar) sz)) (UXx E (fun (En : String) (u : SUX) => XC1 (nmX "java/lang/IllegalArgumentException" "java/lang/IllegalStateException" "") (A_def g t sp mn) En u.2.2) (fun u : SUX => SW E o u.1 u.2.1) (fun u : SUX => u.2.2) (va_A (SW E o sc ar) sz)) 2 12 (va_A (SW E o sc ar) sz) := by
  refine vx_ofW (cc := cX2_define) (maxL := 5) (ret := (some .int)) (by decide) rfl ?_
  intro p e s m args below meth c s₁ B hml htb hv
  obtain ⟨rfl, hsz, hP, hK, hD0, hE⟩ := hv
  have hx := B.exec
  have hb := B.bytes
  have hr := B.returns
  have hts := atoms_spec (ws := (ws_ yX2_define cX2_define 5 (some .int))) B.pre
  have hts : ∀ w ∈ lw_all, w.before _ s = true := fun w h => hts w (List.mem_cons_of_mem _ h)
  have hown : s.vm.findClass RX2 = some m.cls := findClass_of_methodNamed B.named
  have hlocks := B.notSynchronized
  subst hsz
  have hD := hD0.self (sz := s.heap.size)
  generalize hAe : va_A (SW E o sc ar) s.heap.size = A at hD hE ⊢
  have hA : ∀ q : Nat, s.heap.size ≤ q → A q := fun q h => by rw [← hAe]; exact Or.inr h
  have hS : va_S A s.heap s.heap [] := va_S.rf
  have hl := lv_entry ([.ref (o 0), iv t, iv sp, iv mn]) (n := 5) (Nat.le_of_ble_eq_true rfl)
  rw [lg_entry_eq]
  generalize (lg_sl ([.ref (o 0), iv t, iv sp, iv mn]) ++ List.replicate (5 - (lg_sl ([.ref (o 0), iv t, iv sp, iv mn])).length) Slot.unset).toArray = ls at hl ⊢
  have hl : lv_has ls 5 [(0, .ref (o 0)), (1, iv t), (2, iv sp), (3, iv mn)] := hl
  have j_1 : W p l e (headSpec (ws_ yX2_define cX2_define 5 (some .int)) { frames := 7, cells := 2, slots := 12, locals := 112 }).room s m ([.ref (o 0), iv t, iv sp, iv mn] : List Value).toArray below meth c s.heap [] 0 0 (vx_MQ below (UQx E (fun u : SU => (∃ q, A_def g t sp mn = .inr (.inr q)) ∧ SR (rs_g g (A_def g t sp mn)) u.1 u.2) (fun u : SU => rs_val 0 (A_def g t sp mn)) (fun u : SU => SW E o u.1 u.2) A) (UXx E (fun (En : String) (u : SUX) => XC1 (nmX "java/lang/IllegalArgumentException" "java/lang/IllegalStateException" "") (A_def g t sp mn) En u.2.2) (fun u : SUX => SW E o u.1 u.2.1) (fun u : SUX => u.2.2) A) ([.ref (o 0), iv t, iv sp, iv mn] : List Value).toArray s 2 12 A) (F0 m 29 ls [iv (b2 (decide ((97 ≤ t ∧ t ≤ 104) ∧ (sp = 115 ∨ sp = 116 ∨ sp = 101) ∧ (1 ≤ mn ∧ mn ≤ 20))))]) := by
    have hz_2 : s.heap.size ≤ s.heap.size := hS.1
    refine n_txvS (w2 := fun u_3 => SW E o sc ar) (w3 := fun u_4 => SW E o sc ar) (vx_runSN (As := [iv (b2 (decide ((97 ≤ t ∧ t ≤ 104) ∧ (sp = 115 ∨ sp = 116 ∨ sp = 101) ∧ (1 ≤ mn ∧ mn ≤ 20))))]) (rest := []) ⟨hx, hb, hml, hown, hts⟩ (mt_X1_checkArgument l E (decide ((97 ≤ t ∧ t ≤ 104) ∧ (sp = 115 ∨ sp = 116 ∨ sp = 101) ∧ (1 ≤ mn ∧ mn ≤ 20))) (by exact hst) _) ⟨(va_cnB 1 hts (lw_meth q891) rfl rfl rfl (hK.nv q889) (hts _ q94) (by decide +kernel) ⟨Nat.le_of_ble_eq_true rfl, Nat.le_of_ble_eq_true rfl⟩), hts _ q890, trivial⟩ (UX_S (hP.sub (ws' := []) [] rfl) hK (hD.sub (ws' := []) [] rfl rfl) hE hS (va_sub_free hD hS hA [] rfl)) rfl rfl hl.1 rfl (lv_room (Nat.le_of_ble_eq_true rfl)) dX2_define_29 ⟨Nat.le_of_ble_eq_true rfl, Nat.le_of_ble_eq_true rfl⟩) hP hD hS hA [] [0, 1, 2, 3, 4, 5, 6, 7, 8, 9, 10, 11, 12, 13, 14, 15, 16] [0, 1, 2, 3, 4, 5, 6, 7, 8, 9, 10, 11, 12, 13, 14, 15, 16] [0, 1, 2, 3, 4, 5, 6, 7, 8, 9, 10, 11, 12, 13, 14, 15, 16] rfl rfl rfl rfl rfl (fun _ => rfl) rfl (fun _ => rfl) ?_ ?_
    · intro En ce q9 u_4 H locs hCx hP hD hS hxf hq9 hce hcv hcl
      have hCx : En = "java/lang/IllegalArgumentException" ∧ (decide ((97 ≤ t ∧ t ≤ 104) ∧ (sp = 115 ∨ sp = 116 ∨ sp = 101) ∧ (1 ≤ mn ∧ mn ≤ 20))) = false := hCx
      have hP : va_P E.1 CL (SW E o sc ar) H := hP
      have hD : va_D A (SW E o sc ar) := hD
      exact n_out (sc, ar, none) (by exact Or.inl ⟨1, by have hz : c_def g t sp mn = 1 := (by unfold c_def; rw [if_neg (of_decide_eq_false hCx.2)]); unfold A_def; rw [if_pos (by omega), hz], hCx.1⟩) hP hD hS hxf (Nat.le_trans hz_2 hq9) hce hcv hcl (fun x hx9 => (htb x hx9).elim) hlocks (Nat.le_of_ble_eq_true rfl) (Nat.le_of_ble_eq_true rfl)
    · intro u_3 H locs hC hP hD hS
      have hu_3 : (decide ((97 ≤ t ∧ t ≤ 104) ∧ (sp = 115 ∨ sp = 116 ∨ sp = 101) ∧ (1 ≤ mn ∧ mn ≤ 20))) = true := hC
      have hP : va_P E.1 CL (SW E o sc ar) H := hP
      have hD : va_D A (SW E o sc ar) := hD
      have hok : (97 ≤ t ∧ t ≤ 104) ∧ (sp = 115 ∨ sp = 116 ∨ sp = 101) ∧ (1 ≤ mn ∧ mn ≤ 20) := of_decide_eq_true (by assumption)
      refine lv_iload_n hx hb dX2_define_32 rfl (lv_at hl 1 rfl) ?_
      refine lv_bipush (v := iI 97) hx hb dX2_define_33 (by decide) ?_
      refine n_isub hx hb dX2_define_35 ?_
      refine lv_istore (lv' := [(4, iv (t - 97)), (0, .ref (o 0)), (1, iv t), (2, iv sp), (3, iv mn)]) hx hb dX2_define_36 hl (by decide) rfl (fun ls hl => ?_)
      have j_5 : W p l e (headSpec (ws_ yX2_define cX2_define 5 (some .int)) { frames := 7, cells := 2, slots := 12, locals := 112 }).room s m ([.ref (o 0), iv t, iv sp, iv mn] : List Value).toArray below meth c H locs 1 6 (vx_MQ below (UQx E (fun u : SU => (∃ q, A_def g t sp mn = .inr (.inr q)) ∧ SR (rs_g g (A_def g t sp mn)) u.1 u.2) (fun u : SU => rs_val 0 (A_def g t sp mn)) (fun u : SU => SW E o u.1 u.2) A) (UXx E (fun (En : String) (u : SUX) => XC1 (nmX "java/lang/IllegalArgumentException" "java/lang/IllegalStateException" "") (A_def g t sp mn) En u.2.2) (fun u : SUX => SW E o u.1 u.2.1) (fun u : SUX => u.2.2) A) ([.ref (o 0), iv t, iv sp, iv mn] : List Value).toArray s 2 12 A) (F0 m 56 ls [iv (b2 (!(m_has g (t - 97))))]) := by
        have hz_6 : s.heap.size ≤ H.size := hS.1
        refine n_txvS (w2 := fun u_7 => SW E o sc ar) (w3 := fun u_8 => SW E o sc ar) (vx_runSN (As := [iv (b2 (!(m_has g (t - 97))))]) (rest := []) ⟨hx, hb, hml, hown, hts⟩ (mt_X1_checkState l E (!(m_has g (t - 97))) (by exact hst) _) ⟨(va_cnB 1 hts (lw_meth q912) rfl rfl rfl (hK.nv q910) (hts _ q94) (by decide +kernel) ⟨Nat.le_of_ble_eq_true rfl, Nat.le_of_ble_eq_true rfl⟩), hts _ q911, trivial⟩ (UX_S (hP.sub (ws' := []) [] rfl) hK (hD.sub (ws' := []) [] rfl rfl) hE hS (va_sub_free hD hS hA [] rfl)) rfl rfl hl.1 rfl (lv_room (Nat.le_of_ble_eq_true rfl)) dX2_define_56 ⟨Nat.le_of_ble_eq_true rfl, Nat.le_of_ble_eq_true rfl⟩) hP hD hS hA [] [0, 1, 2, 3, 4, 5, 6, 7, 8, 9, 10, 11, 12, 13, 14, 15, 16] [0, 1, 2, 3, 4, 5, 6, 7, 8, 9, 10, 11, 12, 13, 14, 15, 16] [0, 1, 2, 3, 4, 5, 6, 7, 8, 9, 10, 11, 12, 13, 14, 15, 16] rfl rfl rfl rfl rfl (fun _ => rfl) rfl (fun _ => rfl) ?_ ?_
        · intro En ce q9 u_8 H locs hCx hP hD hS hxf hq9 hce hcv hcl
          have hCx : En = "java/lang/IllegalStateException" ∧ (!(m_has g (t - 97))) = false := hCx
          have hP : va_P E.1 CL (SW E o sc ar) H := hP
          have hD : va_D A (SW E o sc ar) := hD
          exact n_out (sc, ar, none) (by exact Or.inl ⟨2, by have hz : c_def g t sp mn = 2 := (by unfold c_def; rw [if_pos hok, if_pos (by simpa using hCx.2)]); unfold A_def; rw [if_pos (by omega), hz], hCx.1⟩) hP hD hS hxf (Nat.le_trans hz_6 hq9) hce hcv hcl (fun x hx9 => (htb x hx9).elim) hlocks (Nat.le_of_ble_eq_true rfl) (Nat.le_of_ble_eq_true rfl)
        · intro u_7 H locs hC hP hD hS
          have hu_7 : (!(m_has g (t - 97))) = true := hC
          have hP : va_P E.1 CL (SW E o sc ar) H := hP
          have hD : va_D A (SW E o sc ar) := hD
          have hno : m_has g (t - 97) = false := by simpa using hu_7
          have hz : c_def g t sp mn = 0 := by unfold c_def; rw [if_pos hok, if_neg (by rw [hno]; decide)]
          have hA : A_def g t sp mn = .inr (.inr (m_recipes (s_def g (t - 97) sp mn), s_def g (t - 97) sp mn)) := by unfold A_def; rw [if_neg (by omega)]
          refine lv_aload_n hx hb dX2_define_59 rfl (lv_at hl 1 rfl) ?_
          refine va_get (D := E.1) (ci := 2) (v := .ref (o 1)) (C := RX2) (T := TX2) (N := 14) hx hb hts in_X2 hown hK.1 hP 0 rfl rfl 0 (by decide) (hts _ q188) (fun _ h9 => h9) rfl dX2_define_60 ?_
          refine va_getN (D := E.1) (ci := 3) (v := .ref (o 2)) (C := RX3) (T := TX3) (N := 7) hx hb hts in_X3 hown hK.1 hP 1 rfl rfl 0 (by decide) (hK.nw q154) (fun _ h9 => h9) rfl dX2_define_63 ?_
          refine lv_iload hx hb dX2_define_66 (lv_at hl 0 rfl) ?_
          refine lv_iconst (v := iI 1) hx hb dX2_define_68 rfl ?_
          refine n_zast (f := ar 2) hx hb hK.1 hP hD hS 2 1 rfl rfl (by omega) (by decide) (by decide) dX2_define_69 (ws2 := SW E o sc (ua ar 2 (ui (ar 2) (t - 97) 1))) rfl (fun H locs hP hD hS => ?_)
          refine lv_aload_n hx hb dX2_define_70 rfl (lv_at hl 1 rfl) ?_
          refine va_get (D := E.1) (ci := 2) (v := .ref (o 1)) (C := RX2) (T := TX2) (N := 14) hx hb hts in_X2 hown hK.1 hP 0 rfl rfl 0 (by decide) (hts _ q188) (fun _ h9 => h9) rfl dX2_define_71 ?_
          refine va_getN (D := E.1) (ci := 3) (v := .ref (o 3)) (C := RX3) (T := TX3) (N := 7) hx hb hts in_X3 hown hK.1 hP 1 rfl rfl 1 (by decide) (hK.nw q158) (fun _ h9 => h9) rfl dX2_define_74 ?_
          refine lv_iload hx hb dX2_define_77 (lv_at hl 0 rfl) ?_
          refine lv_iload_n hx hb dX2_define_79 rfl (lv_at hl 3 rfl) ?_
          refine n_cast (f := ar 3) hx hb hK.1 hP hD hS 3 2 rfl rfl (by omega) (by decide) (by omega) dX2_define_80 (ws2 := SW E o sc (ua (ua ar 2 (ui (ar 2) (t - 97) 1)) 3 (ui (ar 3) (t - 97) sp))) rfl (fun H locs hP hD hS => ?_)
          refine lv_aload_n hx hb dX2_define_81 rfl (lv_at hl 1 rfl) ?_
          refine va_get (D := E.1) (ci := 2) (v := .ref (o 1)) (C := RX2) (T := TX2) (N := 14) hx hb hts in_X2 hown hK.1 hP 0 rfl rfl 0 (by decide) (hts _ q188) (fun _ h9 => h9) rfl dX2_define_82 ?_
          refine va_getN (D := E.1) (ci := 3) (v := .ref (o 4)) (C := RX3) (T := TX3) (N := 7) hx hb hts in_X3 hown hK.1 hP 1 rfl rfl 2 (by decide) (hK.nw q161) (fun _ h9 => h9) rfl dX2_define_85 ?_
          refine lv_iload hx hb dX2_define_88 (lv_at hl 0 rfl) ?_
          refine lv_iload_n hx hb dX2_define_90 rfl (lv_at hl 4 rfl) ?_
          refine n_iast (f := ar 4) hx hb hK.1 hP hD hS 4 0 rfl rfl (by omega) (by decide) dX2_define_91 (ws2 := SW E o sc (ua (ua (ua ar 2 (ui (ar 2) (t - 97) 1)) 3 (ui (ar 3) (t - 97) sp)) 4 (ui (ar 4) (t - 97) mn))) rfl (fun H locs hP hD hS => ?_)
          refine lv_aload_n hx hb dX2_define_92 rfl (lv_at hl 1 rfl) ?_
          refine va_get (D := E.1) (ci := 2) (v := .ref (o 1)) (C := RX2) (T := TX2) (N := 14) hx hb hts in_X2 hown hK.1 hP 0 rfl rfl 0 (by decide) (hts _ q188) (fun _ h9 => h9) rfl dX2_define_93 ?_
          refine va_getN (D := E.1) (ci := 3) (v := .ref (o 5)) (C := RX3) (T := TX3) (N := 7) hx hb hts in_X3 hown hK.1 hP 1 rfl rfl 3 (by decide) (hK.nw q164) (fun _ h9 => h9) rfl dX2_define_96 ?_
          refine lv_iload hx hb dX2_define_99 (lv_at hl 0 rfl) ?_
          refine lv_iconst (v := iI 0) hx hb dX2_define_101 rfl ?_
          refine n_iast (f := ar 5) hx hb hK.1 hP hD hS 5 0 rfl rfl (by omega) (by decide) dX2_define_102 (ws2 := SW E o sc (ua (ua (ua (ua ar 2 (ui (ar 2) (t - 97) 1)) 3 (ui (ar 3) (t - 97) sp)) 4 (ui (ar 4) (t - 97) mn)) 5 (ui (ar 5) (t - 97) 0))) rfl (fun H locs hP hD hS => ?_)
          refine lv_aload_n hx hb dX2_define_103 rfl (lv_at hl 1 rfl) ?_
          refine va_get (D := E.1) (ci := 2) (v := .ref (o 1)) (C := RX2) (T := TX2) (N := 14) hx hb hts in_X2 hown hK.1 hP 0 rfl rfl 0 (by decide) (hts _ q188) (fun _ h9 => h9) rfl dX2_define_104 ?_
          have hsr2 : SR (s_def g (t - 97) sp mn) sc (ua (ua (ua (ua ar 2 (ui (ar 2) (t - 97) 1)) 3 (ui (ar 3) (t - 97) sp)) 4 (ui (ar 4) (t - 97) mn)) 5 (ui (ar 5) (t - 97) 0)) := SR_def hsr (by omega) (by omega)
          have hbr2 := hsr2.br
          refine n_csi (x := m_recipes (s_def g (t - 97) sp mn)) (va_runV (As := []) (rest := []) ⟨hx, hb, hml, hown, hts⟩ (mt_X3_count l E o sc (ua (ua (ua (ua ar 2 (ui (ar 2) (t - 97) 1)) 3 (ui (ar 3) (t - 97) sp)) 4 (ui (ar 4) (t - 97) mn)) 5 (ui (ar 5) (t - 97) 0))  (s_def g (t - 97) sp mn) (by assumption)) (cwV 0 hts (lw_V q918 q515 q516 q96 q517) rfl rfl rfl (by decide +kernel) ⟨Nat.le_of_ble_eq_true rfl, Nat.le_of_ble_eq_true rfl⟩) (PW_V (hP.sub (ws' := BW E o sc (ua (ua (ua (ua ar 2 (ui (ar 2) (t - 97) 1)) 3 (ui (ar 3) (t - 97) sp)) 4 (ui (ar 4) (t - 97) mn)) 5 (ui (ar 5) (t - 97) 0))) [1, 2, 3, 4, 5, 6, 7, 8] rfl) hK (va_recv hK.1 hP (ci := 3) (q0 := 1) rfl rfl)) rfl rfl hl.1 rfl (lv_room (Nat.le_of_ble_eq_true rfl)) dX2_define_107 ⟨Nat.le_of_ble_eq_true rfl, Nat.le_of_ble_eq_true rfl⟩) ?_
          have hfin : m_recipes (s_def g (t - 97) sp mn) = rs_val 0 (A_def g t sp mn) := by
            rw [hA]
            rfl
          refine vx_ret ?_
          refine W.widen (k := 2) (n := 12) (Nat.le_of_ble_eq_true rfl) (Nat.le_of_ble_eq_true rfl) ?_
          exact W.iret (v := iI (m_recipes (s_def g (t - 97) sp mn))) hx hb hr (fun tt_ ht_ hW_ => ⟨⟨iI (m_recipes (s_def g (t - 97) sp mn)), (sc, (ua (ua (ua (ua ar 2 (ui (ar 2) (t - 97) 1)) 3 (ui (ar 3) (t - 97) sp)) 4 (ui (ar 4) (t - 97) mn)) 5 (ui (ar 5) (t - 97) 0))), rfl, ⟨⟨⟨_, hA⟩, by rw [hA]; exact hsr2⟩, (congrArg iI hfin)⟩, by rw [ht_]; exact hP, hD⟩, hS.F ht_⟩) hS.2.2 dX2_define_110
      refine lv_aload_n hx hb dX2_define_38 rfl (lv_at hl 1 rfl) ?_
      refine va_get (D := E.1) (ci := 2) (v := .ref (o 1)) (C := RX2) (T := TX2) (N := 14) hx hb hts in_X2 hown hK.1 hP 0 rfl rfl 0 (by decide) (hts _ q188) (fun _ h9 => h9) rfl dX2_define_39 ?_
      refine va_getN (D := E.1) (ci := 3) (v := .ref (o 2)) (C := RX3) (T := TX3) (N := 7) hx hb hts in_X3 hown hK.1 hP 1 rfl rfl 0 (by decide) (hK.nw q154) (fun _ h9 => h9) rfl dX2_define_42 ?_
      refine lv_iload hx hb dX2_define_45 (lv_at hl 0 rfl) ?_
      refine n_zald (f := ar 2) hx hb hK.1 hP 2 1 rfl rfl (by omega) (by decide) dX2_define_47 ?_
      rw [hsr.br.has (t := t - 97) (by omega)]
      refine n_ifb_ne (tgt := 55) hx hb dX2_define_48 (by decide) (fun c_9 => ?_) (fun c_9 => ?_)
      · refine lv_iconst (v := iI 0) hx hb dX2_define_55 rfl ?_
        refine n_top (y := b2 (!(m_has g (t - 97)))) (by simp [c_9, b2_t, b2]) ?_
        exact j_5
      · refine lv_iconst (v := iI 1) hx hb dX2_define_51 rfl ?_
        refine lv_goto (tgt := 56) hx hb dX2_define_52 (by decide) ?_
        refine n_top (y := b2 (!(m_has g (t - 97)))) (by simp [c_9, b2_t, b2]) ?_
        exact j_5
  refine lv_iload_n hx hb dX2_define_0 rfl (lv_at hl 1 rfl) ?_
  refine n_csi (x := b2 (decide (97 ≤ t ∧ t ≤ 104))) (va_runSN (As := [iv t]) (rest := []) ⟨hx, hb, hml, hown, hts⟩ (mt_X1_isTool l E t (by omega)) ⟨(va_cnB 1 hts (lw_meth q881) rfl rfl rfl (hK.nv q879) (hts _ q94) (by decide +kernel) ⟨Nat.le_of_ble_eq_true rfl, Nat.le_of_ble_eq_true rfl⟩), hts _ q880, trivial⟩ (PW_S (hP.sub (ws' := []) [] rfl) hK) rfl rfl hl.1 rfl (lv_room (Nat.le_of_ble_eq_true rfl)) dX2_define_1 ⟨Nat.le_of_ble_eq_true rfl, Nat.le_of_ble_eq_true rfl⟩) ?_
  refine n_ifd_eq (tgt := 28) hx hb dX2_define_4 (by decide) (fun c_10 => ?_) (fun c_10 => ?_)
  · refine lv_iconst (v := iI 0) hx hb dX2_define_28 rfl ?_
    refine n_top (y := b2 (decide ((97 ≤ t ∧ t ≤ 104) ∧ (sp = 115 ∨ sp = 116 ∨ sp = 101) ∧ (1 ≤ mn ∧ mn ≤ 20)))) (by first | exact (b2_pos (by omega)).symm | exact (b2_neg (by omega)).symm) ?_
    exact j_1
  · refine lv_iload_n hx hb dX2_define_7 rfl (lv_at hl 2 rfl) ?_
    refine n_csi (x := b2 (decide (sp = 115 ∨ sp = 116 ∨ sp = 101))) (va_runSN (As := [iv sp]) (rest := []) ⟨hx, hb, hml, hown, hts⟩ (mt_X1_isScope l E sp (by omega)) ⟨(va_cnB 1 hts (lw_meth q887) rfl rfl rfl (hK.nv q885) (hts _ q94) (by decide +kernel) ⟨Nat.le_of_ble_eq_true rfl, Nat.le_of_ble_eq_true rfl⟩), hts _ q886, trivial⟩ (PW_S (hP.sub (ws' := []) [] rfl) hK) rfl rfl hl.1 rfl (lv_room (Nat.le_of_ble_eq_true rfl)) dX2_define_8 ⟨Nat.le_of_ble_eq_true rfl, Nat.le_of_ble_eq_true rfl⟩) ?_
    refine n_ifd_eq (tgt := 28) hx hb dX2_define_11 (by decide) (fun c_11 => ?_) (fun c_11 => ?_)
    · refine lv_iconst (v := iI 0) hx hb dX2_define_28 rfl ?_
      refine n_top (y := b2 (decide ((97 ≤ t ∧ t ≤ 104) ∧ (sp = 115 ∨ sp = 116 ∨ sp = 101) ∧ (1 ≤ mn ∧ mn ≤ 20)))) (by first | exact (b2_pos (by omega)).symm | exact (b2_neg (by omega)).symm) ?_
      exact j_1
    · refine lv_iload_n hx hb dX2_define_14 rfl (lv_at hl 3 rfl) ?_
      refine lv_iconst (v := iI 1) hx hb dX2_define_15 rfl ?_
      refine lv_bipush (v := iI 20) hx hb dX2_define_16 (by decide) ?_
      refine n_csi (x := b2 (decide (1 ≤ mn ∧ mn ≤ 20))) (va_runSN (As := [iv mn, iv 1, iv 20]) (rest := []) ⟨hx, hb, hml, hown, hts⟩ (mt_X1_inRange l E mn 1 20 (by omega) (by omega) (by omega)) ⟨(va_cnB 3 hts (lw_meth q884) rfl rfl rfl (hK.nv q888) (hts _ q94) (by decide +kernel) ⟨Nat.le_of_ble_eq_true rfl, Nat.le_of_ble_eq_true rfl⟩), hts _ q883, trivial⟩ (PW_S (hP.sub (ws' := []) [] rfl) hK) rfl rfl hl.1 rfl (lv_room (Nat.le_of_ble_eq_true rfl)) dX2_define_18 ⟨Nat.le_of_ble_eq_true rfl, Nat.le_of_ble_eq_true rfl⟩) ?_
      refine n_ifd_eq (tgt := 28) hx hb dX2_define_21 (by decide) (fun c_12 => ?_) (fun c_12 => ?_)
      · refine lv_iconst (v := iI 0) hx hb dX2_define_28 rfl ?_
        refine n_top (y := b2 (decide ((97 ≤ t ∧ t ≤ 104) ∧ (sp = 115 ∨ sp = 116 ∨ sp = 101) ∧ (1 ≤ mn ∧ mn ≤ 20)))) (by first | exact (b2_pos (by omega)).symm | exact (b2_neg (by omega)).symm) ?_
        exact j_1
      · refine lv_iconst (v := iI 1) hx hb dX2_define_24 rfl ?_
        refine lv_goto (tgt := 29) hx hb dX2_define_25 (by decide) ?_
        refine n_top (y := b2 (decide ((97 ≤ t ∧ t ≤ 104) ∧ (sp = 115 ∨ sp = 116 ∨ sp = 101) ∧ (1 ≤ mn ∧ mn ≤ 20)))) (by first | exact (b2_pos (by omega)).symm | exact (b2_neg (by omega)).symm) ?_
        exact j_1
set_option maxHeartbeats 1000000 in
set_option maxRecDepth 100000 in
theorem mt_X2_dropRecipe (l : Launch) (E : EE) (o : Nat → Nat) (sc : Nat → Int) (ar : Nat → Int → Int) (t : Int) (g : Int → Int) (hst : l.stackTraces = false) (hsr : SR g sc ar) (ht : 0 ≤ t ∧ t < 65536) (how : OY g) (sz : Nat) : vx_Met l yX2_dropRecipe (ws_ yX2_dropRecipe cX2_dropRecipe 3 (some .int)) { frames := 8, cells := 3, slots := 18, locals := 133 } (va_Pc [.ref (o 0), iv t] (UX E (SW E o sc ar) sz)) (UQx E (fun u : SU => (∃ q, A_drop g t = .inr (.inr q)) ∧ SR (rs_g g (A_drop g t)) u.1 u.2) (fun u : SU => rs_val 0 (A_drop g t)) (fun u : SU => SW E o u.1 u.2) (va_A (SW E o sc ar) sz)) (UXx E (fun (En : String) (u : SUX) => XC1 (nmX "java/lang/IllegalArgumentException" "java/util/NoSuchElementException" "java/lang/IllegalStateException") (A_drop g t) En u.2.2) (fun u : SUX => SW E o u.1 u.2.1) (fun u : SUX => u.2.2) (va_A (SW E o sc ar) sz)) 3 18 (va_A (SW E o sc ar) sz) := by
  refine vx_ofW (cc := cX2_dropRecipe) (maxL := 3) (ret := (some .int)) (by decide) rfl ?_
  intro p e s m args below meth c s₁ B hml htb hv
  obtain ⟨rfl, hsz, hP, hK, hD0, hE⟩ := hv
  have hx := B.exec
  have hb := B.bytes
  have hr := B.returns
  have hts := atoms_spec (ws := (ws_ yX2_dropRecipe cX2_dropRecipe 3 (some .int))) B.pre
  have hts : ∀ w ∈ lw_all, w.before _ s = true := fun w h => hts w (List.mem_cons_of_mem _ h)
  have hown : s.vm.findClass RX2 = some m.cls := findClass_of_methodNamed B.named
  have hlocks := B.notSynchronized
  subst hsz
  have hD := hD0.self (sz := s.heap.size)
  generalize hAe : va_A (SW E o sc ar) s.heap.size = A at hD hE ⊢
  have hA : ∀ q : Nat, s.heap.size ≤ q → A q := fun q h => by rw [← hAe]; exact Or.inr h
  have hS : va_S A s.heap s.heap [] := va_S.rf
  have hl := lv_entry ([.ref (o 0), iv t]) (n := 3) (Nat.le_of_ble_eq_true rfl)
  rw [lg_entry_eq]
  generalize (lg_sl ([.ref (o 0), iv t]) ++ List.replicate (3 - (lg_sl ([.ref (o 0), iv t])).length) Slot.unset).toArray = ls at hl ⊢
  have hl : lv_has ls 3 [(0, .ref (o 0)), (1, iv t)] := hl
  have hn1 := hsr.n1
  have ho1 := how.1
  have ho2 := how.2.1
  refine lv_iload_n hx hb dX2_dropRecipe_0 rfl (lv_at hl 1 rfl) ?_
  have hz_1 : s.heap.size ≤ s.heap.size := hS.1
  refine n_txS (x := fun u_2 => t - 97) (w2 := fun u_2 => SW E o sc ar) (w3 := fun u_3 => SW E o sc ar) (vx_runSN (As := [iv t]) (rest := []) ⟨hx, hb, hml, hown, hts⟩ (mt_X1_indexOf l E t (by exact hst) (by omega) _) ⟨(va_cnB 1 hts (lw_meth q964) rfl rfl rfl (hK.nv q962) (hts _ q94) (by decide +kernel) ⟨Nat.le_of_ble_eq_true rfl, Nat.le_of_ble_eq_true rfl⟩), hts _ q963, trivial⟩ (UX_S (hP.sub (ws' := []) [] rfl) hK (hD.sub (ws' := []) [] rfl rfl) hE hS (va_sub_free hD hS hA [] rfl)) rfl rfl hl.1 rfl (lv_room (Nat.le_of_ble_eq_true rfl)) dX2_dropRecipe_1 ⟨Nat.le_of_ble_eq_true rfl, Nat.le_of_ble_eq_true rfl⟩) hP hD hS hA [] [0, 1, 2, 3, 4, 5, 6, 7, 8, 9, 10, 11, 12, 13, 14, 15, 16] [0, 1, 2, 3, 4, 5, 6, 7, 8, 9, 10, 11, 12, 13, 14, 15, 16] [0, 1, 2, 3, 4, 5, 6, 7, 8, 9, 10, 11, 12, 13, 14, 15, 16] rfl rfl rfl rfl rfl (fun _ => rfl) rfl (fun _ => rfl) ?_ ?_
  · intro En ce q9 u_3 H locs hCx hP hD hS hxf hq9 hce hcv hcl
    have hCx : En = "java/lang/IllegalArgumentException" ∧ ¬ (97 ≤ t ∧ t ≤ 104) := hCx
    have hP : va_P E.1 CL (SW E o sc ar) H := hP
    have hD : va_D A (SW E o sc ar) := hD
    exact n_out (sc, ar, none) (by exact Or.inl ⟨1, by have hz : c_none g t = 1 := (by unfold c_none; rw [if_neg hCx.2]); unfold A_drop; rw [if_pos (by omega), hz], hCx.1⟩) hP hD hS hxf (Nat.le_trans hz_1 hq9) hce hcv hcl (fun x hx9 => (htb x hx9).elim) hlocks (Nat.le_of_ble_eq_true rfl) (Nat.le_of_ble_eq_true rfl)
  · intro u_2 H locs hC hP hD hS
    have hu_2 : 97 ≤ t ∧ t ≤ 104 := hC
    have hP : va_P E.1 CL (SW E o sc ar) H := hP
    have hD : va_D A (SW E o sc ar) := hD
    have hti : 97 ≤ t ∧ t ≤ 104 := by assumption
    refine lv_istore_n (lv' := [(2, iv (t - 97)), (0, .ref (o 0)), (1, iv t)]) hx hb dX2_dropRecipe_4 rfl hl (by decide) rfl (fun ls hl => ?_)
    refine lv_aload_n hx hb dX2_dropRecipe_5 rfl (lv_at hl 1 rfl) ?_
    refine lv_iload_n hx hb dX2_dropRecipe_6 rfl (lv_at hl 0 rfl) ?_
    have hz_4 : s.heap.size ≤ H.size := hS.1
    refine n_txvS (w2 := fun u_5 => SW E o sc ar) (w3 := fun u_6 => SW E o sc ar) (vx_runV (As := [iv (t - 97)]) (rest := []) ⟨hx, hb, hml, hown, hts⟩ (mt_X2_checkRecipe l E o sc ar (t - 97) g (by exact hst) (by omega) (by assumption) _) (cwV 1 hts (lw_V q967 q968 q969 q95 q970) rfl rfl rfl (by decide +kernel) ⟨Nat.le_of_ble_eq_true rfl, Nat.le_of_ble_eq_true rfl⟩) (UX_V hP hK (hD) hE hS (va_A_in hD hS hA) (va_recv hK.1 hP (ci := 2) (q0 := 0) rfl rfl)) rfl rfl hl.1 rfl (lv_room (Nat.le_of_ble_eq_true rfl)) dX2_dropRecipe_7 ⟨Nat.le_of_ble_eq_true rfl, Nat.le_of_ble_eq_true rfl⟩) hP hD hS hA [0, 1, 2, 3, 4, 5, 6, 7, 8, 9, 10, 11, 12, 13, 14, 15, 16] [] [0, 1, 2, 3, 4, 5, 6, 7, 8, 9, 10, 11, 12, 13, 14, 15, 16] [0, 1, 2, 3, 4, 5, 6, 7, 8, 9, 10, 11, 12, 13, 14, 15, 16] rfl rfl rfl rfl rfl (fun _ => rfl) rfl (fun _ => rfl) ?_ ?_
    · intro En ce q9 u_6 H locs hCx hP hD hS hxf hq9 hce hcv hcl
      have hCx : En = "java/util/NoSuchElementException" ∧ m_has g (t - 97) = false := hCx
      have hP : va_P E.1 CL (SW E o sc ar) H := hP
      have hD : va_D A (SW E o sc ar) := hD
      exact n_out (sc, ar, none) (by exact Or.inl ⟨2, by have hz : c_none g t = 2 := (by unfold c_none; rw [if_pos hti, if_neg (by rw [hCx.2]; decide)]); unfold A_drop; rw [if_pos (by omega), hz], hCx.1⟩) hP hD hS hxf (Nat.le_trans hz_4 hq9) hce hcv hcl (fun x hx9 => (htb x hx9).elim) hlocks (Nat.le_of_ble_eq_true rfl) (Nat.le_of_ble_eq_true rfl)
    · intro u_5 H locs hC hP hD hS
      have hu_5 : m_has g (t - 97) = true := hC
      have hP : va_P E.1 CL (SW E o sc ar) H := hP
      have hD : va_D A (SW E o sc ar) := hD
      have hha : m_has g (t - 97) = true := by assumption
      have j_7 : W p l e (headSpec (ws_ yX2_dropRecipe cX2_dropRecipe 3 (some .int)) { frames := 8, cells := 3, slots := 18, locals := 133 }).room s m ([.ref (o 0), iv t] : List Value).toArray below meth c H locs 2 12 (vx_MQ below (UQx E (fun u : SU => (∃ q, A_drop g t = .inr (.inr q)) ∧ SR (rs_g g (A_drop g t)) u.1 u.2) (fun u : SU => rs_val 0 (A_drop g t)) (fun u : SU => SW E o u.1 u.2) A) (UXx E (fun (En : String) (u : SUX) => XC1 (nmX "java/lang/IllegalArgumentException" "java/util/NoSuchElementException" "java/lang/IllegalStateException") (A_drop g t) En u.2.2) (fun u : SUX => SW E o u.1 u.2.1) (fun u : SUX => u.2.2) A) ([.ref (o 0), iv t] : List Value).toArray s 3 18 A) (F0 m 23 ls [iv (b2 (!(m_hasobj g (t - 97))))]) := by
        have hz_8 : s.heap.size ≤ H.size := hS.1
        refine n_txvS (w2 := fun u_9 => SW E o sc ar) (w3 := fun u_10 => SW E o sc ar) (vx_runSN (As := [iv (b2 (!(m_hasobj g (t - 97))))]) (rest := []) ⟨hx, hb, hml, hown, hts⟩ (mt_X1_checkState l E (!(m_hasobj g (t - 97))) (by exact hst) _) ⟨(va_cnB 1 hts (lw_meth q912) rfl rfl rfl (hK.nv q910) (hts _ q94) (by decide +kernel) ⟨Nat.le_of_ble_eq_true rfl, Nat.le_of_ble_eq_true rfl⟩), hts _ q911, trivial⟩ (UX_S (hP.sub (ws' := []) [] rfl) hK (hD.sub (ws' := []) [] rfl rfl) hE hS (va_sub_free hD hS hA [] rfl)) rfl rfl hl.1 rfl (lv_room (Nat.le_of_ble_eq_true rfl)) dX2_dropRecipe_23 ⟨Nat.le_of_ble_eq_true rfl, Nat.le_of_ble_eq_true rfl⟩) hP hD hS hA [] [0, 1, 2, 3, 4, 5, 6, 7, 8, 9, 10, 11, 12, 13, 14, 15, 16] [0, 1, 2, 3, 4, 5, 6, 7, 8, 9, 10, 11, 12, 13, 14, 15, 16] [0, 1, 2, 3, 4, 5, 6, 7, 8, 9, 10, 11, 12, 13, 14, 15, 16] rfl rfl rfl rfl rfl (fun _ => rfl) rfl (fun _ => rfl) ?_ ?_
        · intro En ce q9 u_10 H locs hCx hP hD hS hxf hq9 hce hcv hcl
          have hCx : En = "java/lang/IllegalStateException" ∧ (!(m_hasobj g (t - 97))) = false := hCx
          have hP : va_P E.1 CL (SW E o sc ar) H := hP
          have hD : va_D A (SW E o sc ar) := hD
          exact n_out (sc, ar, none) (by exact Or.inl ⟨3, by have hz : c_none g t = 0 := (by unfold c_none; rw [if_pos hti, if_pos hha]); unfold A_drop; rw [if_neg (by omega), if_pos (by simpa using hCx.2)], hCx.1⟩) hP hD hS hxf (Nat.le_trans hz_8 hq9) hce hcv hcl (fun x hx9 => (htb x hx9).elim) hlocks (Nat.le_of_ble_eq_true rfl) (Nat.le_of_ble_eq_true rfl)
        · intro u_9 H locs hC hP hD hS
          have hu_9 : (!(m_hasobj g (t - 97))) = true := hC
          have hP : va_P E.1 CL (SW E o sc ar) H := hP
          have hD : va_D A (SW E o sc ar) := hD
          have hhno : (!(m_hasobj g (t - 97))) = true := by assumption
          refine lv_aload_n hx hb dX2_dropRecipe_26 rfl (lv_at hl 1 rfl) ?_
          refine va_get (D := E.1) (ci := 2) (v := .ref (o 1)) (C := RX2) (T := TX2) (N := 14) hx hb hts in_X2 hown hK.1 hP 0 rfl rfl 0 (by decide) (hts _ q188) (fun _ h9 => h9) rfl dX2_dropRecipe_27 ?_
          refine va_getN (D := E.1) (ci := 3) (v := .ref (o 2)) (C := RX3) (T := TX3) (N := 7) hx hb hts in_X3 hown hK.1 hP 1 rfl rfl 0 (by decide) (hK.nw q154) (fun _ h9 => h9) rfl dX2_dropRecipe_30 ?_
          refine lv_iload_n hx hb dX2_dropRecipe_33 rfl (lv_at hl 0 rfl) ?_
          refine lv_iconst (v := iI 0) hx hb dX2_dropRecipe_34 rfl ?_
          refine n_zast (f := ar 2) hx hb hK.1 hP hD hS 2 1 rfl rfl (by omega) (by decide) (by decide) dX2_dropRecipe_35 (ws2 := SW E o sc (ua ar 2 (ui (ar 2) (t - 97) 0))) rfl (fun H locs hP hD hS => ?_)
          have hz : c_none g t = 0 := by unfold c_none; rw [if_pos hti, if_pos hha]
          have hA : A_drop g t = .inr (.inr (m_recipes (s_drop g (t - 97)), s_drop g (t - 97))) := by unfold A_drop; rw [if_neg (by omega), if_neg (by simpa using hhno)]
          have hsr2 : SR (s_drop g (t - 97)) sc (ua ar 2 (ui (ar 2) (t - 97) 0)) := SR_drop hsr (by omega)
          have hbr2 := hsr2.br
          refine lv_aload_n hx hb dX2_dropRecipe_36 rfl (lv_at hl 1 rfl) ?_
          refine va_get (D := E.1) (ci := 2) (v := .ref (o 1)) (C := RX2) (T := TX2) (N := 14) hx hb hts in_X2 hown hK.1 hP 0 rfl rfl 0 (by decide) (hts _ q188) (fun _ h9 => h9) rfl dX2_dropRecipe_37 ?_
          refine n_csi (x := m_recipes (s_drop g (t - 97))) (va_runV (As := []) (rest := []) ⟨hx, hb, hml, hown, hts⟩ (mt_X3_count l E o sc (ua ar 2 (ui (ar 2) (t - 97) 0))  (s_drop g (t - 97)) (by assumption)) (cwV 0 hts (lw_V q918 q515 q516 q96 q517) rfl rfl rfl (by decide +kernel) ⟨Nat.le_of_ble_eq_true rfl, Nat.le_of_ble_eq_true rfl⟩) (PW_V (hP.sub (ws' := BW E o sc (ua ar 2 (ui (ar 2) (t - 97) 0))) [1, 2, 3, 4, 5, 6, 7, 8] rfl) hK (va_recv hK.1 hP (ci := 3) (q0 := 1) rfl rfl)) rfl rfl hl.1 rfl (lv_room (Nat.le_of_ble_eq_true rfl)) dX2_dropRecipe_40 ⟨Nat.le_of_ble_eq_true rfl, Nat.le_of_ble_eq_true rfl⟩) ?_
          have hfin : m_recipes (s_drop g (t - 97)) = rs_val 0 (A_drop g t) := by
            rw [hA]
            rfl
          refine vx_ret ?_
          refine W.widen (k := 3) (n := 18) (Nat.le_of_ble_eq_true rfl) (Nat.le_of_ble_eq_true rfl) ?_
          exact W.iret (v := iI (m_recipes (s_drop g (t - 97)))) hx hb hr (fun tt_ ht_ hW_ => ⟨⟨iI (m_recipes (s_drop g (t - 97))), (sc, (ua ar 2 (ui (ar 2) (t - 97) 0))), rfl, ⟨⟨⟨_, hA⟩, by rw [hA]; exact hsr2⟩, (congrArg iI hfin)⟩, by rw [ht_]; exact hP, hD⟩, hS.F ht_⟩) hS.2.2 dX2_dropRecipe_43
      refine lv_aload_n hx hb dX2_dropRecipe_10 rfl (lv_at hl 1 rfl) ?_
      refine lv_iload_n hx hb dX2_dropRecipe_11 rfl (lv_at hl 0 rfl) ?_
      refine n_csi (x := b2 (m_hasobj g (t - 97))) (va_runV (As := [iv (t - 97)]) (rest := []) ⟨hx, hb, hml, hown, hts⟩ (mt_X2_hasObjectOf l E o sc ar (t - 97) g (by omega) (by assumption) (by assumption)) (cwV 1 hts (lw_V q989 q991 qs18 q95 q992) rfl rfl rfl (by decide +kernel) ⟨Nat.le_of_ble_eq_true rfl, Nat.le_of_ble_eq_true rfl⟩) (PW_V hP hK (va_recv hK.1 hP (ci := 2) (q0 := 0) rfl rfl)) rfl rfl hl.1 rfl (lv_room (Nat.le_of_ble_eq_true rfl)) dX2_dropRecipe_12 ⟨Nat.le_of_ble_eq_true rfl, Nat.le_of_ble_eq_true rfl⟩) ?_
      refine n_ifb_ne (tgt := 22) hx hb dX2_dropRecipe_15 (by decide) (fun c_11 => ?_) (fun c_11 => ?_)
      · refine lv_iconst (v := iI 0) hx hb dX2_dropRecipe_22 rfl ?_
        refine n_top (y := b2 (!(m_hasobj g (t - 97)))) (by simp [c_11, b2_t, b2]) ?_
        exact j_7
      · refine lv_iconst (v := iI 1) hx hb dX2_dropRecipe_18 rfl ?_
        refine lv_goto (tgt := 23) hx hb dX2_dropRecipe_19 (by decide) ?_
        refine n_top (y := b2 (!(m_hasobj g (t - 97)))) (by simp [c_11, b2_t, b2]) ?_
        exact j_7
