set_option maxHeartbeats 2000000 in
set_option maxRecDepth 100000 in
theorem mt_X2_create (l : Launch) (E : EE) (d : Nat) (ihg : ∀ (o : Nat → Nat) (sc : Nat → Int) (ar : Nat → Int → Int) (t : Int) (th : Int) (G : Int → Int) (r : Int → Nat) (g : Int → Int) (f : Int → Int) (dp : Int) (nf : Int → Bool) (ht : 0 ≤ t ∧ t < 8) (hth : 0 ≤ th ∧ th ≤ 3) (hsg : SG G g f dp sc ar) (hte : TE G g) (htw : TW G) (hsw : SwOK G) (htm : TM G) (hhn : HN G) (hsc : SC G) (hrk : RK G r) (hd : r (m_stands G t) < d) (hdp : 0 ≤ dp ∧ dp + d ≤ 8) (how : OY g) (hrf : RF G th nf g) (hno : (m_cnt G th d t (nf, -1)).2.2 < 0) (hfit : (m_get G th d t dp (g, f)).2.1 1 ≤ 160) (sz : Nat), Met l yX2_get (ws_ yX2_get cX2_get 5 (some .int)) { frames := 3 + 2 * d, cells := 0, slots := 0, locals := 200 + 50 * d } (va_Pc [.ref (o 0), iv t, iv th] (UW E (SW E o sc ar) sz)) (UQx E (fun u : SU => SG G (m_get G th d t dp (g, f)).2.1 (m_get G th d t dp (g, f)).2.2 dp u.1 u.2) (fun u : SU => (m_get G th d t dp (g, f)).1) (fun u : SU => SW E o u.1 u.2) (va_A (SW E o sc ar) sz)) 0 0 (va_A (SW E o sc ar) sz)) (o : Nat → Nat) (sc : Nat → Int) (ar : Nat → Int → Int) (t9 : Int) (th : Int) (G : Int → Int) (r : Int → Nat) (g : Int → Int) (f : Int → Int) (dp : Int) (nf : Int → Bool) (ht9 : 0 ≤ t9 ∧ t9 < 8) (hth : 0 ≤ th ∧ th ≤ 3) (hha : m_has G t9 = true) (hsg : SG G g f dp sc ar) (hte : TE G g) (htw : TW G) (hsw : SwOK G) (htm : TM G) (hhn : HN G) (hsc : SC G) (hrk : RK G r) (hd : r t9 < d + 1) (hdp : 0 ≤ dp ∧ dp + d + 1 ≤ 8) (how : OY g) (hrf : RF G th nf g) (hno : (CZ G th d t9 nf (m_of G t9 2)).2.2 < 0) (hfit : (GZ G th d t9 dp (g, f) (m_of G t9 2)).1 1 ≤ 159) (sz : Nat) : Met l yX2_create (ws_ yX2_create cX2_create 7 (some .int)) { frames := 4 + 2 * d, cells := 0, slots := 0, locals := 224 + 50 * d } (va_Pc [.ref (o 0), iv t9, iv th] (UW E (SW E o sc ar) sz)) (UQx E (fun u : SU => SG G (m_cre G th d t9 dp (g, f)).2.1 (m_cre G th d t9 dp (g, f)).2.2 dp u.1 u.2) (fun u : SU => (m_cre G th d t9 dp (g, f)).1) (fun u : SU => SW E o u.1 u.2) (va_A (SW E o sc ar) sz)) 0 0 (va_A (SW E o sc ar) sz) := by
  refine Met.ofW (cc := cX2_create) (maxL := 7) (ret := (some .int)) (by decide) rfl ?_
  intro p e s m args below meth c s₁ B hml hv
  obtain ⟨rfl, hsz, hP, hK, hD0⟩ := hv
  have hx := B.exec
  have hb := B.bytes
  have hr := B.returns
  have hts := atoms_spec (ws := (ws_ yX2_create cX2_create 7 (some .int))) B.pre
  have hts : ∀ w ∈ lw_all, w.before _ s = true := fun w h => hts w (List.mem_cons_of_mem _ h)
  have hown : s.vm.findClass RX2 = some m.cls := findClass_of_methodNamed B.named
  have hlocks := B.notSynchronized
  subst hsz
  have hD := hD0.self (sz := s.heap.size)
  generalize hAe : va_A (SW E o sc ar) s.heap.size = A at hD ⊢
  have hA : ∀ q : Nat, s.heap.size ≤ q → A q := fun q h => by rw [← hAe]; exact Or.inr h
  have hS : va_S A s.heap s.heap [] := va_S.rf
  have hl := lv_entry ([.ref (o 0), iv t9, iv th]) (n := 7) (Nat.le_of_ble_eq_true rfl)
  rw [lg_entry_eq]
  generalize (lg_sl ([.ref (o 0), iv t9, iv th]) ++ List.replicate (7 - (lg_sl ([.ref (o 0), iv t9, iv th])).length) Slot.unset).toArray = ls at hl ⊢
  have hl : lv_has ls 7 [(0, .ref (o 0)), (1, iv t9), (2, iv th)] := hl
  have hbr := hsg.br
  have hn1 := hsg.n1
  have hnn := htw t9 ht9.1 ht9.2
  have hgi := gz_inv (f := f) (dp := dp) hrk htw hsw hth ht9 hdp.1 hd how hrf hno hfit
  refine lv_aload_n hx hb dX2_create_0 rfl (lv_at hl 0 rfl) ?_
  refine va_get (D := E.1) (ci := 2) (v := .ref (o 1)) (C := RX2) (T := TX2) (N := 14) hx hb hts in_X2 hown hK.1 hP 0 rfl rfl 0 (by decide) (hts _ q188) (fun _ h9 => h9) rfl dX2_create_1 ?_
  refine va_getN (D := E.1) (ci := 3) (v := .ref (o 5)) (C := RX3) (T := TX3) (N := 7) hx hb hts in_X3 hown hK.1 hP 1 rfl rfl 3 (by decide) (hK.nw q164) (fun _ h9 => h9) rfl dX2_create_4 ?_
  refine lv_iload_n hx hb dX2_create_7 rfl (lv_at hl 1 rfl) ?_
  refine n_iald (f := ar 5) hx hb hK.1 hP 5 0 rfl rfl (by omega) (by decide) dX2_create_8 ?_
  rw [hbr.cnt (t := t9) (by omega) (by first | assumption | exact HN_pos hhn (t := t9) (by omega) (by omega))]
  refine lv_istore_n (lv' := [(3, iv (m_of G t9 2)), (0, .ref (o 0)), (1, iv t9), (2, iv th)]) hx hb dX2_create_9 rfl hl (by decide) rfl (fun ls hl => ?_)
  refine lv_iconst (v := iI 3) hx hb dX2_create_10 rfl ?_
  refine lv_aload_n hx hb dX2_create_11 rfl (lv_at hl 1 rfl) ?_
  refine va_get (D := E.1) (ci := 2) (v := iv (sc 13)) (C := RX2) (T := TX2) (N := 14) hx hb hts in_X2 hown hK.1 hP 0 rfl rfl 13 (by decide) (hts _ q212) (fun _ h9 => h9) rfl dX2_create_12 ?_
  refine n_top (y := dp) (by exact hn1.2.2.2.2) ?_
  refine n_imul hx hb dX2_create_15 ?_
  refine lv_istore (lv' := [(4, iv (3 * dp)), (3, iv (m_of G t9 2)), (0, .ref (o 0)), (1, iv t9), (2, iv th)]) hx hb dX2_create_16 hl (by decide) rfl (fun ls hl => ?_)
  refine lv_aload_n hx hb dX2_create_18 rfl (lv_at hl 2 rfl) ?_
  refine lv_dup hx hb dX2_create_19 rfl ?_
  refine va_get (D := E.1) (ci := 2) (v := iv (sc 13)) (C := RX2) (T := TX2) (N := 14) hx hb hts in_X2 hown hK.1 hP 0 rfl rfl 13 (by decide) (hts _ q212) (fun _ h9 => h9) rfl dX2_create_20 ?_
  refine n_top (y := dp) (by exact hn1.2.2.2.2) ?_
  refine lv_iconst (v := iI 1) hx hb dX2_create_23 rfl ?_
  refine n_iadd hx hb dX2_create_24 ?_
  refine va_put (D := E.1) (ci := 2) (v := iv (dp + 1)) (ty := .int) (C := RX2) (T := TX2) (N := 14) hx hb hts in_X2 tyX2 tyX2_ok nmX2 hown hK.1 hP hD hS 0 rfl rfl 13 (by decide) (hts _ q212) (fun _ h9 => h9) rfl (by decide +kernel) rfl rfl (Nat.le_of_ble_eq_true rfl) dX2_create_25 (fun H locs hP hD hS => ?_)
  have hP : va_P E.1 CL (SW E o (us sc 13 (dp + 1)) ar) H := hP
  have hD : va_D A (SW E o (us sc 13 (dp + 1)) ar) := hD
  refine lv_iconst (v := iI 0) hx hb dX2_create_28 rfl ?_
  refine lv_istore (lv' := [(5, iv 0), (4, iv (3 * dp)), (3, iv (m_of G t9 2)), (0, .ref (o 0)), (1, iv t9), (2, iv th)]) hx hb dX2_create_29 hl (by decide) rfl (fun ls hl => ?_)
  have l31 : ∀ (fu : Nat) (x5 : Int) (scv : Nat → Int) (arv : Nat → Int → Int), (0 ≤ x5 ∧ x5 ≤ m_of G t9 2) → (SG G (GZ G th d t9 dp (g, f) x5).1 (GZ G th d t9 dp (g, f) x5).2 (dp + 1) scv arv) → (m_of G t9 2 - x5 < (fu : Int)) → ∀ (H : Heap) (locs : List Loc), va_P E.1 CL (SW E o scv arv) H → va_D A (SW E o scv arv) → va_S A s.heap H locs → ∀ ls : Array Slot, lv_has ls 7 [(5, iv x5), (4, iv (3 * dp)), (3, iv (m_of G t9 2)), (0, .ref (o 0)), (1, iv t9), (2, iv th)] → W p l e (headSpec (ws_ yX2_create cX2_create 7 (some .int)) { frames := 4 + 2 * d, cells := 0, slots := 0, locals := 224 + 50 * d }).room s m ([.ref (o 0), iv t9, iv th] : List Value).toArray below meth c H locs 0 0 (MQ below (UQx E (fun u : SU => SG G (m_cre G th d t9 dp (g, f)).2.1 (m_cre G th d t9 dp (g, f)).2.2 dp u.1 u.2) (fun u : SU => (m_cre G th d t9 dp (g, f)).1) (fun u : SU => SW E o u.1 u.2) A) ([.ref (o 0), iv t9, iv th] : List Value).toArray s 0 0 A) (F0 m 31 ls []) := by
    intro fu
    induction fu with
    | zero =>
      intro x5 scv arv il31_0 il31_1 hm
      exfalso; omega
    | succ fu ih =>
      intro x5 scv arv il31_0 il31_1 hm H locs hP hD hS ls hl
      have ihl31 := ih
      have hbr := il31_1.br
      obtain ⟨hg1, hg2, hg3, hg4⟩ := hgi x5 il31_0.1 il31_0.2
      have hg5 := hg2.1
      refine lv_iload hx hb dX2_create_31 (lv_at hl 0 rfl) ?_
      refine lv_iload_n hx hb dX2_create_33 rfl (lv_at hl 2 rfl) ?_
      have b_1 := htw t9 (by omega) (by omega)
      refine n_icmp_ge (tgt := 85) hx hb dX2_create_34 (by decide) (by omega) (by omega) (fun c_2 => ?_) (fun c_2 => ?_)
      · obtain rfl : x5 = m_of G t9 2 := by omega
        obtain ⟨gz, hgz⟩ : ∃ z : Int → Int, z = (GZ G th d t9 dp (g, f) (m_of G t9 2)).1 := ⟨_, rfl⟩
        obtain ⟨fz, hfz⟩ : ∃ z : Int → Int, z = (GZ G th d t9 dp (g, f) (m_of G t9 2)).2 := ⟨_, rfl⟩
        have hsz : SG G gz fz (dp + 1) scv arv := by rw [hgz, hfz]; exact il31_1
        have hzn := hsz.n1
        have hoz : OY gz := by rw [hgz]; exact hg1
        have hfz9 : gz 1 ≤ 159 := by rw [hgz]; exact hfit
        have hoz1 := hoz.1
        have hzn1 := hzn.1
        refine lv_aload_n hx hb dX2_create_85 rfl (lv_at hl 3 rfl) ?_
        refine lv_dup hx hb dX2_create_86 rfl ?_
        refine va_get (D := E.1) (ci := 2) (v := iv (scv 13)) (C := RX2) (T := TX2) (N := 14) hx hb hts in_X2 hown hK.1 hP 0 rfl rfl 13 (by decide) (hts _ q212) (fun _ h9 => h9) rfl dX2_create_87 ?_
        refine n_top (y := dp + 1) (by exact hzn.2.2.2.2) ?_
        refine lv_iconst (v := iI 1) hx hb dX2_create_90 rfl ?_
        refine n_isub hx hb dX2_create_91 ?_
        refine n_top (y := dp) (by omega) ?_
        refine va_put (D := E.1) (ci := 2) (v := iv dp) (ty := .int) (C := RX2) (T := TX2) (N := 14) hx hb hts in_X2 tyX2 tyX2_ok nmX2 hown hK.1 hP hD hS 0 rfl rfl 13 (by decide) (hts _ q212) (fun _ h9 => h9) rfl (by decide +kernel) rfl rfl (Nat.le_of_ble_eq_true rfl) dX2_create_92 (fun H locs hP hD hS => ?_)
        have hP : va_P E.1 CL (SW E o (us scv 13 dp) arv) H := hP
        have hD : va_D A (SW E o (us scv 13 dp) arv) := hD
        refine lv_aload_n hx hb dX2_create_95 rfl (lv_at hl 3 rfl) ?_
        refine va_get (D := E.1) (ci := 2) (v := iv (scv 2)) (C := RX2) (T := TX2) (N := 14) hx hb hts in_X2 hown hK.1 hP 0 rfl rfl 2 (by decide) (hts _ q193) (fun _ h9 => h9) rfl dX2_create_96 ?_
        refine n_top (y := gz 1) (by exact hzn.1) ?_
        refine lv_sipush (v := iI 160) hx hb dX2_create_99 (by decide) ?_
        refine n_icmp_ne (tgt := 109) hx hb dX2_create_102 (by decide) (by omega) (by omega) (fun c_3 => ?_) (fun c_3 => ?_)
        · refine lv_iconst (v := iI 0) hx hb dX2_create_109 rfl ?_
          refine lv_bipush (v := iI 6) hx hb dX2_create_110 (by decide) ?_
          refine lv_bipush (v := iI 60) hx hb dX2_create_112 (by decide) ?_
          refine n_csv ((va_runSN (As := [iv 0, iv 6, iv 60]) (rest := []) ⟨hx, hb, hml, hown, hts⟩ (mt_X1_refuseNo l E false 6 60 (by first | assumption | rfl)) ⟨(va_cnB 3 hts (lw_meth q814) rfl rfl rfl (hK.nv q812) (hts _ q94) (by decide +kernel) ⟨(show 0 + 1 ≤ 4 + 2 * d by omega), (show 8 + (3 + 11) + (0) ≤ 224 + 50 * d by omega)⟩), hts _ q813, trivial⟩ (PW_S (hP.sub (ws' := []) [] rfl) hK) rfl rfl hl.1 rfl (lv_room (Nat.le_of_ble_eq_true rfl)) dX2_create_114 ⟨Nat.le_of_ble_eq_true rfl, Nat.le_of_ble_eq_true rfl⟩).run) ?_
          refine lv_aload_n hx hb dX2_create_117 rfl (lv_at hl 3 rfl) ?_
          refine va_get (D := E.1) (ci := 2) (v := iv (scv 2)) (C := RX2) (T := TX2) (N := 14) hx hb hts in_X2 hown hK.1 hP 0 rfl rfl 2 (by decide) (hts _ q193) (fun _ h9 => h9) rfl dX2_create_118 ?_
          refine n_top (y := gz 1) (by exact hzn.1) ?_
          refine lv_istore (lv' := [(5, iv (gz 1)), (4, iv (3 * dp)), (3, iv (m_of G t9 2)), (0, .ref (o 0)), (1, iv t9), (2, iv th)]) hx hb dX2_create_121 hl (by decide) rfl (fun ls hl => ?_)
          refine lv_aload_n hx hb dX2_create_123 rfl (lv_at hl 3 rfl) ?_
          refine lv_dup hx hb dX2_create_124 rfl ?_
          refine va_get (D := E.1) (ci := 2) (v := iv (scv 2)) (C := RX2) (T := TX2) (N := 14) hx hb hts in_X2 hown hK.1 hP 0 rfl rfl 2 (by decide) (hts _ q193) (fun _ h9 => h9) rfl dX2_create_125 ?_
          refine n_top (y := gz 1) (by exact hzn.1) ?_
          refine lv_iconst (v := iI 1) hx hb dX2_create_128 rfl ?_
          refine n_iadd hx hb dX2_create_129 ?_
          refine va_put (D := E.1) (ci := 2) (v := iv ((gz 1) + 1)) (ty := .int) (C := RX2) (T := TX2) (N := 14) hx hb hts in_X2 tyX2 tyX2_ok nmX2 hown hK.1 hP hD hS 0 rfl rfl 2 (by decide) (hts _ q193) (fun _ h9 => h9) rfl (by decide +kernel) rfl rfl (Nat.le_of_ble_eq_true rfl) dX2_create_130 (fun H locs hP hD hS => ?_)
          have hP : va_P E.1 CL (SW E o (us (us scv 2 ((gz 1) + 1)) 13 dp) arv) H := hP
          have hD : va_D A (SW E o (us (us scv 2 ((gz 1) + 1)) 13 dp) arv) := hD
          refine lv_aload_n hx hb dX2_create_133 rfl (lv_at hl 3 rfl) ?_
          refine va_get (D := E.1) (ci := 2) (v := .ref (o 10)) (C := RX2) (T := TX2) (N := 14) hx hb hts in_X2 hown hK.1 hP 0 rfl rfl 3 (by decide) (hts _ q195) (fun _ h9 => h9) rfl dX2_create_134 ?_
          refine lv_iload hx hb dX2_create_137 (lv_at hl 0 rfl) ?_
          refine lv_iload_n hx hb dX2_create_139 rfl (lv_at hl 4 rfl) ?_
          refine n_iast (f := arv 10) hx hb hK.1 hP hD hS 10 0 rfl rfl (by omega) (by decide) dX2_create_140 (ws2 := SW E o (us (us scv 2 ((gz 1) + 1)) 13 dp) (ua arv 10 (ui (arv 10) (gz 1) t9))) rfl (fun H locs hP hD hS => ?_)
          refine lv_aload_n hx hb dX2_create_141 rfl (lv_at hl 3 rfl) ?_
          refine va_get (D := E.1) (ci := 2) (v := .ref (o 11)) (C := RX2) (T := TX2) (N := 14) hx hb hts in_X2 hown hK.1 hP 0 rfl rfl 4 (by decide) (hts _ q197) (fun _ h9 => h9) rfl dX2_create_142 ?_
          refine lv_iload hx hb dX2_create_145 (lv_at hl 0 rfl) ?_
          refine lv_iload_n hx hb dX2_create_147 rfl (lv_at hl 5 rfl) ?_
          refine n_iast (f := arv 11) hx hb hK.1 hP hD hS 11 0 rfl rfl (by omega) (by decide) dX2_create_148 (ws2 := SW E o (us (us scv 2 ((gz 1) + 1)) 13 dp) (ua (ua arv 10 (ui (arv 10) (gz 1) t9)) 11 (ui (arv 11) (gz 1) th))) rfl (fun H locs hP hD hS => ?_)
          refine lv_aload_n hx hb dX2_create_149 rfl (lv_at hl 3 rfl) ?_
          refine va_get (D := E.1) (ci := 2) (v := .ref (o 12)) (C := RX2) (T := TX2) (N := 14) hx hb hts in_X2 hown hK.1 hP 0 rfl rfl 5 (by decide) (hts _ q199) (fun _ h9 => h9) rfl dX2_create_150 ?_
          refine lv_iload hx hb dX2_create_153 (lv_at hl 0 rfl) ?_
          refine lv_iconst (v := iI 1) hx hb dX2_create_155 rfl ?_
          refine n_zast (f := arv 12) hx hb hK.1 hP hD hS 12 1 rfl rfl (by omega) (by decide) (by decide) dX2_create_156 (ws2 := SW E o (us (us scv 2 ((gz 1) + 1)) 13 dp) (ua (ua (ua arv 10 (ui (arv 10) (gz 1) t9)) 11 (ui (arv 11) (gz 1) th)) 12 (ui (arv 12) (gz 1) 1))) rfl (fun H locs hP hD hS => ?_)
          refine lv_aload_n hx hb dX2_create_157 rfl (lv_at hl 3 rfl) ?_
          refine va_get (D := E.1) (ci := 2) (v := .ref (o 13)) (C := RX2) (T := TX2) (N := 14) hx hb hts in_X2 hown hK.1 hP 0 rfl rfl 6 (by decide) (hts _ q201) (fun _ h9 => h9) rfl dX2_create_158 ?_
          refine lv_iload hx hb dX2_create_161 (lv_at hl 0 rfl) ?_
          refine lv_iload_n hx hb dX2_create_163 rfl (lv_at hl 2 rfl) ?_
          refine n_iast (f := arv 13) hx hb hK.1 hP hD hS 13 0 rfl rfl (by omega) (by decide) dX2_create_164 (ws2 := SW E o (us (us scv 2 ((gz 1) + 1)) 13 dp) (ua (ua (ua (ua arv 10 (ui (arv 10) (gz 1) t9)) 11 (ui (arv 11) (gz 1) th)) 12 (ui (arv 12) (gz 1) 1)) 13 (ui (arv 13) (gz 1) (m_of G t9 2)))) rfl (fun H locs hP hD hS => ?_)
          refine lv_iconst (v := iI 0) hx hb dX2_create_165 rfl ?_
          refine lv_istore (lv' := [(6, iv 0), (5, iv (gz 1)), (4, iv (3 * dp)), (3, iv (m_of G t9 2)), (0, .ref (o 0)), (1, iv t9), (2, iv th)]) hx hb dX2_create_166 hl (by decide) rfl (fun ls hl => ?_)
          have l168 : ∀ (fu : Nat) (x6 : Int) (nv : Int → Int) (fv : Int → Int), (0 ≤ x6 ∧ x6 ≤ m_of G t9 2) → (∀ x, nv x = fil3 (arv 14) (gz 1) x6 (m_need G t9) x) → (∀ x, fv x = fil3 (arv 15) (gz 1) x6 (fun x => arv 16 (3 * dp + x)) x) → (m_of G t9 2 - x6 < (fu : Int)) → ∀ (H : Heap) (locs : List Loc), va_P E.1 CL (SW E o (us (us scv 2 ((gz 1) + 1)) 13 dp) (ua (ua (ua (ua (ua (ua arv 10 (ui (arv 10) (gz 1) t9)) 11 (ui (arv 11) (gz 1) th)) 12 (ui (arv 12) (gz 1) 1)) 13 (ui (arv 13) (gz 1) (m_of G t9 2))) 14 nv) 15 fv)) H → va_D A (SW E o (us (us scv 2 ((gz 1) + 1)) 13 dp) (ua (ua (ua (ua (ua (ua arv 10 (ui (arv 10) (gz 1) t9)) 11 (ui (arv 11) (gz 1) th)) 12 (ui (arv 12) (gz 1) 1)) 13 (ui (arv 13) (gz 1) (m_of G t9 2))) 14 nv) 15 fv)) → va_S A s.heap H locs → ∀ ls : Array Slot, lv_has ls 7 [(6, iv x6), (5, iv (gz 1)), (4, iv (3 * dp)), (3, iv (m_of G t9 2)), (0, .ref (o 0)), (1, iv t9), (2, iv th)] → W p l e (headSpec (ws_ yX2_create cX2_create 7 (some .int)) { frames := 4 + 2 * d, cells := 0, slots := 0, locals := 224 + 50 * d }).room s m ([.ref (o 0), iv t9, iv th] : List Value).toArray below meth c H locs 0 0 (MQ below (UQx E (fun u : SU => SG G (m_cre G th d t9 dp (g, f)).2.1 (m_cre G th d t9 dp (g, f)).2.2 dp u.1 u.2) (fun u : SU => (m_cre G th d t9 dp (g, f)).1) (fun u : SU => SW E o u.1 u.2) A) ([.ref (o 0), iv t9, iv th] : List Value).toArray s 0 0 A) (F0 m 168 ls []) := by
            intro fu
            induction fu with
            | zero =>
              intro x6 nv fv il168_0 il168_1 il168_2 hm
              exfalso; omega
            | succ fu ih =>
              intro x6 nv fv il168_0 il168_1 il168_2 hm H locs hP hD hS ls hl
              have ihl168 := ih
              refine lv_iload hx hb dX2_create_168 (lv_at hl 0 rfl) ?_
              refine lv_iload_n hx hb dX2_create_170 rfl (lv_at hl 3 rfl) ?_
              refine n_icmp_ge (tgt := 224) hx hb dX2_create_171 (by decide) (by omega) (by omega) (fun c_4 => ?_) (fun c_4 => ?_)
              · obtain rfl : x6 = m_of G t9 2 := by omega
                have hn14 : nv = fil3 (arv 14) (gz 1) (m_of G t9 2) (m_need G t9) := funext il168_1
                have hn15 : fv = fil3 (arv 15) (gz 1) (m_of G t9 2) (fun x => arv 16 (3 * dp + x)) := funext il168_2
                refine lv_aload_n hx hb dX2_create_224 rfl (lv_at hl 4 rfl) ?_
                refine lv_dup hx hb dX2_create_225 rfl ?_
                refine va_get (D := E.1) (ci := 2) (v := jv (scv 11)) (C := RX2) (T := TX2) (N := 14) hx hb hts in_X2 hown hK.1 hP 0 rfl rfl 11 (by decide) (hts _ q209) (fun _ h9 => h9) rfl dX2_create_226 ?_
                refine lv_aload_n hx hb dX2_create_229 rfl (lv_at hl 4 rfl) ?_
                refine va_get (D := E.1) (ci := 2) (v := .ref (o 1)) (C := RX2) (T := TX2) (N := 14) hx hb hts in_X2 hown hK.1 hP 0 rfl rfl 0 (by decide) (hts _ q188) (fun _ h9 => h9) rfl dX2_create_230 ?_
                refine va_getN (D := E.1) (ci := 3) (v := .ref (o 4)) (C := RX3) (T := TX3) (N := 7) hx hb hts in_X3 hown hK.1 hP 1 rfl rfl 2 (by decide) (hK.nw q161) (fun _ h9 => h9) rfl dX2_create_233 ?_
                refine lv_iload_n hx hb dX2_create_236 rfl (lv_at hl 5 rfl) ?_
                refine n_iald (f := arv 4) hx hb hK.1 hP 4 0 rfl rfl (by omega) (by decide) dX2_create_237 ?_
                rw [hbr.mns (t := t9) (by omega) (by first | assumption | exact HN_pos hhn (t := t9) (by omega) (by omega))]
                have b_5 := htm t9 (by omega) (by omega)
                refine lv_i2l (v := lI (m_of G t9 1)) hx hb dX2_create_238 (iI_l (by omega)) ?_
                refine n_ladd hx hb dX2_create_239 ?_
                refine va_put (D := E.1) (ci := 2) (v := jv ((scv 11) + (m_of G t9 1))) (ty := .long) (C := RX2) (T := TX2) (N := 14) hx hb hts in_X2 tyX2 tyX2_ok nmX2 hown hK.1 hP hD hS 0 rfl rfl 11 (by decide) (hts _ q209) (fun _ h9 => h9) rfl (by decide +kernel) rfl rfl (Nat.le_of_ble_eq_true rfl) dX2_create_240 (fun H locs hP hD hS => ?_)
                have hP : va_P E.1 CL (SW E o (us (us (us scv 2 ((gz 1) + 1)) 11 ((scv 11) + (m_of G t9 1))) 13 dp) (ua (ua (ua (ua (ua (ua arv 10 (ui (arv 10) (gz 1) t9)) 11 (ui (arv 11) (gz 1) th)) 12 (ui (arv 12) (gz 1) 1)) 13 (ui (arv 13) (gz 1) (m_of G t9 2))) 14 nv) 15 fv)) H := hP
                have hD : va_D A (SW E o (us (us (us scv 2 ((gz 1) + 1)) 11 ((scv 11) + (m_of G t9 1))) 13 dp) (ua (ua (ua (ua (ua (ua arv 10 (ui (arv 10) (gz 1) t9)) 11 (ui (arv 11) (gz 1) th)) 12 (ui (arv 12) (gz 1) 1)) 13 (ui (arv 13) (gz 1) (m_of G t9 2))) 14 nv) 15 fv)) := hD
                have hsr2 : SG G (m_cre G th d t9 dp (g, f)).2.1 (m_cre G th d t9 dp (g, f)).2.2 dp (us (us (us scv 2 ((gz 1) + 1)) 11 ((scv 11) + (m_of G t9 1))) 13 dp) (ua (ua (ua (ua (ua (ua arv 10 (ui (arv 10) (gz 1) t9)) 11 (ui (arv 11) (gz 1) th)) 12 (ui (arv 12) (gz 1) 1)) 13 (ui (arv 13) (gz 1) (m_of G t9 2))) 14 nv) 15 fv) := by
                  unfold m_cre
                  rw [← hgz, ← hfz, hn14, hn15, hzn.2.2.2.1]
                  exact SG_put (SG_dep hsz dp) hnn hoz1 (by omega)
                refine lv_iload hx hb dX2_create_243 (lv_at hl 1 rfl) ?_
                have hfin : gz 1 = (m_cre G th d t9 dp (g, f)).1 := by
                  unfold m_cre
                  rw [hgz]
                exact W.iret (v := iI (gz 1)) hx hb hr (fun tt_ ht_ hW_ => ⟨⟨iI (gz 1), ((us (us (us scv 2 ((gz 1) + 1)) 11 ((scv 11) + (m_of G t9 1))) 13 dp), (ua (ua (ua (ua (ua (ua arv 10 (ui (arv 10) (gz 1) t9)) 11 (ui (arv 11) (gz 1) th)) 12 (ui (arv 12) (gz 1) 1)) 13 (ui (arv 13) (gz 1) (m_of G t9 2))) 14 nv) 15 fv)), rfl, ⟨hsr2, (congrArg iI hfin)⟩, by rw [ht_]; exact hP, hD⟩, hS.F ht_⟩) hS.2.2 dX2_create_245
              · refine lv_aload_n hx hb dX2_create_174 rfl (lv_at hl 4 rfl) ?_
                refine va_get (D := E.1) (ci := 2) (v := .ref (o 14)) (C := RX2) (T := TX2) (N := 14) hx hb hts in_X2 hown hK.1 hP 0 rfl rfl 7 (by decide) (hts _ q202) (fun _ h9 => h9) rfl dX2_create_175 ?_
                refine lv_iconst (v := iI 3) hx hb dX2_create_178 rfl ?_
                refine lv_iload hx hb dX2_create_179 (lv_at hl 1 rfl) ?_
                refine n_imul hx hb dX2_create_181 ?_
                refine lv_iload hx hb dX2_create_182 (lv_at hl 0 rfl) ?_
                refine n_iadd hx hb dX2_create_184 ?_
                refine lv_aload_n hx hb dX2_create_185 rfl (lv_at hl 4 rfl) ?_
                refine va_get (D := E.1) (ci := 2) (v := .ref (o 1)) (C := RX2) (T := TX2) (N := 14) hx hb hts in_X2 hown hK.1 hP 0 rfl rfl 0 (by decide) (hts _ q188) (fun _ h9 => h9) rfl dX2_create_186 ?_
                refine lv_iload_n hx hb dX2_create_189 rfl (lv_at hl 5 rfl) ?_
                refine lv_iload hx hb dX2_create_190 (lv_at hl 0 rfl) ?_
                refine n_csi (x := m_need G t9 x6) (va_runV (As := [iv t9, iv x6]) (rest := [iv ((3 * (gz 1)) + x6), .ref (o 14)]) ⟨hx, hb, hml, hown, hts⟩ (mt_X3_need l E o (us (us scv 2 ((gz 1) + 1)) 13 dp) (ua (ua (ua (ua (ua (ua arv 10 (ui (arv 10) (gz 1) t9)) 11 (ui (arv 11) (gz 1) th)) 12 (ui (arv 12) (gz 1) 1)) 13 (ui (arv 13) (gz 1) (m_of G t9 2))) 14 nv) 15 fv) t9 x6 G (by omega) (by exact hbr) (by first | assumption | exact HN_pos hhn (t := t9) (by omega) (by omega)) (by omega) (by assumption)) (cwV 2 hts (lw_V q853 q542 q543 q96 q544) rfl rfl rfl (by decide +kernel) ⟨(show 0 + 1 ≤ 4 + 2 * d by omega), (show 8 + (3 + 11) + (0) ≤ 224 + 50 * d by omega)⟩) (PW_V (hP.sub (ws' := BW E o (us (us scv 2 ((gz 1) + 1)) 13 dp) (ua (ua (ua (ua (ua (ua arv 10 (ui (arv 10) (gz 1) t9)) 11 (ui (arv 11) (gz 1) th)) 12 (ui (arv 12) (gz 1) 1)) 13 (ui (arv 13) (gz 1) (m_of G t9 2))) 14 nv) 15 fv)) [1, 2, 3, 4, 5, 6, 7, 8] rfl) hK (va_recv hK.1 hP (ci := 3) (q0 := 1) rfl rfl)) rfl rfl hl.1 rfl (lv_room (Nat.le_of_ble_eq_true rfl)) dX2_create_192 ⟨Nat.le_of_ble_eq_true rfl, Nat.le_of_ble_eq_true rfl⟩) ?_
                have b_6 := m_need_r G t9 x6
                refine n_iast (f := nv) hx hb hK.1 hP hD hS 14 0 rfl rfl (by omega) (by decide) dX2_create_195 (ws2 := SW E o (us (us scv 2 ((gz 1) + 1)) 13 dp) (ua (ua (ua (ua (ua (ua arv 10 (ui (arv 10) (gz 1) t9)) 11 (ui (arv 11) (gz 1) th)) 12 (ui (arv 12) (gz 1) 1)) 13 (ui (arv 13) (gz 1) (m_of G t9 2))) 14 (ui nv ((3 * (gz 1)) + x6) (m_need G t9 x6))) 15 fv)) rfl (fun H locs hP hD hS => ?_)
                refine lv_aload_n hx hb dX2_create_196 rfl (lv_at hl 4 rfl) ?_
                refine va_get (D := E.1) (ci := 2) (v := .ref (o 15)) (C := RX2) (T := TX2) (N := 14) hx hb hts in_X2 hown hK.1 hP 0 rfl rfl 8 (by decide) (hts _ q203) (fun _ h9 => h9) rfl dX2_create_197 ?_
                refine lv_iconst (v := iI 3) hx hb dX2_create_200 rfl ?_
                refine lv_iload hx hb dX2_create_201 (lv_at hl 1 rfl) ?_
                refine n_imul hx hb dX2_create_203 ?_
                refine lv_iload hx hb dX2_create_204 (lv_at hl 0 rfl) ?_
                refine n_iadd hx hb dX2_create_206 ?_
                refine lv_aload_n hx hb dX2_create_207 rfl (lv_at hl 4 rfl) ?_
                refine va_get (D := E.1) (ci := 2) (v := .ref (o 16)) (C := RX2) (T := TX2) (N := 14) hx hb hts in_X2 hown hK.1 hP 0 rfl rfl 12 (by decide) (hts _ q211) (fun _ h9 => h9) rfl dX2_create_208 ?_
                refine lv_iload hx hb dX2_create_211 (lv_at hl 2 rfl) ?_
                refine lv_iload hx hb dX2_create_213 (lv_at hl 0 rfl) ?_
                refine n_iadd hx hb dX2_create_215 ?_
                refine n_iald (f := arv 16) hx hb hK.1 hP 16 0 rfl rfl (by omega) (by decide) dX2_create_216 ?_
                refine n_iast (f := fv) hx hb hK.1 hP hD hS 15 0 rfl rfl (by omega) (by decide) dX2_create_217 (ws2 := SW E o (us (us scv 2 ((gz 1) + 1)) 13 dp) (ua (ua (ua (ua (ua (ua arv 10 (ui (arv 10) (gz 1) t9)) 11 (ui (arv 11) (gz 1) th)) 12 (ui (arv 12) (gz 1) 1)) 13 (ui (arv 13) (gz 1) (m_of G t9 2))) 14 (ui nv ((3 * (gz 1)) + x6) (m_need G t9 x6))) 15 (ui fv ((3 * (gz 1)) + x6) (arv 16 ((3 * dp) + x6))))) rfl (fun H locs hP hD hS => ?_)
                refine lv_iinc (v := iI (x6 + 1)) (lv' := [(6, iv (x6 + 1)), (5, iv (gz 1)), (4, iv (3 * dp)), (3, iv (m_of G t9 2)), (0, .ref (o 0)), (1, iv t9), (2, iv th)]) hx hb dX2_create_218 hl (k := 0) rfl (iI_add _ _) (by decide) rfl (fun ls hl => ?_)
                refine lv_goto (tgt := 168) hx hb dX2_create_221 (by decide) ?_
                exact ihl168 (x6 + 1) (ui nv ((3 * (gz 1)) + x6) (m_need G t9 x6)) (ui fv ((3 * (gz 1)) + x6) (arv 16 ((3 * dp) + x6))) (by first | omega | rfl) (by intro x; show ui nv (3 * gz 1 + x6) _ x = _; have q1 := il168_1 x; unfold ui; unfold fil3 at q1 ⊢; by_cases hx : x = 3 * gz 1 + x6; (rw [if_pos hx, if_pos (by omega), hx, show 3 * gz 1 + x6 - 3 * gz 1 = x6 by omega]); (rw [if_neg hx, q1]; by_cases hy : 3 * gz 1 ≤ x ∧ x < 3 * gz 1 + x6; (rw [if_pos hy, if_pos (by omega)]); (rw [if_neg hy, if_neg (by omega)]))) (by intro x; show ui fv (3 * gz 1 + x6) _ x = _; have q1 := il168_2 x; unfold ui; unfold fil3 at q1 ⊢; by_cases hx : x = 3 * gz 1 + x6; (rw [if_pos hx, if_pos (by omega), hx, show 3 * gz 1 + x6 - 3 * gz 1 = x6 by omega]); (rw [if_neg hx, q1]; by_cases hy : 3 * gz 1 ≤ x ∧ x < 3 * gz 1 + x6; (rw [if_pos hy, if_pos (by omega)]); (rw [if_neg hy, if_neg (by omega)]))) (by omega) H locs hP hD hS ls (lv_sub hl [0, 1, 2, 3, 4, 5, 6] rfl)
          exact l168 4 0 (arv 14) (arv 15) (by first | omega | rfl | trivial) (by intro x; unfold fil3; rw [if_neg (by omega)]) (by intro x; unfold fil3; rw [if_neg (by omega)]) (by omega) H locs hP hD hS ls hl
        · exfalso; omega
      · refine lv_aload_n hx hb dX2_create_37 rfl (lv_at hl 3 rfl) ?_
        refine va_get (D := E.1) (ci := 2) (v := .ref (o 16)) (C := RX2) (T := TX2) (N := 14) hx hb hts in_X2 hown hK.1 hP 0 rfl rfl 12 (by decide) (hts _ q211) (fun _ h9 => h9) rfl dX2_create_38 ?_
        refine lv_iload hx hb dX2_create_41 (lv_at hl 1 rfl) ?_
        refine lv_iload hx hb dX2_create_43 (lv_at hl 0 rfl) ?_
        refine n_iadd hx hb dX2_create_45 ?_
        refine lv_aload_n hx hb dX2_create_46 rfl (lv_at hl 3 rfl) ?_
        refine va_get (D := E.1) (ci := 2) (v := .ref (o 1)) (C := RX2) (T := TX2) (N := 14) hx hb hts in_X2 hown hK.1 hP 0 rfl rfl 0 (by decide) (hts _ q188) (fun _ h9 => h9) rfl dX2_create_47 ?_
        refine lv_iload_n hx hb dX2_create_50 rfl (lv_at hl 4 rfl) ?_
        refine lv_iload hx hb dX2_create_51 (lv_at hl 0 rfl) ?_
        refine n_csi (x := b2 (!(m_dir G t9 x5))) (va_runV (As := [iv t9, iv x5]) (rest := [iv ((3 * dp) + x5), .ref (o 16)]) ⟨hx, hb, hml, hown, hts⟩ (mt_X3_isLazy l E o scv arv t9 x5 G (by omega) (by exact hbr) (by first | assumption | exact HN_pos hhn (t := t9) (by omega) (by omega)) (by omega) (by assumption)) (cwV 2 hts (lw_V q852 q550 q551 q96 q552) rfl rfl rfl (by decide +kernel) ⟨(show 0 + 1 ≤ 4 + 2 * d by omega), (show 8 + (3 + 11) + (0) ≤ 224 + 50 * d by omega)⟩) (PW_V (hP.sub (ws' := BW E o scv arv) [1, 2, 3, 4, 5, 6, 7, 8] rfl) hK (va_recv hK.1 hP (ci := 3) (q0 := 1) rfl rfl)) rfl rfl hl.1 rfl (lv_room (Nat.le_of_ble_eq_true rfl)) dX2_create_53 ⟨Nat.le_of_ble_eq_true rfl, Nat.le_of_ble_eq_true rfl⟩) ?_
        refine n_ifb_eq (tgt := 63) hx hb dX2_create_56 (by decide) (fun c_7 => ?_) (fun c_7 => ?_)
        · have hdir : m_dir G t9 x5 = true := by simpa using c_7
          have hgs := hg4 (by omega) hdir
          have hgs1 := hgs.1
          have hgs2 := hgs.2.1
          have hgs3 := hgs.2.2
          refine lv_aload_n hx hb dX2_create_63 rfl (lv_at hl 3 rfl) ?_
          refine lv_aload_n hx hb dX2_create_64 rfl (lv_at hl 3 rfl) ?_
          refine va_get (D := E.1) (ci := 2) (v := .ref (o 1)) (C := RX2) (T := TX2) (N := 14) hx hb hts in_X2 hown hK.1 hP 0 rfl rfl 0 (by decide) (hts _ q188) (fun _ h9 => h9) rfl dX2_create_65 ?_
          refine lv_iload_n hx hb dX2_create_68 rfl (lv_at hl 4 rfl) ?_
          refine lv_iload hx hb dX2_create_69 (lv_at hl 0 rfl) ?_
          refine n_csi (x := m_need G t9 x5) (va_runV (As := [iv t9, iv x5]) (rest := [.ref (o 0), iv ((3 * dp) + x5), .ref (o 16)]) ⟨hx, hb, hml, hown, hts⟩ (mt_X3_need l E o scv arv t9 x5 G (by omega) (by exact hbr) (by first | assumption | exact HN_pos hhn (t := t9) (by omega) (by omega)) (by omega) (by assumption)) (cwV 2 hts (lw_V q853 q542 q543 q96 q544) rfl rfl rfl (by decide +kernel) ⟨(show 0 + 1 ≤ 4 + 2 * d by omega), (show 8 + (3 + 11) + (0) ≤ 224 + 50 * d by omega)⟩) (PW_V (hP.sub (ws' := BW E o scv arv) [1, 2, 3, 4, 5, 6, 7, 8] rfl) hK (va_recv hK.1 hP (ci := 3) (q0 := 1) rfl rfl)) rfl rfl hl.1 rfl (lv_room (Nat.le_of_ble_eq_true rfl)) dX2_create_71 ⟨Nat.le_of_ble_eq_true rfl, Nat.le_of_ble_eq_true rfl⟩) ?_
          refine lv_iload_n hx hb dX2_create_74 rfl (lv_at hl 5 rfl) ?_
          have b_8 := m_need_r G t9 x5
          refine n_cuxS (x := fun u_9 => (m_get G th d (m_need G t9 x5) (dp + 1) (((GZ G th d t9 dp (g, f) x5).1), ((GZ G th d t9 dp (g, f) x5).2))).1) (w2 := fun u_9 => SW E o u_9.1 u_9.2) (va_runV (As := [iv (m_need G t9 x5), iv th]) (rest := [iv ((3 * dp) + x5), .ref (o 16)]) ⟨hx, hb, hml, hown, hts⟩ (ihg o scv arv (m_need G t9 x5) th G r ((GZ G th d t9 dp (g, f) x5).1) ((GZ G th d t9 dp (g, f) x5).2) (dp + 1) ((CZ G th d t9 nf x5).2.1) (by omega) (by omega) (by assumption) (by exact hg5) (by assumption) (by assumption) (by assumption) (by assumption) (by assumption) (by assumption) (by exact hgs3) (by omega) (by assumption) (by assumption) (by exact hgs1) (by exact hgs2) _) (cwV 2 hts (lw_V q807 q809 qs14 q95 q810) rfl rfl rfl (by decide +kernel) ⟨(show 3 + 2 * d + 1 ≤ 4 + 2 * d by omega), (show 8 + (5 + 11) + (200 + 50 * d) ≤ 224 + 50 * d by omega)⟩) (UW_V hP hK (hD) (va_recv hK.1 hP (ci := 2) (q0 := 0) rfl rfl)) rfl rfl hl.1 rfl (lv_room (Nat.le_of_ble_eq_true rfl)) dX2_create_75 ⟨Nat.le_of_ble_eq_true rfl, Nat.le_of_ble_eq_true rfl⟩) hP hD hS hA [0, 1, 2, 3, 4, 5, 6, 7, 8, 9, 10, 11, 12, 13, 14, 15, 16] [] [0, 1, 2, 3, 4, 5, 6, 7, 8, 9, 10, 11, 12, 13, 14, 15, 16] rfl rfl rfl rfl rfl (fun _ => rfl) (fun u_9 H locs hu_9 hP hD hS => ?_)
          have hu_9 : SG G (m_get G th d (m_need G t9 x5) (dp + 1) (((GZ G th d t9 dp (g, f) x5).1), ((GZ G th d t9 dp (g, f) x5).2))).2.1 (m_get G th d (m_need G t9 x5) (dp + 1) (((GZ G th d t9 dp (g, f) x5).1), ((GZ G th d t9 dp (g, f) x5).2))).2.2 (dp + 1) u_9.1 u_9.2 := hu_9
          have hP : va_P E.1 CL (SW E o u_9.1 u_9.2) H := hP
          have hD : va_D A (SW E o u_9.1 u_9.2) := hD
          refine n_iast (f := u_9.2 16) hx hb hK.1 hP hD hS 16 0 rfl rfl (by omega) (by decide) dX2_create_78 (ws2 := SW E o u_9.1 (ua u_9.2 16 (ui (u_9.2 16) ((3 * dp) + x5) ((m_get G th d (m_need G t9 x5) (dp + 1) (((GZ G th d t9 dp (g, f) x5).1), ((GZ G th d t9 dp (g, f) x5).2))).1)))) rfl (fun H locs hP hD hS => ?_)
          have hs2 : SG G (GZ G th d t9 dp (g, f) (x5 + 1)).1 (GZ G th d t9 dp (g, f) (x5 + 1)).2 (dp + 1) u_9.1 (ua u_9.2 16 (ui (u_9.2 16) ((3 * dp) + x5) ((m_get G th d (m_need G t9 x5) (dp + 1) (((GZ G th d t9 dp (g, f) x5).1), ((GZ G th d t9 dp (g, f) x5).2))).1))) := by
            rw [show (GZ G th d t9 dp (g, f) (x5 + 1)) = m_getF G th d t9 dp x5 (GZ G th d t9 dp (g, f) x5) from itI_s (by omega), getF_pos hdir]
            exact SG_pend hu_9 (3 * dp + x5) _
          refine lv_iinc (v := iI (x5 + 1)) (lv' := [(5, iv (x5 + 1)), (4, iv (3 * dp)), (3, iv (m_of G t9 2)), (0, .ref (o 0)), (1, iv t9), (2, iv th)]) hx hb dX2_create_79 hl (k := 0) rfl (iI_add _ _) (by decide) rfl (fun ls hl => ?_)
          refine lv_goto (tgt := 31) hx hb dX2_create_82 (by decide) ?_
          exact ihl31 (x5 + 1) u_9.1 (ua u_9.2 16 (ui (u_9.2 16) ((3 * dp) + x5) ((m_get G th d (m_need G t9 x5) (dp + 1) (((GZ G th d t9 dp (g, f) x5).1), ((GZ G th d t9 dp (g, f) x5).2))).1))) (by first | omega | rfl) (by exact hs2) (by omega) H locs hP hD hS ls (lv_sub hl [0, 1, 2, 3, 4, 5] rfl)
        · have hdir : m_dir G t9 x5 = false := by simpa using c_7
          refine lv_iconst (v := iI (-1)) hx hb dX2_create_59 rfl ?_
          refine lv_goto (tgt := 78) hx hb dX2_create_60 (by decide) ?_
          refine n_iast (f := arv 16) hx hb hK.1 hP hD hS 16 0 rfl rfl (by omega) (by decide) dX2_create_78 (ws2 := SW E o scv (ua arv 16 (ui (arv 16) ((3 * dp) + x5) (-1)))) rfl (fun H locs hP hD hS => ?_)
          have hs2 : SG G (GZ G th d t9 dp (g, f) (x5 + 1)).1 (GZ G th d t9 dp (g, f) (x5 + 1)).2 (dp + 1) scv (ua arv 16 (ui (arv 16) ((3 * dp) + x5) (-1))) := by
            rw [show (GZ G th d t9 dp (g, f) (x5 + 1)) = m_getF G th d t9 dp x5 (GZ G th d t9 dp (g, f) x5) from itI_s (by omega), getF_neg (by rw [hdir]; decide)]
            exact SG_pend il31_1 (3 * dp + x5) (-1)
          refine lv_iinc (v := iI (x5 + 1)) (lv' := [(5, iv (x5 + 1)), (4, iv (3 * dp)), (3, iv (m_of G t9 2)), (0, .ref (o 0)), (1, iv t9), (2, iv th)]) hx hb dX2_create_79 hl (k := 0) rfl (iI_add _ _) (by decide) rfl (fun ls hl => ?_)
          refine lv_goto (tgt := 31) hx hb dX2_create_82 (by decide) ?_
          exact ihl31 (x5 + 1) scv (ua arv 16 (ui (arv 16) ((3 * dp) + x5) (-1))) (by first | omega | rfl) (by exact hs2) (by omega) H locs hP hD hS ls (lv_sub hl [0, 1, 2, 3, 4, 5] rfl)
  exact l31 4 0 (us sc 13 (dp + 1)) ar (by first | omega | rfl | trivial) (by exact SG_dep hsg (dp + 1)) (by omega) H locs hP hD hS ls hl
set_option maxHeartbeats 2000000 in
set_option maxRecDepth 100000 in
theorem mt_X2_get (l : Launch) (E : EE) (d : Nat) : ∀ (o : Nat → Nat) (sc : Nat → Int) (ar : Nat → Int → Int) (t : Int) (th : Int) (G : Int → Int) (r : Int → Nat) (g : Int → Int) (f : Int → Int) (dp : Int) (nf : Int → Bool) (ht : 0 ≤ t ∧ t < 8) (hth : 0 ≤ th ∧ th ≤ 3) (hsg : SG G g f dp sc ar) (hte : TE G g) (htw : TW G) (hsw : SwOK G) (htm : TM G) (hhn : HN G) (hsc : SC G) (hrk : RK G r) (hd : r (m_stands G t) < d) (hdp : 0 ≤ dp ∧ dp + d ≤ 8) (how : OY g) (hrf : RF G th nf g) (hno : (m_cnt G th d t (nf, -1)).2.2 < 0) (hfit : (m_get G th d t dp (g, f)).2.1 1 ≤ 160) (sz : Nat), Met l yX2_get (ws_ yX2_get cX2_get 5 (some .int)) { frames := 3 + 2 * d, cells := 0, slots := 0, locals := 200 + 50 * d } (va_Pc [.ref (o 0), iv t, iv th] (UW E (SW E o sc ar) sz)) (UQx E (fun u : SU => SG G (m_get G th d t dp (g, f)).2.1 (m_get G th d t dp (g, f)).2.2 dp u.1 u.2) (fun u : SU => (m_get G th d t dp (g, f)).1) (fun u : SU => SW E o u.1 u.2) (va_A (SW E o sc ar) sz)) 0 0 (va_A (SW E o sc ar) sz) := by
  induction d with
  | zero => intro o sc ar t th G r g f dp nf ht hth hsg hte htw hsw htm hhn hsc hrk hd hdp how hrf hno hfit sz; exfalso; omega
  | succ d ihd =>
    intro o sc ar t th G r g f dp nf ht hth hsg hte htw hsw htm hhn hsc hrk hd hdp how hrf hno hfit sz
    refine Met.ofW (cc := cX2_get) (maxL := 5) (ret := (some .int)) (by decide) rfl ?_
    intro p e s m args below meth c s₁ B hml hv
    obtain ⟨rfl, hsz, hP, hK, hD0⟩ := hv
    have hx := B.exec
    have hb := B.bytes
    have hr := B.returns
    have hts := atoms_spec (ws := (ws_ yX2_get cX2_get 5 (some .int))) B.pre
    have hts : ∀ w ∈ lw_all, w.before _ s = true := fun w h => hts w (List.mem_cons_of_mem _ h)
    have hown : s.vm.findClass RX2 = some m.cls := findClass_of_methodNamed B.named
    have hlocks := B.notSynchronized
    subst hsz
    have hD := hD0.self (sz := s.heap.size)
    generalize hAe : va_A (SW E o sc ar) s.heap.size = A at hD ⊢
    have hA : ∀ q : Nat, s.heap.size ≤ q → A q := fun q h => by rw [← hAe]; exact Or.inr h
    have hS : va_S A s.heap s.heap [] := va_S.rf
    have hl := lv_entry ([.ref (o 0), iv t, iv th]) (n := 5) (Nat.le_of_ble_eq_true rfl)
    rw [lg_entry_eq]
    generalize (lg_sl ([.ref (o 0), iv t, iv th]) ++ List.replicate (5 - (lg_sl ([.ref (o 0), iv t, iv th])).length) Slot.unset).toArray = ls at hl ⊢
    have hl : lv_has ls 5 [(0, .ref (o 0)), (1, iv t), (2, iv th)] := hl
    have hbr := hsg.br
    have hn1 := hsg.n1
    have hur := m_stands_r hsw ht
    refine lv_aload_n hx hb dX2_get_0 rfl (lv_at hl 0 rfl) ?_
    refine va_get (D := E.1) (ci := 2) (v := .ref (o 1)) (C := RX2) (T := TX2) (N := 14) hx hb hts in_X2 hown hK.1 hP 0 rfl rfl 0 (by decide) (hts _ q188) (fun _ h9 => h9) rfl dX2_get_1 ?_
    refine lv_iload_n hx hb dX2_get_4 rfl (lv_at hl 1 rfl) ?_
    refine n_csi (x := m_stands G t) (va_runV (As := [iv t]) (rest := []) ⟨hx, hb, hml, hown, hts⟩ (mt_X3_standIn l E o sc ar t G (by omega) (by assumption) (by assumption)) (cwV 1 hts (lw_V q811 q546 q547 q96 q548) rfl rfl rfl (by decide +kernel) ⟨(show 0 + 1 ≤ 3 + 2 * (d + 1) by omega), (show 8 + (3 + 11) + (0) ≤ 200 + 50 * (d + 1) by omega)⟩) (PW_V (hP.sub (ws' := BW E o sc ar) [1, 2, 3, 4, 5, 6, 7, 8] rfl) hK (va_recv hK.1 hP (ci := 3) (q0 := 1) rfl rfl)) rfl rfl hl.1 rfl (lv_room (Nat.le_of_ble_eq_true rfl)) dX2_get_5 ⟨Nat.le_of_ble_eq_true rfl, Nat.le_of_ble_eq_true rfl⟩) ?_
    refine lv_istore_n (lv' := [(3, iv (m_stands G t)), (0, .ref (o 0)), (1, iv t), (2, iv th)]) hx hb dX2_get_8 rfl hl (by decide) rfl (fun ls hl => ?_)
    refine lv_aload_n hx hb dX2_get_9 rfl (lv_at hl 1 rfl) ?_
    refine va_get (D := E.1) (ci := 2) (v := .ref (o 1)) (C := RX2) (T := TX2) (N := 14) hx hb hts in_X2 hown hK.1 hP 0 rfl rfl 0 (by decide) (hts _ q188) (fun _ h9 => h9) rfl dX2_get_10 ?_
    refine va_getN (D := E.1) (ci := 3) (v := .ref (o 2)) (C := RX3) (T := TX3) (N := 7) hx hb hts in_X3 hown hK.1 hP 1 rfl rfl 0 (by decide) (hK.nw q154) (fun _ h9 => h9) rfl dX2_get_13 ?_
    refine lv_iload_n hx hb dX2_get_16 rfl (lv_at hl 0 rfl) ?_
    have b_1 := m_stands_r (g := G) (by assumption) (t := t) (by omega)
    refine n_zald (f := ar 2) hx hb hK.1 hP 2 1 rfl rfl (by omega) (by decide) dX2_get_17 ?_
    rw [hbr.has (t := m_stands G t) (by omega)]
    refine n_ifb_ne (tgt := 25) hx hb dX2_get_18 (by decide) (fun c_2 => ?_) (fun c_2 => ?_)
    · have hha : m_has G (m_stands G t) = true := by assumption
      refine lv_iconst (v := iI 0) hx hb dX2_get_25 rfl ?_
      refine lv_iconst (v := iI 5) hx hb dX2_get_26 rfl ?_
      refine lv_iload_n hx hb dX2_get_27 rfl (lv_at hl 0 rfl) ?_
      refine n_csv ((va_runSN (As := [iv 0, iv 5, iv (m_stands G t)]) (rest := []) ⟨hx, hb, hml, hown, hts⟩ (mt_X1_refuseNo l E false 5 (m_stands G t) (by first | assumption | rfl)) ⟨(va_cnB 3 hts (lw_meth q814) rfl rfl rfl (hK.nv q812) (hts _ q94) (by decide +kernel) ⟨(show 0 + 1 ≤ 3 + 2 * (d + 1) by omega), (show 8 + (3 + 11) + (0) ≤ 200 + 50 * (d + 1) by omega)⟩), hts _ q813, trivial⟩ (PW_S (hP.sub (ws' := []) [] rfl) hK) rfl rfl hl.1 rfl (lv_room (Nat.le_of_ble_eq_true rfl)) dX2_get_28 ⟨Nat.le_of_ble_eq_true rfl, Nat.le_of_ble_eq_true rfl⟩).run) ?_
      refine lv_aload_n hx hb dX2_get_31 rfl (lv_at hl 1 rfl) ?_
      refine lv_dup hx hb dX2_get_32 rfl ?_
      refine va_get (D := E.1) (ci := 2) (v := iv (sc 9)) (C := RX2) (T := TX2) (N := 14) hx hb hts in_X2 hown hK.1 hP 0 rfl rfl 9 (by decide) (hts _ q205) (fun _ h9 => h9) rfl dX2_get_33 ?_
      refine n_top (y := g 2) (by exact hn1.2.1) ?_
      refine lv_iconst (v := iI 1) hx hb dX2_get_36 rfl ?_
      refine n_iadd hx hb dX2_get_37 ?_
      refine va_put (D := E.1) (ci := 2) (v := iv ((g 2) + 1)) (ty := .int) (C := RX2) (T := TX2) (N := 14) hx hb hts in_X2 tyX2 tyX2_ok nmX2 hown hK.1 hP hD hS 0 rfl rfl 9 (by decide) (hts _ q205) (fun _ h9 => h9) rfl (by decide +kernel) rfl rfl (Nat.le_of_ble_eq_true rfl) dX2_get_38 (fun H locs hP hD hS => ?_)
      have hP : va_P E.1 CL (SW E o (us sc 9 ((g 2) + 1)) ar) H := hP
      have hD : va_D A (SW E o (us sc 9 ((g 2) + 1)) ar) := hD
      have hsg2 : SG G (ui g 2 (g 2 + 1)) f dp (us sc 9 ((g 2) + 1)) ar := SG_got hsg
      have hte2 : TE G (ui g 2 (g 2 + 1)) := te_ui hte (by decide)
      have hsz2 := hsg2.sq hte2
      have how2 : OY (ui g 2 (g 2 + 1)) := OY_ui (by decide) how
      have hsc2 : SC (ui g 2 (g 2 + 1)) := SC_te hte2 hsc
      have hpl2 := how2.pl
      have how22 := how2.2.1
      have hha2 : m_has (ui g 2 (g 2 + 1)) (m_stands G t) = true := by rw [te_has hte2 hur]; exact hha
      have hex9 := m_exist_r3 how2.1 (m_stands G t) th
      have hrf2 : RF G th nf (ui g 2 (g 2 + 1)) := RF_ui (Or.inl rfl) hrf
      have hmg := m_get_c G th d t dp (g, f)
      have e31 : (ui g 2 (g 2 + 1)) 3 = g 3 := ui_n (by decide)
      refine lv_aload_n hx hb dX2_get_41 rfl (lv_at hl 1 rfl) ?_
      refine lv_iload_n hx hb dX2_get_42 rfl (lv_at hl 0 rfl) ?_
      refine lv_iload_n hx hb dX2_get_43 rfl (lv_at hl 3 rfl) ?_
      refine n_csi (x := m_exist (ui g 2 (g 2 + 1)) (m_stands G t) th) (va_runV (As := [iv (m_stands G t), iv th]) (rest := []) ⟨hx, hb, hml, hown, hts⟩ (mt_X2_existing l E o (us sc 9 ((g 2) + 1)) ar (m_stands G t) th (ui g 2 (g 2 + 1)) (by omega) (by omega) (by exact hsz2) (by exact how2) (by exact hsc2) (by exact hpl2) (by exact hha2)) (cwV 2 hts (lw_V q847 q783 qs13 q95 q784) rfl rfl rfl (by decide +kernel) ⟨(show 0 + 1 ≤ 3 + 2 * (d + 1) by omega), (show 8 + (5 + 11) + (0) ≤ 200 + 50 * (d + 1) by omega)⟩) (PW_V hP hK (va_recv hK.1 hP (ci := 2) (q0 := 0) rfl rfl)) rfl rfl hl.1 rfl (lv_room (Nat.le_of_ble_eq_true rfl)) dX2_get_44 ⟨Nat.le_of_ble_eq_true rfl, Nat.le_of_ble_eq_true rfl⟩) ?_
      refine lv_istore (lv' := [(4, iv (m_exist (ui g 2 (g 2 + 1)) (m_stands G t) th)), (3, iv (m_stands G t)), (0, .ref (o 0)), (1, iv t), (2, iv th)]) hx hb dX2_get_47 hl (by decide) rfl (fun ls hl => ?_)
      refine lv_iload hx hb dX2_get_49 (lv_at hl 0 rfl) ?_
      refine lv_iconst (v := iI (-1)) hx hb dX2_get_51 rfl ?_
      have b_3 := m_exist_r3 (g := (ui g 2 (g 2 + 1))) (by first | exact how.1 | exact how2.1) (m_stands G t) th
      refine n_icmp_eq (tgt := 68) hx hb dX2_get_52 (by decide) (by omega) (by omega) (fun c_4 => ?_) (fun c_4 => ?_)
      · have hne : ¬ 0 ≤ m_exist (ui g 2 (g 2 + 1)) (m_stands G t) th := by omega
        have hmg := hmg.trans (if_neg hne)
        have hn2 : ¬ (0 ≤ m_exist G (m_stands G t) th ∨ nf (m_stands G t) = true) := fun h => hne ((hrf2.2.2.1 (m_stands G t) hur.1 hur.2).mpr h)
        have hno2 := hno
        rw [cnt_go hha hn2] at hno2
        have hfit2 := hfit
        rw [hmg] at hfit2
        have hfit3 : (GZ G th d (m_stands G t) dp ((ui g 2 (g 2 + 1)), f) (m_of G (m_stands G t) 2)).1 1 ≤ 159 := by have q : (GZ G th d (m_stands G t) dp ((ui g 2 (g 2 + 1)), f) (m_of G (m_stands G t) 2)).1 1 + 1 ≤ 160 := hfit2; omega
        refine lv_aload_n hx hb dX2_get_68 rfl (lv_at hl 2 rfl) ?_
        refine lv_iload_n hx hb dX2_get_69 rfl (lv_at hl 1 rfl) ?_
        refine lv_iload_n hx hb dX2_get_70 rfl (lv_at hl 4 rfl) ?_
        refine n_cuxS (x := fun u_5 => (m_cre G th d (m_stands G t) dp ((ui g 2 (g 2 + 1)), f)).1) (w2 := fun u_5 => SW E o u_5.1 u_5.2) (va_runV (As := [iv (m_stands G t), iv th]) (rest := []) ⟨hx, hb, hml, hown, hts⟩ (mt_X2_create l E d ihd o (us sc 9 ((g 2) + 1)) ar (m_stands G t) th G r (ui g 2 (g 2 + 1)) f dp nf (by omega) (by omega) (by exact hha) (by exact hsg2) (by exact hte2) (by assumption) (by assumption) (by assumption) (by assumption) (by assumption) (by assumption) (by omega) (by omega) (by exact how2) (by exact hrf2) (by exact hno2) (by exact hfit3) _) (cwV 2 hts (lw_V q848 q850 qs15 q95 q851) rfl rfl rfl (by decide +kernel) ⟨(show 4 + 2 * d + 1 ≤ 3 + 2 * (d + 1) by omega), (show 8 + (7 + 11) + (224 + 50 * d) ≤ 200 + 50 * (d + 1) by omega)⟩) (UW_V hP hK (hD) (va_recv hK.1 hP (ci := 2) (q0 := 0) rfl rfl)) rfl rfl hl.1 rfl (lv_room (Nat.le_of_ble_eq_true rfl)) dX2_get_71 ⟨Nat.le_of_ble_eq_true rfl, Nat.le_of_ble_eq_true rfl⟩) hP hD hS hA [0, 1, 2, 3, 4, 5, 6, 7, 8, 9, 10, 11, 12, 13, 14, 15, 16] [] [0, 1, 2, 3, 4, 5, 6, 7, 8, 9, 10, 11, 12, 13, 14, 15, 16] rfl rfl rfl rfl rfl (fun _ => rfl) (fun u_5 H locs hu_5 hP hD hS => ?_)
        have hu_5 : SG G (m_cre G th d (m_stands G t) dp ((ui g 2 (g 2 + 1)), f)).2.1 (m_cre G th d (m_stands G t) dp ((ui g 2 (g 2 + 1)), f)).2.2 dp u_5.1 u_5.2 := hu_5
        have hP : va_P E.1 CL (SW E o u_5.1 u_5.2) H := hP
        have hD : va_D A (SW E o u_5.1 u_5.2) := hD
        have hsr2 : SG G (m_get G th (d + 1) t dp (g, f)).2.1 (m_get G th (d + 1) t dp (g, f)).2.2 dp u_5.1 u_5.2 := by rw [hmg]; exact hu_5
        have hfin : (m_cre G th d (m_stands G t) dp ((ui g 2 (g 2 + 1)), f)).1 = (m_get G th (d + 1) t dp (g, f)).1 := by
          rw [hmg]
        exact W.iret (v := iI ((m_cre G th d (m_stands G t) dp ((ui g 2 (g 2 + 1)), f)).1)) hx hb hr (fun tt_ ht_ hW_ => ⟨⟨iI ((m_cre G th d (m_stands G t) dp ((ui g 2 (g 2 + 1)), f)).1), (u_5.1, u_5.2), rfl, ⟨hsr2, (congrArg iI hfin)⟩, by rw [ht_]; exact hP, hD⟩, hS.F ht_⟩) hS.2.2 dX2_get_74
      · have hmg := hmg.trans (if_pos (show 0 ≤ m_exist (ui g 2 (g 2 + 1)) (m_stands G t) th by omega))
        refine lv_aload_n hx hb dX2_get_55 rfl (lv_at hl 2 rfl) ?_
        refine lv_dup hx hb dX2_get_56 rfl ?_
        refine va_get (D := E.1) (ci := 2) (v := iv (sc 10)) (C := RX2) (T := TX2) (N := 14) hx hb hts in_X2 hown hK.1 hP 0 rfl rfl 10 (by decide) (hts _ q207) (fun _ h9 => h9) rfl dX2_get_57 ?_
        refine n_top (y := g 3) (by exact hn1.2.2.1) ?_
        refine lv_iconst (v := iI 1) hx hb dX2_get_60 rfl ?_
        refine n_iadd hx hb dX2_get_61 ?_
        refine va_put (D := E.1) (ci := 2) (v := iv ((g 3) + 1)) (ty := .int) (C := RX2) (T := TX2) (N := 14) hx hb hts in_X2 tyX2 tyX2_ok nmX2 hown hK.1 hP hD hS 0 rfl rfl 10 (by decide) (hts _ q207) (fun _ h9 => h9) rfl (by decide +kernel) rfl rfl (Nat.le_of_ble_eq_true rfl) dX2_get_62 (fun H locs hP hD hS => ?_)
        have hP : va_P E.1 CL (SW E o (us (us sc 9 ((g 2) + 1)) 10 ((g 3) + 1)) ar) H := hP
        have hD : va_D A (SW E o (us (us sc 9 ((g 2) + 1)) 10 ((g 3) + 1)) ar) := hD
        have hsr2 : SG G (m_get G th (d + 1) t dp (g, f)).2.1 (m_get G th (d + 1) t dp (g, f)).2.2 dp (us (us sc 9 ((g 2) + 1)) 10 ((g 3) + 1)) ar := by
          have q := SG_reused hsg2
          rw [e31] at q
          rw [hmg]
          exact q
        refine lv_iload hx hb dX2_get_65 (lv_at hl 0 rfl) ?_
        have hfin : m_exist (ui g 2 (g 2 + 1)) (m_stands G t) th = (m_get G th (d + 1) t dp (g, f)).1 := by
          rw [hmg]
        exact W.iret (v := iI (m_exist (ui g 2 (g 2 + 1)) (m_stands G t) th)) hx hb hr (fun tt_ ht_ hW_ => ⟨⟨iI (m_exist (ui g 2 (g 2 + 1)) (m_stands G t) th), ((us (us sc 9 ((g 2) + 1)) 10 ((g 3) + 1)), ar), rfl, ⟨hsr2, (congrArg iI hfin)⟩, by rw [ht_]; exact hP, hD⟩, hS.F ht_⟩) hS.2.2 dX2_get_67
    · rw [cnt_no (by assumption)] at hno; exact absurd (show m_stands G t < 0 from hno) (by omega)
