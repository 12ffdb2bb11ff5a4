set_option maxHeartbeats 4000000 in
set_option maxRecDepth 100000 in
theorem mt_X1_refuseNo (l : Launch) (E : EE)  (z : Bool) (r9 : Int) (d9 : Int) (hz : z = false) : Met l yX1_refuseIf (ws_ yX1_refuseIf cX1_refuseIf 3 none) { frames := 0, cells := 0, slots := 0, locals := 0 } (va_Pc [iv (b2 z), iv r9, iv d9] (PW E ([]))) NPv 0 0 (fun _ => False) := by
  refine Met.ofW (cc := cX1_refuseIf) (maxL := 3) (ret := none) (by decide) rfl ?_
  intro p e s m args below meth c s₁ B hml hv
  obtain ⟨rfl, hP, hK⟩ := hv
  have hx := B.exec
  have hb := B.bytes
  have hr := B.returns
  have hts := atoms_spec (ws := (ws_ yX1_refuseIf cX1_refuseIf 3 none)) B.pre
  have hts : ∀ w ∈ lw_all, w.before _ s = true := fun w h => hts w (List.mem_cons_of_mem _ h)
  have hown : s.vm.findClass RX1 = some m.cls := findClass_of_methodNamed B.named
  have hlocks := B.notSynchronized
  have hl := lv_entry ([iv (b2 z), iv r9, iv d9]) (n := 3) (Nat.le_of_ble_eq_true rfl)
  rw [lg_entry_eq]
  generalize (lg_sl ([iv (b2 z), iv r9, iv d9]) ++ List.replicate (3 - (lg_sl ([iv (b2 z), iv r9, iv d9])).length) Slot.unset).toArray = ls at hl ⊢
  have hl : lv_has ls 3 [(0, iv (b2 z)), (1, iv r9), (2, iv d9)] := hl
  refine lv_iload_n hx hb dX1_refuseIf_0 rfl (lv_at hl 0 rfl) ?_
  refine n_ifb_eq (tgt := 14) hx hb dX1_refuseIf_1 (by decide) (fun c_1 => ?_) (fun c_1 => ?_)
  · exact W.vret hx hb hr (fun tt_ ht_ hW_ => ⟨rfl, ht_⟩) (fun q h => by cases h) dX1_refuseIf_14
  · exact absurd (hz.symm.trans (by assumption)) (by decide)
set_option maxHeartbeats 1000000 in
set_option maxRecDepth 100000 in
theorem mt_X8_init (l : Launch) (E : EE) (oc : Nat) (o : Nat → Nat) (sc : Nat → Int) (ar : Nat → Int → Int) (th : Int) (g : Int → Int) (hth : -2147483648 ≤ th ∧ th < 2147483648) (hsr : SR g sc ar) (how : OY g) (hsc : SC g) (hpl : ∀ k, 0 ≤ k → k < g 1 → 0 ≤ m_thing g k 1 ∧ m_thing g k 1 < 2147483648) (sz : Nat) : Met l yX8_init (ws_ yX8_init cX8_init 4 none) { frames := 1, cells := 0, slots := 0, locals := 24 } (va_Pc [.ref oc, .ref (o 0), iv th] (UW E (([(oc, .inr (7, [.null, iv 0, iv 0, iv 0]))]) ++ (SW E o sc ar)) sz)) (UQxv E (fun u : Int → Bool => ∀ v, 0 ≤ v → v < 8 → m_has g v = true → u v = (decide (0 ≤ m_exist g v th) || (fun _ => false : Int → Bool) v)) (fun u : Int → Bool => ([(oc, .inr (7, [.ref (o 0), iv th, iv (bsI u), iv 0]))]) ++ (SW E o sc ar)) (va_A (([(oc, .inr (7, [.null, iv 0, iv 0, iv 0]))]) ++ (SW E o sc ar)) sz)) 0 0 (va_A (([(oc, .inr (7, [.null, iv 0, iv 0, iv 0]))]) ++ (SW E o sc ar)) sz) := by
  refine Met.ofW (cc := cX8_init) (maxL := 4) (ret := none) (by decide) rfl ?_
  intro p e s m args below meth c s₁ B hml hv
  obtain ⟨rfl, hsz, hP, hK, hD0⟩ := hv
  have hx := B.exec
  have hb := B.bytes
  have hr := B.returns
  have hts := atoms_spec (ws := (ws_ yX8_init cX8_init 4 none)) B.pre
  have hts : ∀ w ∈ lw_all, w.before _ s = true := fun w h => hts w (List.mem_cons_of_mem _ h)
  have hown : s.vm.findClass RX8 = some m.cls := findClass_of_methodNamed B.named
  have hlocks := B.notSynchronized
  have hin : meth.name = "<init>" := (name_of_methodNamed B.named B.method).1
  subst hsz
  have hD := hD0.self (sz := s.heap.size)
  generalize hAe : va_A (([(oc, .inr (7, [.null, iv 0, iv 0, iv 0]))]) ++ (SW E o sc ar)) s.heap.size = A at hD ⊢
  have hA : ∀ q : Nat, s.heap.size ≤ q → A q := fun q h => by rw [← hAe]; exact Or.inr h
  have hS : va_S A s.heap s.heap [] := va_S.rf
  have hl := lv_entry ([.ref oc, .ref (o 0), iv th]) (n := 4) (Nat.le_of_ble_eq_true rfl)
  rw [lg_entry_eq]
  generalize (lg_sl ([.ref oc, .ref (o 0), iv th]) ++ List.replicate (4 - (lg_sl ([.ref oc, .ref (o 0), iv th])).length) Slot.unset).toArray = ls at hl ⊢
  have hl : lv_has ls 4 [(0, .ref oc), (1, .ref (o 0)), (2, iv th)] := hl
  have hn1 := hsr.n1
  have ho1 := how.1
  have ho2 := how.2.1
  refine lv_aload_n hx hb dX8_init_0 rfl (lv_at hl 0 rfl) ?_
  refine W.objInit hx hb hown (hts _ q780) (hts _ q138) (hts _ q139) rfl (by rw [hml]; exact hl.1) rfl dX8_init_1 (Nat.le_of_ble_eq_true rfl) (Nat.le_of_ble_eq_true rfl) ?_
  refine W.eq (g2 := F0 m 4 ls []) rfl ?_
  refine lv_aload_n hx hb dX8_init_4 rfl (lv_at hl 0 rfl) ?_
  refine lv_aload_n hx hb dX8_init_5 rfl (lv_at hl 1 rfl) ?_
  refine va_putF (D := E.1) (ci := 7) (v := .ref (o 0)) (ty := (tyX8 0)) (C := RX8) (T := TX8) (N := 4) hx hb hts in_X8 tyX8 tyX8_ok nmX8 hown hK.1 hP hD hS 0 rfl rfl 0 (by decide) (hts _ q785) (fun _ h9 => h9) rfl hin rfl (by decide +kernel) rfl rfl (Nat.le_of_ble_eq_true rfl) dX8_init_6 (fun H locs hP hD hS => ?_)
  have hP : va_P E.1 CL (([(oc, .inr (7, [.ref (o 0), iv 0, iv 0, iv 0]))]) ++ (SW E o sc ar)) H := hP
  have hD : va_D A (([(oc, .inr (7, [.ref (o 0), iv 0, iv 0, iv 0]))]) ++ (SW E o sc ar)) := hD
  refine lv_aload_n hx hb dX8_init_9 rfl (lv_at hl 0 rfl) ?_
  refine lv_iload_n hx hb dX8_init_10 rfl (lv_at hl 2 rfl) ?_
  refine va_putF (D := E.1) (ci := 7) (v := iv th) (ty := .int) (C := RX8) (T := TX8) (N := 4) hx hb hts in_X8 tyX8 tyX8_ok nmX8 hown hK.1 hP hD hS 0 rfl rfl 1 (by decide) (hts _ q786) (fun _ h9 => h9) rfl hin rfl (by decide +kernel) rfl rfl (Nat.le_of_ble_eq_true rfl) dX8_init_11 (fun H locs hP hD hS => ?_)
  have hP : va_P E.1 CL (([(oc, .inr (7, [.ref (o 0), iv th, iv 0, iv 0]))]) ++ (SW E o sc ar)) H := hP
  have hD : va_D A (([(oc, .inr (7, [.ref (o 0), iv th, iv 0, iv 0]))]) ++ (SW E o sc ar)) := hD
  refine lv_iconst (v := iI 0) hx hb dX8_init_14 rfl ?_
  refine lv_istore_n (lv' := [(3, iv 0), (0, .ref oc), (1, .ref (o 0)), (2, iv th)]) hx hb dX8_init_15 rfl hl (by decide) rfl (fun ls hl => ?_)
  have l16 : ∀ (fu : Nat) (x3 : Int) (wv : Int → Bool), (0 ≤ x3 ∧ x3 ≤ 8) → (∀ v, wv v = (decide (0 ≤ v ∧ v < x3) && (m_has g v && !(decide (m_exist g v th = -1))))) → (8 - x3 < (fu : Int)) → ∀ (H : Heap) (locs : List Loc), va_P E.1 CL (([(oc, .inr (7, [.ref (o 0), iv th, iv (bsI wv), iv 0]))]) ++ (SW E o sc ar)) H → va_D A (([(oc, .inr (7, [.ref (o 0), iv th, iv (bsI wv), iv 0]))]) ++ (SW E o sc ar)) → va_S A s.heap H locs → ∀ ls : Array Slot, lv_has ls 4 [(3, iv x3), (0, .ref oc), (1, .ref (o 0)), (2, iv th)] → W p l e (headSpec (ws_ yX8_init cX8_init 4 none) { frames := 1, cells := 0, slots := 0, locals := 24 }).room s m ([.ref oc, .ref (o 0), iv th] : List Value).toArray below meth c H locs 0 0 (MQ below (UQxv E (fun u : Int → Bool => ∀ v, 0 ≤ v → v < 8 → m_has g v = true → u v = (decide (0 ≤ m_exist g v th) || (fun _ => false : Int → Bool) v)) (fun u : Int → Bool => ([(oc, .inr (7, [.ref (o 0), iv th, iv (bsI u), iv 0]))]) ++ (SW E o sc ar)) A) ([.ref oc, .ref (o 0), iv th] : List Value).toArray s 0 0 A) (F0 m 16 ls []) := by
    intro fu
    induction fu with
    | zero =>
      intro x3 wv il16_0 il16_1 hm
      exfalso; omega
    | succ fu ih =>
      intro x3 wv il16_0 il16_1 hm H locs hP hD hS ls hl
      have ihl16 := ih
      refine lv_iload_n hx hb dX8_init_16 rfl (lv_at hl 0 rfl) ?_
      refine lv_bipush (v := iI 8) hx hb dX8_init_17 (by decide) ?_
      refine n_icmp_ge (tgt := 66) hx hb dX8_init_19 (by decide) (by omega) (by omega) (fun c_1 => ?_) (fun c_1 => ?_)
      · have hwit : ∀ v, 0 ≤ v → v < 8 → m_has g v = true → wv v = (decide (0 ≤ m_exist g v th) || (fun _ => false : Int → Bool) v) := by
          intro v v0 v8 hh
          have q1 := m_exist_r3 how.1 v th
          rw [il16_1 v, hh, decide_eq_true (show 0 ≤ v ∧ v < x3 by omega)]
          by_cases hq : m_exist g v th = -1
          · rw [decide_eq_true hq, decide_eq_false (show ¬ 0 ≤ m_exist g v th by omega)]; rfl
          · rw [decide_eq_false hq, decide_eq_true (show 0 ≤ m_exist g v th by omega)]; rfl
        exact W.vret hx hb hr (fun tt_ ht_ hW_ => ⟨⟨wv, rfl, hwit, by rw [ht_]; exact hP, hD⟩, hS.F ht_⟩) hS.2.2 dX8_init_66
      · refine lv_aload_n hx hb dX8_init_22 rfl (lv_at hl 1 rfl) ?_
        refine lv_dup hx hb dX8_init_23 rfl ?_
        refine va_get (D := E.1) (ci := 7) (v := iv (bsI wv)) (C := RX8) (T := TX8) (N := 4) hx hb hts in_X8 hown hK.1 hP 0 rfl rfl 2 (by decide) (hts _ q787) (fun _ h9 => h9) rfl dX8_init_24 ?_
        have j_2 : W p l e (headSpec (ws_ yX8_init cX8_init 4 none) { frames := 1, cells := 0, slots := 0, locals := 24 }).room s m ([.ref oc, .ref (o 0), iv th] : List Value).toArray below meth c H locs 0 0 (MQ below (UQxv E (fun u : Int → Bool => ∀ v, 0 ≤ v → v < 8 → m_has g v = true → u v = (decide (0 ≤ m_exist g v th) || (fun _ => false : Int → Bool) v)) (fun u : Int → Bool => ([(oc, .inr (7, [.ref (o 0), iv th, iv (bsI u), iv 0]))]) ++ (SW E o sc ar)) A) ([.ref oc, .ref (o 0), iv th] : List Value).toArray s 0 0 A) (F0 m 56 ls [iv (bsI (fun v => decide (v = x3) && (m_has g x3 && !(decide (m_exist g x3 th = -1))))), iv (bsI wv), .ref oc]) := by
          refine n_ior_bs hx hb dX8_init_56 ?_
          refine va_put (D := E.1) (ci := 7) (v := iv (bsI (fun v => wv v || (fun v => decide (v = x3) && (m_has g x3 && !(decide (m_exist g x3 th = -1)))) v))) (ty := .int) (C := RX8) (T := TX8) (N := 4) hx hb hts in_X8 tyX8 tyX8_ok nmX8 hown hK.1 hP hD hS 0 rfl rfl 2 (by decide) (hts _ q787) (fun _ h9 => h9) rfl (by decide +kernel) rfl rfl (Nat.le_of_ble_eq_true rfl) dX8_init_57 (fun H locs hP hD hS => ?_)
          have hP : va_P E.1 CL (([(oc, .inr (7, [.ref (o 0), iv th, iv (bsI (fun v => wv v || (fun v => decide (v = x3) && (m_has g x3 && !(decide (m_exist g x3 th = -1)))) v)), iv 0]))]) ++ (SW E o sc ar)) H := hP
          have hD : va_D A (([(oc, .inr (7, [.ref (o 0), iv th, iv (bsI (fun v => wv v || (fun v => decide (v = x3) && (m_has g x3 && !(decide (m_exist g x3 th = -1)))) v)), iv 0]))]) ++ (SW E o sc ar)) := hD
          have wst : ∀ {v : Int}, ((decide (0 ≤ v ∧ v < x3) && (m_has g v && !(decide (m_exist g v th = -1)))) || (fun v => decide (v = x3) && (m_has g x3 && !(decide (m_exist g x3 th = -1)))) v) = (decide (0 ≤ v ∧ v < x3 + 1) && (m_has g v && !(decide (m_exist g v th = -1)))) := by
            intro v
            by_cases hv : v = x3
            · subst hv; rw [decide_eq_false (show ¬ (0 ≤ v ∧ v < v) by omega), decide_eq_true (show 0 ≤ v ∧ v < v + 1 by omega)]; simp
            · simp only [decide_eq_false hv, Bool.false_and, Bool.or_false]; congr 1; exact decide_eq_decide.mpr (by omega)
          refine lv_iinc (v := iI (x3 + 1)) (lv' := [(3, iv (x3 + 1)), (0, .ref oc), (1, .ref (o 0)), (2, iv th)]) hx hb dX8_init_60 hl (k := 0) rfl (iI_add _ _) (by decide) rfl (fun ls hl => ?_)
          refine lv_goto (tgt := 16) hx hb dX8_init_63 (by decide) ?_
          exact ihl16 (x3 + 1) (fun v => wv v || (fun v => decide (v = x3) && (m_has g x3 && !(decide (m_exist g x3 th = -1)))) v) (by first | omega | rfl) (by intro v; rw [il16_1 v]; exact wst) (by omega) H locs hP hD hS ls (lv_sub hl [0, 1, 2, 3] rfl)
        refine lv_aload_n hx hb dX8_init_27 rfl (lv_at hl 2 rfl) ?_
        refine va_getN (D := E.1) (ci := 2) (v := .ref (o 1)) (C := RX2) (T := TX2) (N := 14) hx hb hts in_X2 hown hK.1 hP 1 rfl rfl 0 (by decide) (hK.nw q189) (fun _ h9 => h9) rfl dX8_init_28 ?_
        refine va_getN (D := E.1) (ci := 3) (v := .ref (o 2)) (C := RX3) (T := TX3) (N := 7) hx hb hts in_X3 hown hK.1 hP 2 rfl rfl 0 (by decide) (hK.nw q153) (fun _ h9 => h9) rfl dX8_init_31 ?_
        refine lv_iload_n hx hb dX8_init_34 rfl (lv_at hl 0 rfl) ?_
        refine n_zald (f := ar 2) hx hb hK.1 hP 3 1 rfl rfl (by omega) (by decide) dX8_init_35 ?_
        rw [hsr.br.has (t := x3) (by omega)]
        refine n_ifb_eq (tgt := 55) hx hb dX8_init_36 (by decide) (fun c_3 => ?_) (fun c_3 => ?_)
        · refine lv_iconst (v := iI 0) hx hb dX8_init_55 rfl ?_
          refine n_top (y := bsI (fun v => decide (v = x3) && (m_has g x3 && !(decide (m_exist g x3 th = -1))))) (by first | exact congrArg bsI (funext fun v => by simp [c_1, c_3, b2_t]) | (refine bsI_0.symm.trans (congrArg bsI (funext fun v => ?_)); simp [c_1, c_3, b2_t])) ?_
          exact j_2
        · refine lv_aload_n hx hb dX8_init_39 rfl (lv_at hl 2 rfl) ?_
          refine lv_iload_n hx hb dX8_init_40 rfl (lv_at hl 0 rfl) ?_
          refine lv_iload_n hx hb dX8_init_41 rfl (lv_at hl 3 rfl) ?_
          refine n_csi (x := m_exist g x3 th) (va_runVN (As := [iv x3, iv th]) (rest := [iv (bsI wv), .ref oc]) ⟨hx, hb, hml, hown, hts⟩ (mt_X2_existing l E o sc ar x3 th g (by omega) (by omega) (by first | assumption | exact hsr.q) (by assumption) (by assumption) (by assumption) (by assumption)) ⟨(va_cnB 2 hts (lw_meth q784) rfl rfl rfl (hK.nv q781) (hts _ q95) (by decide +kernel) ⟨Nat.le_of_ble_eq_true rfl, Nat.le_of_ble_eq_true rfl⟩), hts _ q783, hts _ qs13⟩ (PW_V (hP.sub (ws' := SW E o sc ar) [1, 2, 3, 4, 5, 6, 7, 8, 9, 10, 11, 12, 13, 14, 15, 16, 17] rfl) hK (va_recv hK.1 hP (ci := 2) (q0 := 1) rfl rfl)) rfl rfl hl.1 rfl (lv_room (Nat.le_of_ble_eq_true rfl)) dX8_init_42 ⟨Nat.le_of_ble_eq_true rfl, Nat.le_of_ble_eq_true rfl⟩) ?_
          refine lv_iconst (v := iI (-1)) hx hb dX8_init_45 rfl ?_
          have b_4 := m_exist_r3 (g := g) (by first | exact how.1 | exact how2.1) x3 th
          refine n_icmp_eq (tgt := 55) hx hb dX8_init_46 (by decide) (by omega) (by omega) (fun c_5 => ?_) (fun c_5 => ?_)
          · refine lv_iconst (v := iI 0) hx hb dX8_init_55 rfl ?_
            refine n_top (y := bsI (fun v => decide (v = x3) && (m_has g x3 && !(decide (m_exist g x3 th = -1))))) (by first | exact congrArg bsI (funext fun v => by simp [c_1, c_3, c_5, b2_t]) | (refine bsI_0.symm.trans (congrArg bsI (funext fun v => ?_)); simp [c_1, c_3, c_5, b2_t])) ?_
            exact j_2
          · refine lv_iconst (v := iI 1) hx hb dX8_init_49 rfl ?_
            refine lv_iload_n hx hb dX8_init_50 rfl (lv_at hl 0 rfl) ?_
            refine n_ishl1_bs hx hb (by omega) dX8_init_51 ?_
            refine lv_goto (tgt := 56) hx hb dX8_init_52 (by decide) ?_
            refine n_top (y := bsI (fun v => decide (v = x3) && (m_has g x3 && !(decide (m_exist g x3 th = -1))))) (by first | exact congrArg bsI (funext fun v => by simp [c_1, c_3, c_5, b2_t]) | (refine bsI_0.symm.trans (congrArg bsI (funext fun v => ?_)); simp [c_1, c_3, c_5, b2_t])) ?_
            exact j_2
  exact l16 9 0 (fun _ => false) (by first | omega | rfl | trivial) (by intro v; rw [decide_eq_false (by omega)]; rfl) (by omega) H locs hP hD hS ls hl
set_option maxHeartbeats 2000000 in
set_option maxRecDepth 100000 in
theorem mt_X8_missing (l : Launch) (E : EE) (d : Nat) : ∀ (oc : Nat) (th : Int) (w9 : Int → Bool) (n9 : Int) (o : Nat → Nat) (sc : Nat → Int) (ar : Nat → Int → Int) (t : Int) (g : Int → Int) (r : Int → Nat) (f9 : Int → Bool) (ht : 0 ≤ t ∧ t < 8) (hbr : BR g ar) (htw : TW g) (hsw : SwOK g) (hhn : HN g) (hsc : SC g) (hrk : RK g r) (hd : r (m_stands g t) < d) (hd9 : d ≤ 8) (hw : ∀ v, 0 ≤ v → v < 8 → m_has g v = true → w9 v = (decide (0 ≤ m_exist g v th) || f9 v)) (sz : Nat), Met l yX8_missing (ws_ yX8_missing cX8_missing 6 (some .int)) { frames := 1 + d, cells := 0, slots := 0, locals := 22 + 25 * d } (va_Pc [.ref oc, iv t] (UW E (([(oc, .inr (7, [.ref (o 0), iv th, iv (bsI w9), iv n9]))]) ++ (SW E o sc ar)) sz)) (UQx E (fun u : (Int → Bool) × Int => (m_cnt g th d t (f9, -1)).2.2 = -1 → (∀ v, 0 ≤ v → v < 8 → m_has g v = true → u.1 v = (decide (0 ≤ m_exist g v th) || (m_cnt g th d t (f9, -1)).2.1 v)) ∧ u.2 = n9 + (m_cnt g th d t (f9, -1)).1) (fun u : (Int → Bool) × Int => (m_cnt g th d t (f9, -1)).2.2) (fun u : (Int → Bool) × Int => ([(oc, .inr (7, [.ref (o 0), iv th, iv (bsI u.1), iv u.2]))]) ++ (SW E o sc ar)) (va_A (([(oc, .inr (7, [.ref (o 0), iv th, iv (bsI w9), iv n9]))]) ++ (SW E o sc ar)) sz)) 0 0 (va_A (([(oc, .inr (7, [.ref (o 0), iv th, iv (bsI w9), iv n9]))]) ++ (SW E o sc ar)) sz) := by
  induction d with
  | zero => intro oc th w9 n9 o sc ar t g r f9 ht hbr htw hsw hhn hsc hrk hd hd9 hw sz; exfalso; omega
  | succ d ihd =>
    intro oc th w9 n9 o sc ar t g r f9 ht hbr htw hsw hhn hsc hrk hd hd9 hw sz
    refine Met.ofW (cc := cX8_missing) (maxL := 6) (ret := (some .int)) (by decide) rfl ?_
    intro p e s m args below meth c s₁ B hml hv
    obtain ⟨rfl, hsz, hP, hK, hD0⟩ := hv
    have hx := B.exec
    have hb := B.bytes
    have hr := B.returns
    have hts := atoms_spec (ws := (ws_ yX8_missing cX8_missing 6 (some .int))) B.pre
    have hts : ∀ w ∈ lw_all, w.before _ s = true := fun w h => hts w (List.mem_cons_of_mem _ h)
    have hown : s.vm.findClass RX8 = some m.cls := findClass_of_methodNamed B.named
    have hlocks := B.notSynchronized
    subst hsz
    have hD := hD0.self (sz := s.heap.size)
    generalize hAe : va_A (([(oc, .inr (7, [.ref (o 0), iv th, iv (bsI w9), iv n9]))]) ++ (SW E o sc ar)) s.heap.size = A at hD ⊢
    have hA : ∀ q : Nat, s.heap.size ≤ q → A q := fun q h => by rw [← hAe]; exact Or.inr h
    have hS : va_S A s.heap s.heap [] := va_S.rf
    have hl := lv_entry ([.ref oc, iv t]) (n := 6) (Nat.le_of_ble_eq_true rfl)
    rw [lg_entry_eq]
    generalize (lg_sl ([.ref oc, iv t]) ++ List.replicate (6 - (lg_sl ([.ref oc, iv t])).length) Slot.unset).toArray = ls at hl ⊢
    have hl : lv_has ls 6 [(0, .ref oc), (1, iv t)] := hl
    have hur := m_stands_r hsw ht
    have hnn := htw (m_stands g t) hur.1 hur.2
    refine lv_aload_n hx hb dX8_missing_0 rfl (lv_at hl 0 rfl) ?_
    refine va_get (D := E.1) (ci := 7) (v := .ref (o 0)) (C := RX8) (T := TX8) (N := 4) hx hb hts in_X8 hown hK.1 hP 0 rfl rfl 0 (by decide) (hts _ q785) (fun _ h9 => h9) rfl dX8_missing_1 ?_
    refine va_getN (D := E.1) (ci := 2) (v := .ref (o 1)) (C := RX2) (T := TX2) (N := 14) hx hb hts in_X2 hown hK.1 hP 1 rfl rfl 0 (by decide) (hK.nw q189) (fun _ h9 => h9) rfl dX8_missing_4 ?_
    refine lv_astore_n (lv' := [(2, .ref (o 1)), (0, .ref oc), (1, iv t)]) hx hb dX8_missing_7 rfl hl (by decide) rfl (fun ls hl => ?_)
    refine lv_aload_n hx hb dX8_missing_8 rfl (lv_at hl 0 rfl) ?_
    refine lv_iload_n hx hb dX8_missing_9 rfl (lv_at hl 2 rfl) ?_
    refine n_csi (x := m_stands g t) (va_runV (As := [iv t]) (rest := []) ⟨hx, hb, hml, hown, hts⟩ (mt_X3_standIn l E o sc ar t g (by omega) (by assumption) (by assumption)) (cwV 1 hts (lw_V q802 q546 q547 q96 q548) rfl rfl rfl (by decide +kernel) ⟨(show 0 + 1 ≤ 1 + (d + 1) by omega), (show 8 + (3 + 11) + 0 ≤ 22 + 25 * (d + 1) by omega)⟩) (PW_V (hP.sub (ws' := BW E o sc ar) [2, 3, 4, 5, 6, 7, 8, 9] rfl) hK (va_recv hK.1 hP (ci := 3) (q0 := 2) rfl rfl)) rfl rfl hl.1 rfl (lv_room (Nat.le_of_ble_eq_true rfl)) dX8_missing_10 ⟨Nat.le_of_ble_eq_true rfl, Nat.le_of_ble_eq_true rfl⟩) ?_
    refine lv_istore_n (lv' := [(3, iv (m_stands g t)), (2, .ref (o 1)), (0, .ref oc), (1, iv t)]) hx hb dX8_missing_13 rfl hl (by decide) rfl (fun ls hl => ?_)
    refine lv_aload_n hx hb dX8_missing_14 rfl (lv_at hl 1 rfl) ?_
    refine va_getN (D := E.1) (ci := 3) (v := .ref (o 2)) (C := RX3) (T := TX3) (N := 7) hx hb hts in_X3 hown hK.1 hP 2 rfl rfl 0 (by decide) (hK.nw q153) (fun _ h9 => h9) rfl dX8_missing_15 ?_
    refine lv_iload_n hx hb dX8_missing_18 rfl (lv_at hl 0 rfl) ?_
    have b_1 := m_stands_r (g := g) (by assumption) (t := t) (by omega)
    refine n_zald (f := ar 2) hx hb hK.1 hP 3 1 rfl rfl (by omega) (by decide) dX8_missing_19 ?_
    rw [hbr.has (t := m_stands g t) (by omega)]
    refine n_ifb_ne (tgt := 25) hx hb dX8_missing_20 (by decide) (fun c_2 => ?_) (fun c_2 => ?_)
    · refine lv_aload_n hx hb dX8_missing_25 rfl (lv_at hl 2 rfl) ?_
      refine va_get (D := E.1) (ci := 7) (v := iv (bsI w9)) (C := RX8) (T := TX8) (N := 4) hx hb hts in_X8 hown hK.1 hP 0 rfl rfl 2 (by decide) (hts _ q787) (fun _ h9 => h9) rfl dX8_missing_26 ?_
      refine lv_iload_n hx hb dX8_missing_29 rfl (lv_at hl 0 rfl) ?_
      refine n_csi (x := b2 (w9 (m_stands g t))) (va_runSN (As := [iv (bsI w9), iv (m_stands g t)]) (rest := []) ⟨hx, hb, hml, hown, hts⟩ (mt_X1_isIn l E w9 (m_stands g t) (by omega)) ⟨(va_cnB 2 hts (lw_meth q751) rfl rfl rfl (hK.nv q803) (hts _ q94) (by decide +kernel) ⟨(show 0 + 1 ≤ 1 + (d + 1) by omega), (show 8 + (2 + 11) + 0 ≤ 22 + 25 * (d + 1) by omega)⟩), hts _ q750, trivial⟩ (PW_S (hP.sub (ws' := []) [] rfl) hK) rfl rfl hl.1 rfl (lv_room (Nat.le_of_ble_eq_true rfl)) dX8_missing_30 ⟨Nat.le_of_ble_eq_true rfl, Nat.le_of_ble_eq_true rfl⟩) ?_
      refine n_ifb_eq (tgt := 38) hx hb dX8_missing_33 (by decide) (fun c_3 => ?_) (fun c_3 => ?_)
      · have hha : m_has g (m_stands g t) = true := by assumption
        have hn2 : ¬ (0 ≤ m_exist g (m_stands g t) th ∨ f9 (m_stands g t) = true) := by
          have q9 := hw (m_stands g t) hur.1 hur.2 hha
          rw [show w9 (m_stands g t) = false by assumption] at q9
          rintro (h | h)
          · rw [decide_eq_true h] at q9; exact absurd q9 (by simp)
          · rw [h, Bool.or_true] at q9; exact absurd q9 (by decide)
        refine lv_iconst (v := iI 0) hx hb dX8_missing_38 rfl ?_
        refine lv_istore (lv' := [(4, iv 0), (3, iv (m_stands g t)), (2, .ref (o 1)), (0, .ref oc), (1, iv t)]) hx hb dX8_missing_39 hl (by decide) rfl (fun ls hl => ?_)
        have l41 : ∀ (fu : Nat) (x4 : Int) (wv : Int → Bool) (kv : Int), (0 ≤ x4 ∧ x4 ≤ m_of g (m_stands g t) 2) → ((CZ g th d (m_stands g t) f9 (x4)).2.2 = -1) → (∀ v, 0 ≤ v → v < 8 → m_has g v = true → wv v = (decide (0 ≤ m_exist g v th) || (CZ g th d (m_stands g t) f9 (x4)).2.1 v)) → (kv + 1 = n9 + (CZ g th d (m_stands g t) f9 (x4)).1) → (m_of g (m_stands g t) 2 - x4 < (fu : Int)) → ∀ (H : Heap) (locs : List Loc), va_P E.1 CL (([(oc, .inr (7, [.ref (o 0), iv th, iv (bsI wv), iv kv]))]) ++ (SW E o sc ar)) H → va_D A (([(oc, .inr (7, [.ref (o 0), iv th, iv (bsI wv), iv kv]))]) ++ (SW E o sc ar)) → va_S A s.heap H locs → ∀ ls : Array Slot, lv_has ls 6 [(4, iv x4), (3, iv (m_stands g t)), (2, .ref (o 1)), (0, .ref oc), (1, iv t)] → W p l e (headSpec (ws_ yX8_missing cX8_missing 6 (some .int)) { frames := 1 + (d + 1), cells := 0, slots := 0, locals := 22 + 25 * (d + 1) }).room s m ([.ref oc, iv t] : List Value).toArray below meth c H locs 0 0 (MQ below (UQx E (fun u : (Int → Bool) × Int => (m_cnt g th (d + 1) t (f9, -1)).2.2 = -1 → (∀ v, 0 ≤ v → v < 8 → m_has g v = true → u.1 v = (decide (0 ≤ m_exist g v th) || (m_cnt g th (d + 1) t (f9, -1)).2.1 v)) ∧ u.2 = n9 + (m_cnt g th (d + 1) t (f9, -1)).1) (fun u : (Int → Bool) × Int => (m_cnt g th (d + 1) t (f9, -1)).2.2) (fun u : (Int → Bool) × Int => ([(oc, .inr (7, [.ref (o 0), iv th, iv (bsI u.1), iv u.2]))]) ++ (SW E o sc ar)) A) ([.ref oc, iv t] : List Value).toArray s 0 0 A) (F0 m 41 ls []) := by
          intro fu
          induction fu with
          | zero =>
            intro x4 wv kv il41_0 il41_1 il41_2 il41_3 hm
            exfalso; omega
          | succ fu ih =>
            intro x4 wv kv il41_0 il41_1 il41_2 il41_3 hm H locs hP hD hS ls hl
            have ihl41 := ih
            refine lv_iload hx hb dX8_missing_41 (lv_at hl 0 rfl) ?_
            refine lv_aload_n hx hb dX8_missing_43 rfl (lv_at hl 2 rfl) ?_
            refine va_getN (D := E.1) (ci := 3) (v := .ref (o 5)) (C := RX3) (T := TX3) (N := 7) hx hb hts in_X3 hown hK.1 hP 2 rfl rfl 3 (by decide) (hK.nw q163) (fun _ h9 => h9) rfl dX8_missing_44 ?_
            refine lv_iload_n hx hb dX8_missing_47 rfl (lv_at hl 1 rfl) ?_
            refine n_iald (f := ar 5) hx hb hK.1 hP 6 0 rfl rfl (by omega) (by decide) dX8_missing_48 ?_
            rw [hbr.cnt (t := m_stands g t) (by omega) (by first | assumption | exact HN_pos hhn (t := m_stands g t) (by omega) (by omega))]
            have b_4 := htw (m_stands g t) (by omega) (by omega)
            refine n_icmp_ge (tgt := 94) hx hb dX8_missing_49 (by decide) (by omega) (by omega) (fun c_5 => ?_) (fun c_5 => ?_)
            · refine lv_aload_n hx hb dX8_missing_94 rfl (lv_at hl 3 rfl) ?_
              refine lv_dup hx hb dX8_missing_95 rfl ?_
              refine va_get (D := E.1) (ci := 7) (v := iv kv) (C := RX8) (T := TX8) (N := 4) hx hb hts in_X8 hown hK.1 hP 0 rfl rfl 3 (by decide) (hts _ q788) (fun _ h9 => h9) rfl dX8_missing_96 ?_
              refine lv_iconst (v := iI 1) hx hb dX8_missing_99 rfl ?_
              refine n_iadd hx hb dX8_missing_100 ?_
              refine va_put (D := E.1) (ci := 7) (v := iv (kv + 1)) (ty := .int) (C := RX8) (T := TX8) (N := 4) hx hb hts in_X8 tyX8 tyX8_ok nmX8 hown hK.1 hP hD hS 0 rfl rfl 3 (by decide) (hts _ q788) (fun _ h9 => h9) rfl (by decide +kernel) rfl rfl (Nat.le_of_ble_eq_true rfl) dX8_missing_101 (fun H locs hP hD hS => ?_)
              have hP : va_P E.1 CL (([(oc, .inr (7, [.ref (o 0), iv th, iv (bsI wv), iv (kv + 1)]))]) ++ (SW E o sc ar)) H := hP
              have hD : va_D A (([(oc, .inr (7, [.ref (o 0), iv th, iv (bsI wv), iv (kv + 1)]))]) ++ (SW E o sc ar)) := hD
              refine lv_aload_n hx hb dX8_missing_104 rfl (lv_at hl 3 rfl) ?_
              refine lv_dup hx hb dX8_missing_105 rfl ?_
              refine va_get (D := E.1) (ci := 7) (v := iv (bsI wv)) (C := RX8) (T := TX8) (N := 4) hx hb hts in_X8 hown hK.1 hP 0 rfl rfl 2 (by decide) (hts _ q787) (fun _ h9 => h9) rfl dX8_missing_106 ?_
              have j_6 : W p l e (headSpec (ws_ yX8_missing cX8_missing 6 (some .int)) { frames := 1 + (d + 1), cells := 0, slots := 0, locals := 22 + 25 * (d + 1) }).room s m ([.ref oc, iv t] : List Value).toArray below meth c H locs 0 0 (MQ below (UQx E (fun u : (Int → Bool) × Int => (m_cnt g th (d + 1) t (f9, -1)).2.2 = -1 → (∀ v, 0 ≤ v → v < 8 → m_has g v = true → u.1 v = (decide (0 ≤ m_exist g v th) || (m_cnt g th (d + 1) t (f9, -1)).2.1 v)) ∧ u.2 = n9 + (m_cnt g th (d + 1) t (f9, -1)).1) (fun u : (Int → Bool) × Int => (m_cnt g th (d + 1) t (f9, -1)).2.2) (fun u : (Int → Bool) × Int => ([(oc, .inr (7, [.ref (o 0), iv th, iv (bsI u.1), iv u.2]))]) ++ (SW E o sc ar)) A) ([.ref oc, iv t] : List Value).toArray s 0 0 A) (F0 m 127 ls [iv (bsI (fun v => decide (v = m_stands g t) && !(decide (m_of g (m_stands g t) 0 = 101)))), iv (bsI wv), .ref oc]) := by
                refine n_ior_bs hx hb dX8_missing_127 ?_
                refine va_put (D := E.1) (ci := 7) (v := iv (bsI (fun v => wv v || (fun v => decide (v = m_stands g t) && !(decide (m_of g (m_stands g t) 0 = 101))) v))) (ty := .int) (C := RX8) (T := TX8) (N := 4) hx hb hts in_X8 tyX8 tyX8_ok nmX8 hown hK.1 hP hD hS 0 rfl rfl 2 (by decide) (hts _ q787) (fun _ h9 => h9) rfl (by decide +kernel) rfl rfl (Nat.le_of_ble_eq_true rfl) dX8_missing_128 (fun H locs hP hD hS => ?_)
                have hP : va_P E.1 CL (([(oc, .inr (7, [.ref (o 0), iv th, iv (bsI (fun v => wv v || (fun v => decide (v = m_stands g t) && !(decide (m_of g (m_stands g t) 0 = 101))) v)), iv (kv + 1)]))]) ++ (SW E o sc ar)) H := hP
                have hD : va_D A (([(oc, .inr (7, [.ref (o 0), iv th, iv (bsI (fun v => wv v || (fun v => decide (v = m_stands g t) && !(decide (m_of g (m_stands g t) 0 = 101))) v)), iv (kv + 1)]))]) ++ (SW E o sc ar)) := hD
                have hx4 : x4 = m_of g (m_stands g t) 2 := by omega
                have hgo := cnt_go (d := d) (th := th) hha hn2
                have hwit : (m_cnt g th (d + 1) t (f9, -1)).2.2 = -1 → (∀ v, 0 ≤ v → v < 8 → m_has g v = true → (fun v => wv v || (fun v => decide (v = m_stands g t) && !(decide (m_of g (m_stands g t) 0 = 101))) v) v = (decide (0 ≤ m_exist g v th) || (m_cnt g th (d + 1) t (f9, -1)).2.1 v)) ∧ kv + 1 = n9 + (m_cnt g th (d + 1) t (f9, -1)).1 := by
                  intro _
                  rw [hgo, ← hx4]
                  refine ⟨fun v v0 v8 hh => ?_, il41_3⟩
                  show (wv v || (fun v => decide (v = m_stands g t) && !(decide (m_of g (m_stands g t) 0 = 101))) v) = (decide (0 ≤ m_exist g v th) || (if m_of g (m_stands g t) 0 = 101 then (CZ g th d (m_stands g t) f9 (x4)).2.1 else fun v => (CZ g th d (m_stands g t) f9 (x4)).2.1 v || decide (v = m_stands g t)) v)
                  rw [il41_2 v v0 v8 hh]
                  by_cases h101 : m_of g (m_stands g t) 0 = 101
                  · rw [if_pos h101, decide_eq_true h101]; simp
                  · rw [if_neg h101, decide_eq_false h101]; simp [Bool.or_assoc]
                refine lv_iconst (v := iI (-1)) hx hb dX8_missing_131 rfl ?_
                have hfin : (-1) = (m_cnt g th (d + 1) t (f9, -1)).2.2 := by
                  rw [hgo, ← hx4]
                  exact il41_1.symm
                exact W.iret (v := iI (-1)) hx hb hr (fun tt_ ht_ hW_ => ⟨⟨iI (-1), ((fun v => wv v || (fun v => decide (v = m_stands g t) && !(decide (m_of g (m_stands g t) 0 = 101))) v), kv + 1), rfl, ⟨hwit, (congrArg iI hfin)⟩, by rw [ht_]; exact hP, hD⟩, hS.F ht_⟩) hS.2.2 dX8_missing_132
              refine lv_aload_n hx hb dX8_missing_109 rfl (lv_at hl 2 rfl) ?_
              refine va_getN (D := E.1) (ci := 3) (v := .ref (o 3)) (C := RX3) (T := TX3) (N := 7) hx hb hts in_X3 hown hK.1 hP 2 rfl rfl 1 (by decide) (hK.nw q157) (fun _ h9 => h9) rfl dX8_missing_110 ?_
              refine lv_iload_n hx hb dX8_missing_113 rfl (lv_at hl 1 rfl) ?_
              refine n_cald (f := ar 3) hx hb hK.1 hP 4 2 rfl rfl (by omega) (by decide) dX8_missing_114 ?_
              rw [hbr.sco (t := m_stands g t) (by omega) (by first | assumption | exact HN_pos hhn (t := m_stands g t) (by omega) (by omega))]
              refine lv_bipush (v := iI 101) hx hb dX8_missing_115 (by decide) ?_
              have b_7 := hsc (m_stands g t) (by omega) (by omega)
              refine n_icmp_ne (tgt := 124) hx hb dX8_missing_117 (by decide) (by omega) (by omega) (fun c_8 => ?_) (fun c_8 => ?_)
              · refine lv_iconst (v := iI 1) hx hb dX8_missing_124 rfl ?_
                refine lv_iload_n hx hb dX8_missing_125 rfl (lv_at hl 1 rfl) ?_
                refine n_ishl1_bs hx hb (by omega) dX8_missing_126 ?_
                refine n_top (y := bsI (fun v => decide (v = m_stands g t) && !(decide (m_of g (m_stands g t) 0 = 101)))) (by first | exact congrArg bsI (funext fun v => by simp [c_2, c_3, c_5, c_8, b2_t]) | (refine bsI_0.symm.trans (congrArg bsI (funext fun v => ?_)); simp [c_2, c_3, c_5, c_8, b2_t])) ?_
                exact j_6
              · refine lv_iconst (v := iI 0) hx hb dX8_missing_120 rfl ?_
                refine lv_goto (tgt := 127) hx hb dX8_missing_121 (by decide) ?_
                refine n_top (y := bsI (fun v => decide (v = m_stands g t) && !(decide (m_of g (m_stands g t) 0 = 101)))) (by first | exact congrArg bsI (funext fun v => by simp [c_2, c_3, c_5, c_8, b2_t]) | (refine bsI_0.symm.trans (congrArg bsI (funext fun v => ?_)); simp [c_2, c_3, c_5, c_8, b2_t])) ?_
                exact j_6
            · refine lv_aload_n hx hb dX8_missing_52 rfl (lv_at hl 2 rfl) ?_
              refine lv_iload_n hx hb dX8_missing_53 rfl (lv_at hl 1 rfl) ?_
              refine lv_iload hx hb dX8_missing_54 (lv_at hl 0 rfl) ?_
              refine n_csi (x := b2 (!(m_dir g (m_stands g t) x4))) (va_runV (As := [iv (m_stands g t), iv x4]) (rest := []) ⟨hx, hb, hml, hown, hts⟩ (mt_X3_isLazy l E o sc ar (m_stands g t) x4 g (by omega) (by assumption) (by first | assumption | exact HN_pos hhn (t := m_stands g t) (by omega) (by omega)) (by omega) (by assumption)) (cwV 2 hts (lw_V q804 q550 q551 q96 q552) rfl rfl rfl (by decide +kernel) ⟨(show 0 + 1 ≤ 1 + (d + 1) by omega), (show 8 + (3 + 11) + 0 ≤ 22 + 25 * (d + 1) by omega)⟩) (PW_V (hP.sub (ws' := BW E o sc ar) [2, 3, 4, 5, 6, 7, 8, 9] rfl) hK (va_recv hK.1 hP (ci := 3) (q0 := 2) rfl rfl)) rfl rfl hl.1 rfl (lv_room (Nat.le_of_ble_eq_true rfl)) dX8_missing_56 ⟨Nat.le_of_ble_eq_true rfl, Nat.le_of_ble_eq_true rfl⟩) ?_
              refine n_ifb_eq (tgt := 66) hx hb dX8_missing_59 (by decide) (fun c_9 => ?_) (fun c_9 => ?_)
              · have hdir : m_dir g (m_stands g t) x4 = true := by simpa using c_9
                have hrq := hrk (m_stands g t) x4 hur.1 hur.2 (by omega) (by omega) hdir
                refine lv_aload_n hx hb dX8_missing_66 rfl (lv_at hl 3 rfl) ?_
                refine lv_aload_n hx hb dX8_missing_67 rfl (lv_at hl 2 rfl) ?_
                refine lv_iload_n hx hb dX8_missing_68 rfl (lv_at hl 1 rfl) ?_
                refine lv_iload hx hb dX8_missing_69 (lv_at hl 0 rfl) ?_
                refine n_csi (x := m_need g (m_stands g t) x4) (va_runV (As := [iv (m_stands g t), iv x4]) (rest := [.ref oc]) ⟨hx, hb, hml, hown, hts⟩ (mt_X3_need l E o sc ar (m_stands g t) x4 g (by omega) (by assumption) (by first | assumption | exact HN_pos hhn (t := m_stands g t) (by omega) (by omega)) (by omega) (by assumption)) (cwV 2 hts (lw_V q805 q542 q543 q96 q544) rfl rfl rfl (by decide +kernel) ⟨(show 0 + 1 ≤ 1 + (d + 1) by omega), (show 8 + (3 + 11) + 0 ≤ 22 + 25 * (d + 1) by omega)⟩) (PW_V (hP.sub (ws' := BW E o sc ar) [2, 3, 4, 5, 6, 7, 8, 9] rfl) hK (va_recv hK.1 hP (ci := 3) (q0 := 2) rfl rfl)) rfl rfl hl.1 rfl (lv_room (Nat.le_of_ble_eq_true rfl)) dX8_missing_71 ⟨Nat.le_of_ble_eq_true rfl, Nat.le_of_ble_eq_true rfl⟩) ?_
                have b_10 := m_need_r g (m_stands g t) x4
                refine n_cuxS (x := fun u_11 => (m_cnt g th d (m_need g (m_stands g t) x4) (((CZ g th d (m_stands g t) f9 (x4)).2.1), -1)).2.2) (w2 := fun u_11 => ([(oc, .inr (7, [.ref (o 0), iv th, iv (bsI u_11.1), iv u_11.2]))]) ++ (SW E o sc ar)) (va_runV (As := [iv (m_need g (m_stands g t) x4)]) (rest := []) ⟨hx, hb, hml, hown, hts⟩ (ihd oc th wv kv o sc ar (m_need g (m_stands g t) x4) g r ((CZ g th d (m_stands g t) f9 (x4)).2.1) (by omega) (by first | assumption | exact hsr.br) (by assumption) (by assumption) (by assumption) (by assumption) (by assumption) (by omega) (by omega) (by exact il41_2) _) (cwV 1 hts (lw_V q806 q799 q800 q124 q801) rfl rfl rfl (by decide +kernel) ⟨(show 1 + d + 1 ≤ 1 + (d + 1) by omega), (show 8 + (6 + 11) + (22 + 25 * d) ≤ 22 + 25 * (d + 1) by omega)⟩) (UW_V hP hK (hD) (va_recv hK.1 hP (ci := 7) (q0 := 0) rfl rfl)) rfl rfl hl.1 rfl (lv_room (Nat.le_of_ble_eq_true rfl)) dX8_missing_74 ⟨Nat.le_of_ble_eq_true rfl, Nat.le_of_ble_eq_true rfl⟩) hP hD hS hA [0, 1, 2, 3, 4, 5, 6, 7, 8, 9, 10, 11, 12, 13, 14, 15, 16, 17] [] [0, 1, 2, 3, 4, 5, 6, 7, 8, 9, 10, 11, 12, 13, 14, 15, 16, 17] rfl rfl rfl rfl rfl (fun _ => rfl) (fun u_11 H locs hu_11 hP hD hS => ?_)
                have hu_11 : (m_cnt g th d (m_need g (m_stands g t) x4) (((CZ g th d (m_stands g t) f9 (x4)).2.1), -1)).2.2 = -1 → (∀ v, 0 ≤ v → v < 8 → m_has g v = true → u_11.1 v = (decide (0 ≤ m_exist g v th) || (m_cnt g th d (m_need g (m_stands g t) x4) (((CZ g th d (m_stands g t) f9 (x4)).2.1), -1)).2.1 v)) ∧ u_11.2 = kv + (m_cnt g th d (m_need g (m_stands g t) x4) (((CZ g th d (m_stands g t) f9 (x4)).2.1), -1)).1 := hu_11
                have hP : va_P E.1 CL (([(oc, .inr (7, [.ref (o 0), iv th, iv (bsI u_11.1), iv u_11.2]))]) ++ (SW E o sc ar)) H := hP
                have hD : va_D A (([(oc, .inr (7, [.ref (o 0), iv th, iv (bsI u_11.1), iv u_11.2]))]) ++ (SW E o sc ar)) := hD
                refine lv_istore (lv' := [(5, iv ((m_cnt g th d (m_need g (m_stands g t) x4) (((CZ g th d (m_stands g t) f9 (x4)).2.1), -1)).2.2)), (4, iv x4), (3, iv (m_stands g t)), (2, .ref (o 1)), (0, .ref oc), (1, iv t)]) hx hb dX8_missing_77 hl (by decide) rfl (fun ls hl => ?_)
                refine lv_iload hx hb dX8_missing_79 (lv_at hl 0 rfl) ?_
                refine lv_iconst (v := iI (-1)) hx hb dX8_missing_81 rfl ?_
                have b_12 := (m_cnt_r (g := g) (by assumption) (by assumption) th d (m_need g (m_stands g t) x4) (((CZ g th d (m_stands g t) f9 (x4)).2.1), -1) (by omega) (by omega) (show (-1 : Int) ≤ -1 by decide) (show (-1 : Int) < 8 by decide)).2
                refine n_icmp_eq (tgt := 88) hx hb dX8_missing_82 (by decide) (by omega) (by omega) (fun c_13 => ?_) (fun c_13 => ?_)
                · have hez : (CZ g th d (m_stands g t) f9 (x4 + 1)) = ((CZ g th d (m_stands g t) f9 (x4)).1 + (m_cnt g th d (m_need g (m_stands g t) x4) ((CZ g th d (m_stands g t) f9 (x4)).2.1, -1)).1, (m_cnt g th d (m_need g (m_stands g t) x4) ((CZ g th d (m_stands g t) f9 (x4)).2.1, -1)).2) := cz_dir (by omega) il41_1 hdir
                  obtain ⟨hu1, hu2⟩ := hu_11 (by assumption)
                  refine lv_iinc (v := iI (x4 + 1)) (lv' := [(4, iv (x4 + 1)), (5, iv ((m_cnt g th d (m_need g (m_stands g t) x4) (((CZ g th d (m_stands g t) f9 (x4)).2.1), -1)).2.2)), (3, iv (m_stands g t)), (2, .ref (o 1)), (0, .ref oc), (1, iv t)]) hx hb dX8_missing_88 hl (k := 1) rfl (iI_add _ _) (by decide) rfl (fun ls hl => ?_)
                  refine lv_goto (tgt := 41) hx hb dX8_missing_91 (by decide) ?_
                  exact ihl41 (x4 + 1) u_11.1 u_11.2 (by first | omega | rfl) (by rw [hez]; first | assumption | exact il41_1) (by rw [hez]; first | exact hu1 | exact il41_2) (by rw [hez]; first | exact il41_3 | (show _ = n9 + (_ + _); omega)) (by omega) H locs hP hD hS ls (lv_sub hl [0, 2, 3, 4, 5] rfl)
                · have hez : (CZ g th d (m_stands g t) f9 (x4 + 1)) = ((CZ g th d (m_stands g t) f9 (x4)).1 + (m_cnt g th d (m_need g (m_stands g t) x4) ((CZ g th d (m_stands g t) f9 (x4)).2.1, -1)).1, (m_cnt g th d (m_need g (m_stands g t) x4) ((CZ g th d (m_stands g t) f9 (x4)).2.1, -1)).2) := cz_dir (by omega) il41_1 hdir
                  have hst : (m_cnt g th (d + 1) t (f9, -1)).2.2 = (m_cnt g th d (m_need g (m_stands g t) x4) ((CZ g th d (m_stands g t) f9 (x4)).2.1, -1)).2.2 := by rw [cnt_go hha hn2]; show (CZ g th d (m_stands g t) f9 (m_of g (m_stands g t) 2)).2.2 = _; rw [cz_stay (k := x4 + 1) (by omega) (by omega) (by rw [hez]; show 0 ≤ (m_cnt g th d (m_need g (m_stands g t) x4) ((CZ g th d (m_stands g t) f9 (x4)).2.1, -1)).2.2; omega), hez]
                  have hwit : (m_cnt g th (d + 1) t (f9, -1)).2.2 = -1 → (∀ v, 0 ≤ v → v < 8 → m_has g v = true → u_11.1 v = (decide (0 ≤ m_exist g v th) || (m_cnt g th (d + 1) t (f9, -1)).2.1 v)) ∧ u_11.2 = n9 + (m_cnt g th (d + 1) t (f9, -1)).1 := by
                    intro h9
                    exfalso
                    omega
                  refine lv_iload hx hb dX8_missing_85 (lv_at hl 0 rfl) ?_
                  have hfin : (m_cnt g th d (m_need g (m_stands g t) x4) (((CZ g th d (m_stands g t) f9 (x4)).2.1), -1)).2.2 = (m_cnt g th (d + 1) t (f9, -1)).2.2 := by
                    exact hst.symm
                  exact W.iret (v := iI ((m_cnt g th d (m_need g (m_stands g t) x4) (((CZ g th d (m_stands g t) f9 (x4)).2.1), -1)).2.2)) hx hb hr (fun tt_ ht_ hW_ => ⟨⟨iI ((m_cnt g th d (m_need g (m_stands g t) x4) (((CZ g th d (m_stands g t) f9 (x4)).2.1), -1)).2.2), (u_11.1, u_11.2), rfl, ⟨hwit, (congrArg iI hfin)⟩, by rw [ht_]; exact hP, hD⟩, hS.F ht_⟩) hS.2.2 dX8_missing_87
              · have hdir : m_dir g (m_stands g t) x4 = false := by simpa using c_9
                refine lv_iconst (v := iI (-1)) hx hb dX8_missing_62 rfl ?_
                refine lv_goto (tgt := 77) hx hb dX8_missing_63 (by decide) ?_
                refine lv_istore (lv' := [(5, iv (-1)), (4, iv x4), (3, iv (m_stands g t)), (2, .ref (o 1)), (0, .ref oc), (1, iv t)]) hx hb dX8_missing_77 hl (by decide) rfl (fun ls hl => ?_)
                refine lv_iload hx hb dX8_missing_79 (lv_at hl 0 rfl) ?_
                refine lv_iconst (v := iI (-1)) hx hb dX8_missing_81 rfl ?_
                refine n_icmp_eq (tgt := 88) hx hb dX8_missing_82 (by decide) (by omega) (by omega) (fun _ => ?_) (fun c_14 => absurd c_14 (by decide))
                have hez : (CZ g th d (m_stands g t) f9 (x4 + 1)) = (CZ g th d (m_stands g t) f9 (x4)) := cz_lazy (by omega) hdir
                refine lv_iinc (v := iI (x4 + 1)) (lv' := [(4, iv (x4 + 1)), (5, iv (-1)), (3, iv (m_stands g t)), (2, .ref (o 1)), (0, .ref oc), (1, iv t)]) hx hb dX8_missing_88 hl (k := 1) rfl (iI_add _ _) (by decide) rfl (fun ls hl => ?_)
                refine lv_goto (tgt := 41) hx hb dX8_missing_91 (by decide) ?_
                exact ihl41 (x4 + 1) wv kv (by first | omega | rfl) (by rw [hez]; first | assumption | exact il41_1) (by rw [hez]; first | exact hu1 | exact il41_2) (by rw [hez]; first | exact il41_3 | (show _ = n9 + (_ + _); omega)) (by omega) H locs hP hD hS ls (lv_sub hl [0, 2, 3, 4, 5] rfl)
        exact l41 4 0 w9 n9 (by first | omega | rfl | trivial) (by rfl) (by exact hw) (by rfl) (by omega) s.heap [] hP hD hS ls hl
      · have hpre : 0 ≤ m_exist g (m_stands g t) th ∨ f9 (m_stands g t) = true := by have q9 := hw (m_stands g t) hur.1 hur.2 (by assumption); rw [show w9 (m_stands g t) = true by assumption] at q9; have q8 := q9.symm; rw [Bool.or_eq_true] at q8; exact q8.imp of_decide_eq_true id
        have hwit : (m_cnt g th (d + 1) t (f9, -1)).2.2 = -1 → (∀ v, 0 ≤ v → v < 8 → m_has g v = true → w9 v = (decide (0 ≤ m_exist g v th) || (m_cnt g th (d + 1) t (f9, -1)).2.1 v)) ∧ n9 = n9 + (m_cnt g th (d + 1) t (f9, -1)).1 := by
          intro _
          rw [cnt_ex (by assumption) hpre]
          exact ⟨hw, (Int.add_zero _).symm⟩
        refine lv_iconst (v := iI (-1)) hx hb dX8_missing_36 rfl ?_
        have hfin : (-1) = (m_cnt g th (d + 1) t (f9, -1)).2.2 := by
          rw [cnt_ex (by assumption) hpre]
        exact W.iret (v := iI (-1)) hx hb hr (fun tt_ ht_ hW_ => ⟨⟨iI (-1), (w9, n9), rfl, ⟨hwit, (congrArg iI hfin)⟩, by rw [ht_]; exact hP, hD⟩, hS.F ht_⟩) hS.2.2 dX8_missing_37
    · have hwit : (m_cnt g th (d + 1) t (f9, -1)).2.2 = -1 → (∀ v, 0 ≤ v → v < 8 → m_has g v = true → w9 v = (decide (0 ≤ m_exist g v th) || (m_cnt g th (d + 1) t (f9, -1)).2.1 v)) ∧ n9 = n9 + (m_cnt g th (d + 1) t (f9, -1)).1 := by
        intro h9
        rw [cnt_no (by assumption)] at h9
        exact absurd (show m_stands g t = -1 from h9) (by omega)
      refine lv_iload_n hx hb dX8_missing_23 rfl (lv_at hl 0 rfl) ?_
      have hfin : m_stands g t = (m_cnt g th (d + 1) t (f9, -1)).2.2 := by
        rw [cnt_no (by assumption)]
      exact W.iret (v := iI (m_stands g t)) hx hb hr (fun tt_ ht_ hW_ => ⟨⟨iI (m_stands g t), (w9, n9), rfl, ⟨hwit, (congrArg iI hfin)⟩, by rw [ht_]; exact hP, hD⟩, hS.F ht_⟩) hS.2.2 dX8_missing_24
