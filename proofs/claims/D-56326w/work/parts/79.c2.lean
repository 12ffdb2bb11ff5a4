set_option maxHeartbeats 4000000 in
set_option maxRecDepth 100000 in
theorem mt_X2_existing (l : Launch) (E : EE) (o : Nat → Nat) (sc : Nat → Int) (ar : Nat → Int → Int) (t : Int) (th : Int) (g : Int → Int) (ht : 0 ≤ t ∧ t < 8) (hth : -2147483648 ≤ th ∧ th < 2147483648) (hsr : SZ g sc ar) (how : OY g) (hsc : SC g) (hpl : ∀ k, 0 ≤ k → k < g 1 → 0 ≤ m_thing g k 1 ∧ m_thing g k 1 < 2147483648) (hh : m_has g t = true) : Met l yX2_existing (ws_ yX2_existing cX2_existing 5 (some .int)) { frames := 0, cells := 0, slots := 0, locals := 0 } (va_Pc [.ref (o 0), iv t, iv th] (PW E (SW E o sc ar))) (NP (m_exist g t th)) 0 0 (fun _ => False) := by
  refine Met.ofW (cc := cX2_existing) (maxL := 5) (ret := (some .int)) (by decide) rfl ?_
  intro p e s m args below meth c s₁ B hml hv
  obtain ⟨rfl, hP, hK⟩ := hv
  have hx := B.exec
  have hb := B.bytes
  have hr := B.returns
  have hts := atoms_spec (ws := (ws_ yX2_existing cX2_existing 5 (some .int))) B.pre
  have hts : ∀ w ∈ lw_all, w.before _ s = true := fun w h => hts w (List.mem_cons_of_mem _ h)
  have hown : s.vm.findClass RX2 = some m.cls := findClass_of_methodNamed B.named
  have hlocks := B.notSynchronized
  have hl := lv_entry ([.ref (o 0), iv t, iv th]) (n := 5) (Nat.le_of_ble_eq_true rfl)
  rw [lg_entry_eq]
  generalize (lg_sl ([.ref (o 0), iv t, iv th]) ++ List.replicate (5 - (lg_sl ([.ref (o 0), iv t, iv th])).length) Slot.unset).toArray = ls at hl ⊢
  have hl : lv_has ls 5 [(0, .ref (o 0)), (1, iv t), (2, iv th)] := hl
  have hn1 := hsr.n1
  have ho1 := how.1
  have ho2 := how.2.1
  have hs4 := hsc t ht.1 ht.2
  refine lv_aload_n hx hb dX2_existing_0 rfl (lv_at hl 0 rfl) ?_
  refine va_get (D := E.1) (ci := 2) (v := .ref (o 1)) (C := RX2) (T := TX2) (N := 14) hx hb hts in_X2 hown hK.1 hP 0 rfl rfl 0 (by decide) (hts _ q188) (fun _ h9 => h9) rfl dX2_existing_1 ?_
  refine va_getN (D := E.1) (ci := 3) (v := .ref (o 3)) (C := RX3) (T := TX3) (N := 7) hx hb hts in_X3 hown hK.1 hP 1 rfl rfl 1 (by decide) (hK.nw q158) (fun _ h9 => h9) rfl dX2_existing_4 ?_
  refine lv_iload_n hx hb dX2_existing_7 rfl (lv_at hl 1 rfl) ?_
  refine n_cald (f := ar 3) hx hb hK.1 hP 3 2 rfl rfl (by omega) (by decide) dX2_existing_8 ?_
  rw [hsr.br.sco (t := t) (by omega) (by first | assumption | exact HN_pos hhn (t := t) (by omega) (by omega))]
  refine lv_istore_n (lv' := [(3, iv (m_of g t 0)), (0, .ref (o 0)), (1, iv t), (2, iv th)]) hx hb dX2_existing_9 rfl hl (by decide) rfl (fun ls hl => ?_)
  refine lv_iconst (v := iI 0) hx hb dX2_existing_10 rfl ?_
  refine lv_istore (lv' := [(4, iv 0), (3, iv (m_of g t 0)), (0, .ref (o 0)), (1, iv t), (2, iv th)]) hx hb dX2_existing_11 hl (by decide) rfl (fun ls hl => ?_)
  have l13 : ∀ (fu : Nat) (x4 : Int), (0 ≤ x4 ∧ x4 ≤ g 1) → (fnd (fun k => m_here g k && (decide (m_thing g k 0 = t) && (decide (m_of g t 0 = 115) || decide (m_thing g k 1 = th)))) x4 = -1) → (m_of g t 0 = 101 → x4 = 0) → (g 1 - x4 < (fu : Int)) → ∀ ls : Array Slot, lv_has ls 5 [(4, iv x4), (3, iv (m_of g t 0)), (0, .ref (o 0)), (1, iv t), (2, iv th)] → W p l e (headSpec (ws_ yX2_existing cX2_existing 5 (some .int)) { frames := 0, cells := 0, slots := 0, locals := 0 }).room s m ([.ref (o 0), iv t, iv th] : List Value).toArray below meth c s.heap [] 0 0 (MQ below (NP (m_exist g t th)) ([.ref (o 0), iv t, iv th] : List Value).toArray s 0 0 (fun _ => False)) (F0 m 13 ls []) := by
    intro fu
    induction fu with
    | zero =>
      intro x4 il13_0 il13_1 il13_2 hm
      exfalso; omega
    | succ fu ih =>
      intro x4 il13_0 il13_1 il13_2 hm ls hl
      have ihl13 := ih
      refine lv_iload hx hb dX2_existing_13 (lv_at hl 0 rfl) ?_
      refine lv_aload_n hx hb dX2_existing_15 rfl (lv_at hl 2 rfl) ?_
      refine va_get (D := E.1) (ci := 2) (v := iv (sc 2)) (C := RX2) (T := TX2) (N := 14) hx hb hts in_X2 hown hK.1 hP 0 rfl rfl 2 (by decide) (hts _ q193) (fun _ h9 => h9) rfl dX2_existing_16 ?_
      refine n_icmp_ge (tgt := 75) hx hb dX2_existing_19 (by decide) (by omega) (by omega) (fun c_1 => ?_) (fun c_1 => ?_)
      · refine lv_iconst (v := iI (-1)) hx hb dX2_existing_75 rfl ?_
        have hfin : (-1) = m_exist g t th := by
          unfold m_exist
          by_cases hq : m_of g t 0 = 101
          · rw [if_pos hq]
          · rw [if_neg hq]
            obtain rfl : x4 = g 1 := by omega
            exact il13_1.symm
        exact W.iret (v := iI (-1)) hx hb hr (fun tt_ ht_ hW_ => ⟨iI (-1), rfl, (congrArg iI hfin), ht_⟩) (fun q h => by cases h) dX2_existing_76
      · refine lv_iload_n hx hb dX2_existing_22 rfl (lv_at hl 1 rfl) ?_
        refine lv_bipush (v := iI 101) hx hb dX2_existing_23 (by decide) ?_
        have b_2 := hsc t (by omega) (by omega)
        refine n_icmp_eq (tgt := 75) hx hb dX2_existing_25 (by decide) (by omega) (by omega) (fun c_3 => ?_) (fun c_3 => ?_)
        · refine lv_iconst (v := iI (-1)) hx hb dX2_existing_75 rfl ?_
          have hfin : (-1) = m_exist g t th := by
            unfold m_exist
            by_cases hq : m_of g t 0 = 101
            · rw [if_pos hq]
            · rw [if_neg hq]
              obtain rfl : x4 = g 1 := by omega
              exact il13_1.symm
          exact W.iret (v := iI (-1)) hx hb hr (fun tt_ ht_ hW_ => ⟨iI (-1), rfl, (congrArg iI hfin), ht_⟩) (fun q h => by cases h) dX2_existing_76
        · refine lv_aload_n hx hb dX2_existing_28 rfl (lv_at hl 2 rfl) ?_
          refine va_get (D := E.1) (ci := 2) (v := .ref (o 12)) (C := RX2) (T := TX2) (N := 14) hx hb hts in_X2 hown hK.1 hP 0 rfl rfl 5 (by decide) (hts _ q199) (fun _ h9 => h9) rfl dX2_existing_29 ?_
          refine lv_iload hx hb dX2_existing_32 (lv_at hl 0 rfl) ?_
          refine n_zald (f := ar 12) hx hb hK.1 hP 12 1 rfl rfl (by omega) (by decide) dX2_existing_34 ?_
          rw [hsr.her (k := x4) (by omega)]
          refine n_ifb_eq (tgt := 69) hx hb dX2_existing_35 (by decide) (fun c_4 => ?_) (fun c_4 => ?_)
          · refine lv_iinc (v := iI (x4 + 1)) (lv' := [(4, iv (x4 + 1)), (3, iv (m_of g t 0)), (0, .ref (o 0)), (1, iv t), (2, iv th)]) hx hb dX2_existing_69 hl (k := 0) rfl (iI_add _ _) (by decide) rfl (fun ls hl => ?_)
            refine lv_goto (tgt := 13) hx hb dX2_existing_72 (by decide) ?_
            exact ihl13 (x4 + 1) (by first | omega | rfl) (by exact fnd_no (by omega) il13_1 (by simp [*])) (by first | omega | rfl) (by omega) ls (lv_sub hl [0, 1, 2, 3, 4] rfl)
          · refine lv_aload_n hx hb dX2_existing_38 rfl (lv_at hl 2 rfl) ?_
            refine va_get (D := E.1) (ci := 2) (v := .ref (o 10)) (C := RX2) (T := TX2) (N := 14) hx hb hts in_X2 hown hK.1 hP 0 rfl rfl 3 (by decide) (hts _ q195) (fun _ h9 => h9) rfl dX2_existing_39 ?_
            refine lv_iload hx hb dX2_existing_42 (lv_at hl 0 rfl) ?_
            refine n_iald (f := ar 10) hx hb hK.1 hP 10 0 rfl rfl (by omega) (by decide) dX2_existing_44 ?_
            rw [hsr.kind (k := x4) (by omega)]
            refine lv_iload_n hx hb dX2_existing_45 rfl (lv_at hl 3 rfl) ?_
            have b_5 := (how.2.2 x4 (by omega) (by omega)).1
            refine n_icmp_ne (tgt := 69) hx hb dX2_existing_46 (by decide) (by omega) (by omega) (fun c_6 => ?_) (fun c_6 => ?_)
            · refine lv_iinc (v := iI (x4 + 1)) (lv' := [(4, iv (x4 + 1)), (3, iv (m_of g t 0)), (0, .ref (o 0)), (1, iv t), (2, iv th)]) hx hb dX2_existing_69 hl (k := 0) rfl (iI_add _ _) (by decide) rfl (fun ls hl => ?_)
              refine lv_goto (tgt := 13) hx hb dX2_existing_72 (by decide) ?_
              exact ihl13 (x4 + 1) (by first | omega | rfl) (by exact fnd_no (by omega) il13_1 (by simp [*])) (by first | omega | rfl) (by omega) ls (lv_sub hl [0, 1, 2, 3, 4] rfl)
            · refine lv_iload_n hx hb dX2_existing_49 rfl (lv_at hl 1 rfl) ?_
              refine lv_bipush (v := iI 115) hx hb dX2_existing_50 (by decide) ?_
              refine n_icmp_eq (tgt := 66) hx hb dX2_existing_52 (by decide) (by omega) (by omega) (fun c_7 => ?_) (fun c_7 => ?_)
              · refine lv_iload hx hb dX2_existing_66 (lv_at hl 0 rfl) ?_
                have hfin : x4 = m_exist g t th := by
                  unfold m_exist
                  rw [if_neg (by assumption)]
                  exact (fnd_yes (by omega) (by omega) il13_1 (by simp [*])).symm
                exact W.iret (v := iI x4) hx hb hr (fun tt_ ht_ hW_ => ⟨iI x4, rfl, (congrArg iI hfin), ht_⟩) (fun q h => by cases h) dX2_existing_68
              · refine lv_aload_n hx hb dX2_existing_55 rfl (lv_at hl 2 rfl) ?_
                refine va_get (D := E.1) (ci := 2) (v := .ref (o 11)) (C := RX2) (T := TX2) (N := 14) hx hb hts in_X2 hown hK.1 hP 0 rfl rfl 4 (by decide) (hts _ q197) (fun _ h9 => h9) rfl dX2_existing_56 ?_
                refine lv_iload hx hb dX2_existing_59 (lv_at hl 0 rfl) ?_
                refine n_iald (f := ar 11) hx hb hK.1 hP 11 0 rfl rfl (by omega) (by decide) dX2_existing_61 ?_
                rw [hsr.plc (k := x4) (by omega)]
                refine lv_iload_n hx hb dX2_existing_62 rfl (lv_at hl 4 rfl) ?_
                have b_8 := hpl x4 (by omega) (by omega)
                refine n_icmp_ne (tgt := 69) hx hb dX2_existing_63 (by decide) (by omega) (by omega) (fun c_9 => ?_) (fun c_9 => ?_)
                · refine lv_iinc (v := iI (x4 + 1)) (lv' := [(4, iv (x4 + 1)), (3, iv (m_of g t 0)), (0, .ref (o 0)), (1, iv t), (2, iv th)]) hx hb dX2_existing_69 hl (k := 0) rfl (iI_add _ _) (by decide) rfl (fun ls hl => ?_)
                  refine lv_goto (tgt := 13) hx hb dX2_existing_72 (by decide) ?_
                  exact ihl13 (x4 + 1) (by first | omega | rfl) (by exact fnd_no (by omega) il13_1 (by simp [*])) (by first | omega | rfl) (by omega) ls (lv_sub hl [0, 1, 2, 3, 4] rfl)
                · refine lv_iload hx hb dX2_existing_66 (lv_at hl 0 rfl) ?_
                  have hfin : x4 = m_exist g t th := by
                    unfold m_exist
                    rw [if_neg (by assumption)]
                    exact (fnd_yes (by omega) (by omega) il13_1 (by simp [*])).symm
                  exact W.iret (v := iI x4) hx hb hr (fun tt_ ht_ hW_ => ⟨iI x4, rfl, (congrArg iI hfin), ht_⟩) (fun q h => by cases h) dX2_existing_68
  exact l13 161 0 (by first | omega | rfl | trivial) (by rfl) (by first | omega | rfl | trivial) (by omega) ls hl
set_option maxHeartbeats 4000000 in
set_option maxRecDepth 100000 in
theorem mt_X2_hasObjectOf (l : Launch) (E : EE) (o : Nat → Nat) (sc : Nat → Int) (ar : Nat → Int → Int) (t : Int) (g : Int → Int) (ht : 0 ≤ t ∧ t < 8) (hsr : SR g sc ar) (how : OY g) : Met l yX2_hasObjectOf (ws_ yX2_hasObjectOf cX2_hasObjectOf 4 (some .boolean)) { frames := 0, cells := 0, slots := 0, locals := 0 } (va_Pc [.ref (o 0), iv t] (PW E (SW E o sc ar))) (NP (b2 (m_hasobj g t))) 0 0 (fun _ => False) := by
  refine Met.ofW (cc := cX2_hasObjectOf) (maxL := 4) (ret := (some .boolean)) (by decide) rfl ?_
  intro p e s m args below meth c s₁ B hml hv
  obtain ⟨rfl, hP, hK⟩ := hv
  have hx := B.exec
  have hb := B.bytes
  have hr := B.returns
  have hts := atoms_spec (ws := (ws_ yX2_hasObjectOf cX2_hasObjectOf 4 (some .boolean))) B.pre
  have hts : ∀ w ∈ lw_all, w.before _ s = true := fun w h => hts w (List.mem_cons_of_mem _ h)
  have hown : s.vm.findClass RX2 = some m.cls := findClass_of_methodNamed B.named
  have hlocks := B.notSynchronized
  have hl := lv_entry ([.ref (o 0), iv t]) (n := 4) (Nat.le_of_ble_eq_true rfl)
  rw [lg_entry_eq]
  generalize (lg_sl ([.ref (o 0), iv t]) ++ List.replicate (4 - (lg_sl ([.ref (o 0), iv t])).length) Slot.unset).toArray = ls at hl ⊢
  have hl : lv_has ls 4 [(0, .ref (o 0)), (1, iv t)] := hl
  have hn1 := hsr.n1
  have ho1 := how.1
  have ho2 := how.2.1
  refine lv_iconst (v := iI 0) hx hb dX2_hasObjectOf_0 rfl ?_
  refine lv_istore_n (lv' := [(2, iv 0), (0, .ref (o 0)), (1, iv t)]) hx hb dX2_hasObjectOf_1 rfl hl (by decide) rfl (fun ls hl => ?_)
  refine lv_iconst (v := iI 0) hx hb dX2_hasObjectOf_2 rfl ?_
  refine lv_istore_n (lv' := [(3, iv 0), (2, iv 0), (0, .ref (o 0)), (1, iv t)]) hx hb dX2_hasObjectOf_3 rfl hl (by decide) rfl (fun ls hl => ?_)
  have l4 : ∀ (fu : Nat) (f2 : Bool) (x3 : Int), (0 ≤ x3 ∧ x3 ≤ g 1) → (f2 = exB (fun k => m_here g k && decide (m_thing g k 0 = t)) x3) → (g 1 - x3 < (fu : Int)) → ∀ ls : Array Slot, lv_has ls 4 [(3, iv x3), (2, iv (b2 f2)), (0, .ref (o 0)), (1, iv t)] → W p l e (headSpec (ws_ yX2_hasObjectOf cX2_hasObjectOf 4 (some .boolean)) { frames := 0, cells := 0, slots := 0, locals := 0 }).room s m ([.ref (o 0), iv t] : List Value).toArray below meth c s.heap [] 0 0 (MQ below (NP (b2 (m_hasobj g t))) ([.ref (o 0), iv t] : List Value).toArray s 0 0 (fun _ => False)) (F0 m 4 ls []) := by
    intro fu
    induction fu with
    | zero =>
      intro f2 x3 il4_0 il4_1 hm
      exfalso; omega
    | succ fu ih =>
      intro f2 x3 il4_0 il4_1 hm ls hl
      have ihl4 := ih
      refine lv_iload_n hx hb dX2_hasObjectOf_4 rfl (lv_at hl 0 rfl) ?_
      refine lv_aload_n hx hb dX2_hasObjectOf_5 rfl (lv_at hl 2 rfl) ?_
      refine va_get (D := E.1) (ci := 2) (v := iv (sc 2)) (C := RX2) (T := TX2) (N := 14) hx hb hts in_X2 hown hK.1 hP 0 rfl rfl 2 (by decide) (hts _ q193) (fun _ h9 => h9) rfl dX2_hasObjectOf_6 ?_
      refine n_icmp_ge (tgt := 45) hx hb dX2_hasObjectOf_9 (by decide) (by omega) (by omega) (fun c_1 => ?_) (fun c_1 => ?_)
      · refine lv_iload_n hx hb dX2_hasObjectOf_45 rfl (lv_at hl 1 rfl) ?_
        have hfin : b2 f2 = b2 (m_hasobj g t) := by
          obtain rfl : x3 = g 1 := by omega
          rw [il4_1]
          rfl
        exact W.zret (v := iI (b2 f2)) hx hb hr (nr_b (b2_r _)) (fun tt_ ht_ hW_ => ⟨iI (b2 f2), rfl, (congrArg iI hfin), ht_⟩) (fun q h => by cases h) dX2_hasObjectOf_46
      · refine lv_iload_n hx hb dX2_hasObjectOf_12 rfl (lv_at hl 1 rfl) ?_
        refine lv_aload_n hx hb dX2_hasObjectOf_13 rfl (lv_at hl 2 rfl) ?_
        refine va_get (D := E.1) (ci := 2) (v := .ref (o 12)) (C := RX2) (T := TX2) (N := 14) hx hb hts in_X2 hown hK.1 hP 0 rfl rfl 5 (by decide) (hts _ q199) (fun _ h9 => h9) rfl dX2_hasObjectOf_14 ?_
        refine lv_iload_n hx hb dX2_hasObjectOf_17 rfl (lv_at hl 0 rfl) ?_
        refine n_zald (f := ar 12) hx hb hK.1 hP 12 1 rfl rfl (by omega) (by decide) dX2_hasObjectOf_18 ?_
        rw [hsr.her (k := x3) (by omega)]
        refine n_ifb_eq (tgt := 36) hx hb dX2_hasObjectOf_19 (by decide) (fun c_2 => ?_) (fun c_2 => ?_)
        · refine lv_iconst (v := iI 0) hx hb dX2_hasObjectOf_36 rfl ?_
          refine n_ior_b (x := f2) (y := false) hx hb dX2_hasObjectOf_37 ?_
          refine lv_istore_n (lv' := [(2, iv (b2 (f2 || false))), (3, iv x3), (0, .ref (o 0)), (1, iv t)]) hx hb dX2_hasObjectOf_38 rfl hl (by decide) rfl (fun ls hl => ?_)
          refine lv_iinc (v := iI (x3 + 1)) (lv' := [(3, iv (x3 + 1)), (2, iv (b2 (f2 || false))), (0, .ref (o 0)), (1, iv t)]) hx hb dX2_hasObjectOf_39 hl (k := 1) rfl (iI_add _ _) (by decide) rfl (fun ls hl => ?_)
          refine lv_goto (tgt := 4) hx hb dX2_hasObjectOf_42 (by decide) ?_
          exact ihl4 (f2 || false) (x3 + 1) (by first | omega | rfl) (by rw [exB_s (by omega), ← il4_1]; simp [*]) (by omega) ls (lv_sub hl [0, 1, 2, 3] rfl)
        · refine lv_aload_n hx hb dX2_hasObjectOf_22 rfl (lv_at hl 2 rfl) ?_
          refine va_get (D := E.1) (ci := 2) (v := .ref (o 10)) (C := RX2) (T := TX2) (N := 14) hx hb hts in_X2 hown hK.1 hP 0 rfl rfl 3 (by decide) (hts _ q195) (fun _ h9 => h9) rfl dX2_hasObjectOf_23 ?_
          refine lv_iload_n hx hb dX2_hasObjectOf_26 rfl (lv_at hl 0 rfl) ?_
          refine n_iald (f := ar 10) hx hb hK.1 hP 10 0 rfl rfl (by omega) (by decide) dX2_hasObjectOf_27 ?_
          rw [hsr.kind (k := x3) (by omega)]
          refine lv_iload_n hx hb dX2_hasObjectOf_28 rfl (lv_at hl 3 rfl) ?_
          have b_3 := (how.2.2 x3 (by omega) (by omega)).1
          refine n_icmp_ne (tgt := 36) hx hb dX2_hasObjectOf_29 (by decide) (by omega) (by omega) (fun c_4 => ?_) (fun c_4 => ?_)
          · refine lv_iconst (v := iI 0) hx hb dX2_hasObjectOf_36 rfl ?_
            refine n_ior_b (x := f2) (y := false) hx hb dX2_hasObjectOf_37 ?_
            refine lv_istore_n (lv' := [(2, iv (b2 (f2 || false))), (3, iv x3), (0, .ref (o 0)), (1, iv t)]) hx hb dX2_hasObjectOf_38 rfl hl (by decide) rfl (fun ls hl => ?_)
            refine lv_iinc (v := iI (x3 + 1)) (lv' := [(3, iv (x3 + 1)), (2, iv (b2 (f2 || false))), (0, .ref (o 0)), (1, iv t)]) hx hb dX2_hasObjectOf_39 hl (k := 1) rfl (iI_add _ _) (by decide) rfl (fun ls hl => ?_)
            refine lv_goto (tgt := 4) hx hb dX2_hasObjectOf_42 (by decide) ?_
            exact ihl4 (f2 || false) (x3 + 1) (by first | omega | rfl) (by rw [exB_s (by omega), ← il4_1]; simp [*]) (by omega) ls (lv_sub hl [0, 1, 2, 3] rfl)
          · refine lv_iconst (v := iI 1) hx hb dX2_hasObjectOf_32 rfl ?_
            refine lv_goto (tgt := 37) hx hb dX2_hasObjectOf_33 (by decide) ?_
            refine n_ior_b (x := f2) (y := true) hx hb dX2_hasObjectOf_37 ?_
            refine lv_istore_n (lv' := [(2, iv (b2 (f2 || true))), (3, iv x3), (0, .ref (o 0)), (1, iv t)]) hx hb dX2_hasObjectOf_38 rfl hl (by decide) rfl (fun ls hl => ?_)
            refine lv_iinc (v := iI (x3 + 1)) (lv' := [(3, iv (x3 + 1)), (2, iv (b2 (f2 || true))), (0, .ref (o 0)), (1, iv t)]) hx hb dX2_hasObjectOf_39 hl (k := 1) rfl (iI_add _ _) (by decide) rfl (fun ls hl => ?_)
            refine lv_goto (tgt := 4) hx hb dX2_hasObjectOf_42 (by decide) ?_
            exact ihl4 (f2 || true) (x3 + 1) (by first | omega | rfl) (by rw [exB_s (by omega), ← il4_1]; simp [*]) (by omega) ls (lv_sub hl [0, 1, 2, 3] rfl)
  exact l4 161 false 0 (by first | omega | rfl | trivial) (by rfl) (by omega) ls hl
set_option maxHeartbeats 4000000 in
set_option maxRecDepth 100000 in
theorem mt_X2_checkRecipe (l : Launch) (E : EE) (o : Nat → Nat) (sc : Nat → Int) (ar : Nat → Int → Int) (t : Int) (g : Int → Int) (hst : l.stackTraces = false) (ht : 0 ≤ t ∧ t < 8) (hsr : SR g sc ar) (sz : Nat) : vx_Met l yX2_checkRecipe (ws_ yX2_checkRecipe cX2_checkRecipe 2 none) { frames := 7, cells := 1, slots := 6, locals := 112 } (va_Pc [.ref (o 0), iv t] (UX E (SW E o sc ar) sz)) (UQxv E (fun u : Unit => m_has g t = true) (fun u : Unit => SW E o sc ar) (va_A (SW E o sc ar) sz)) (UXx E (fun (En : String) (u : Unit) => En = "java/util/NoSuchElementException" ∧ m_has g t = false) (fun u : Unit => SW E o sc ar) (fun u : Unit => none) (va_A (SW E o sc ar) sz)) 1 6 (va_A (SW E o sc ar) sz) := by
  refine vx_ofW (cc := cX2_checkRecipe) (maxL := 2) (ret := none) (by decide) rfl ?_
  intro p e s m args below meth c s₁ B hml htb hv
  obtain ⟨rfl, hsz, hP, hK, hD0, hE⟩ := hv
  have hx := B.exec
  have hb := B.bytes
  have hr := B.returns
  have hts := atoms_spec (ws := (ws_ yX2_checkRecipe cX2_checkRecipe 2 none)) B.pre
  have hts : ∀ w ∈ lw_all, w.before _ s = true := fun w h => hts w (List.mem_cons_of_mem _ h)
  have hown : s.vm.findClass RX2 = some m.cls := findClass_of_methodNamed B.named
  have hlocks := B.notSynchronized
  subst hsz
  have hD := hD0.self (sz := s.heap.size)
  generalize hAe : va_A (SW E o sc ar) s.heap.size = A at hD hE ⊢
  have hA : ∀ q : Nat, s.heap.size ≤ q → A q := fun q h => by rw [← hAe]; exact Or.inr h
  have hS : va_S A s.heap s.heap [] := va_S.rf
  have hl := lv_entry ([.ref (o 0), iv t]) (n := 2) (Nat.le_of_ble_eq_true rfl)
  rw [lg_entry_eq]
  generalize (lg_sl ([.ref (o 0), iv t]) ++ List.replicate (2 - (lg_sl ([.ref (o 0), iv t])).length) Slot.unset).toArray = ls at hl ⊢
  have hl : lv_has ls 2 [(0, .ref (o 0)), (1, iv t)] := hl
  refine lv_aload_n hx hb dX2_checkRecipe_0 rfl (lv_at hl 0 rfl) ?_
  refine va_get (D := E.1) (ci := 2) (v := .ref (o 1)) (C := RX2) (T := TX2) (N := 14) hx hb hts in_X2 hown hK.1 hP 0 rfl rfl 0 (by decide) (hts _ q188) (fun _ h9 => h9) rfl dX2_checkRecipe_1 ?_
  refine va_getN (D := E.1) (ci := 3) (v := .ref (o 2)) (C := RX3) (T := TX3) (N := 7) hx hb hts in_X3 hown hK.1 hP 1 rfl rfl 0 (by decide) (hK.nw q154) (fun _ h9 => h9) rfl dX2_checkRecipe_4 ?_
  refine lv_iload_n hx hb dX2_checkRecipe_7 rfl (lv_at hl 1 rfl) ?_
  refine n_zald (f := ar 2) hx hb hK.1 hP 2 1 rfl rfl (by omega) (by decide) dX2_checkRecipe_8 ?_
  rw [hsr.br.has (t := t) (by omega)]
  have hz_1 : s.heap.size ≤ s.heap.size := hS.1
  refine n_txvS (w2 := fun u_2 => SW E o sc ar) (w3 := fun u_3 => SW E o sc ar) (vx_runSN (As := [iv (b2 (m_has g t))]) (rest := []) ⟨hx, hb, hml, hown, hts⟩ (mt_X1_checkElement l E (m_has g t) (by exact hst) _) ⟨(va_cnB 1 hts (lw_meth q973) rfl rfl rfl (hK.nv q971) (hts _ q94) (by decide +kernel) ⟨Nat.le_of_ble_eq_true rfl, Nat.le_of_ble_eq_true rfl⟩), hts _ q972, trivial⟩ (UX_S (hP.sub (ws' := []) [] rfl) hK (hD.sub (ws' := []) [] rfl rfl) hE hS (va_sub_free hD hS hA [] rfl)) rfl rfl hl.1 rfl (lv_room (Nat.le_of_ble_eq_true rfl)) dX2_checkRecipe_9 ⟨Nat.le_of_ble_eq_true rfl, Nat.le_of_ble_eq_true rfl⟩) hP hD hS hA [] [0, 1, 2, 3, 4, 5, 6, 7, 8, 9, 10, 11, 12, 13, 14, 15, 16] [0, 1, 2, 3, 4, 5, 6, 7, 8, 9, 10, 11, 12, 13, 14, 15, 16] [0, 1, 2, 3, 4, 5, 6, 7, 8, 9, 10, 11, 12, 13, 14, 15, 16] rfl rfl rfl rfl rfl (fun _ => rfl) rfl (fun _ => rfl) ?_ ?_
  · intro En ce q9 u_3 H locs hCx hP hD hS hxf hq9 hce hcv hcl
    have hCx : En = "java/util/NoSuchElementException" ∧ (m_has g t) = false := hCx
    have hP : va_P E.1 CL (SW E o sc ar) H := hP
    have hD : va_D A (SW E o sc ar) := hD
    exact n_out () (by exact hCx) hP hD hS hxf (Nat.le_trans hz_1 hq9) hce hcv hcl (fun x hx9 => (htb x hx9).elim) hlocks (Nat.le_of_ble_eq_true rfl) (Nat.le_of_ble_eq_true rfl)
  · intro u_2 H locs hC hP hD hS
    have hu_2 : (m_has g t) = true := hC
    have hP : va_P E.1 CL (SW E o sc ar) H := hP
    have hD : va_D A (SW E o sc ar) := hD
    refine vx_ret ?_
    refine W.widen (k := 1) (n := 6) (Nat.le_of_ble_eq_true rfl) (Nat.le_of_ble_eq_true rfl) ?_
    exact W.vret hx hb hr (fun tt_ ht_ hW_ => ⟨⟨(), rfl, by assumption, by rw [ht_]; exact hP, hD⟩, hS.F ht_⟩) hS.2.2 dX2_checkRecipe_12
set_option maxHeartbeats 4000000 in
set_option maxRecDepth 100000 in
theorem mt_X2_checkThread (l : Launch) (E : EE) (o : Nat → Nat) (sc : Nat → Int) (ar : Nat → Int → Int) (th : Int) (g : Int → Int) (hst : l.stackTraces = false) (hth : -2147483648 ≤ th ∧ th < 2147483648) (hsr : SR g sc ar) (sz : Nat) : vx_Met l yX2_checkThread (ws_ yX2_checkThread cX2_checkThread 2 none) { frames := 7, cells := 1, slots := 6, locals := 112 } (va_Pc [.ref (o 0), iv th] (UX E (SW E o sc ar) sz)) (UQxv E (fun u : Unit => m_opened g th = true) (fun u : Unit => SW E o sc ar) (va_A (SW E o sc ar) sz)) (UXx E (fun (En : String) (u : Unit) => En = "java/lang/IndexOutOfBoundsException" ∧ m_opened g th = false) (fun u : Unit => SW E o sc ar) (fun u : Unit => none) (va_A (SW E o sc ar) sz)) 1 6 (va_A (SW E o sc ar) sz) := by
  refine vx_ofW (cc := cX2_checkThread) (maxL := 2) (ret := none) (by decide) rfl ?_
  intro p e s m args below meth c s₁ B hml htb hv
  obtain ⟨rfl, hsz, hP, hK, hD0, hE⟩ := hv
  have hx := B.exec
  have hb := B.bytes
  have hr := B.returns
  have hts := atoms_spec (ws := (ws_ yX2_checkThread cX2_checkThread 2 none)) B.pre
  have hts : ∀ w ∈ lw_all, w.before _ s = true := fun w h => hts w (List.mem_cons_of_mem _ h)
  have hown : s.vm.findClass RX2 = some m.cls := findClass_of_methodNamed B.named
  have hlocks := B.notSynchronized
  subst hsz
  have hD := hD0.self (sz := s.heap.size)
  generalize hAe : va_A (SW E o sc ar) s.heap.size = A at hD hE ⊢
  have hA : ∀ q : Nat, s.heap.size ≤ q → A q := fun q h => by rw [← hAe]; exact Or.inr h
  have hS : va_S A s.heap s.heap [] := va_S.rf
  have hl := lv_entry ([.ref (o 0), iv th]) (n := 2) (Nat.le_of_ble_eq_true rfl)
  rw [lg_entry_eq]
  generalize (lg_sl ([.ref (o 0), iv th]) ++ List.replicate (2 - (lg_sl ([.ref (o 0), iv th])).length) Slot.unset).toArray = ls at hl ⊢
  have hl : lv_has ls 2 [(0, .ref (o 0)), (1, iv th)] := hl
  have j_1 : W p l e (headSpec (ws_ yX2_checkThread cX2_checkThread 2 none) { frames := 7, cells := 1, slots := 6, locals := 112 }).room s m ([.ref (o 0), iv th] : List Value).toArray below meth c s.heap [] 0 0 (vx_MQ below (UQxv E (fun u : Unit => m_opened g th = true) (fun u : Unit => SW E o sc ar) A) (UXx E (fun (En : String) (u : Unit) => En = "java/lang/IndexOutOfBoundsException" ∧ m_opened g th = false) (fun u : Unit => SW E o sc ar) (fun u : Unit => none) A) ([.ref (o 0), iv th] : List Value).toArray s 1 6 A) (F0 m 21 ls [iv (b2 (m_opened g th))]) := by
    have hz_2 : s.heap.size ≤ s.heap.size := hS.1
    refine n_txvS (w2 := fun u_3 => SW E o sc ar) (w3 := fun u_4 => SW E o sc ar) (vx_runSN (As := [iv (b2 (m_opened g th))]) (rest := []) ⟨hx, hb, hml, hown, hts⟩ (mt_X1_checkIndex l E (m_opened g th) (by exact hst) _) ⟨(va_cnB 1 hts (lw_meth q1109) rfl rfl rfl (hK.nv q1246) (hts _ q94) (by decide +kernel) ⟨Nat.le_of_ble_eq_true rfl, Nat.le_of_ble_eq_true rfl⟩), hts _ q1108, trivial⟩ (UX_S (hP.sub (ws' := []) [] rfl) hK (hD.sub (ws' := []) [] rfl rfl) hE hS (va_sub_free hD hS hA [] rfl)) rfl rfl hl.1 rfl (lv_room (Nat.le_of_ble_eq_true rfl)) dX2_checkThread_21 ⟨Nat.le_of_ble_eq_true rfl, Nat.le_of_ble_eq_true rfl⟩) hP hD hS hA [] [0, 1, 2, 3, 4, 5, 6, 7, 8, 9, 10, 11, 12, 13, 14, 15, 16] [0, 1, 2, 3, 4, 5, 6, 7, 8, 9, 10, 11, 12, 13, 14, 15, 16] [0, 1, 2, 3, 4, 5, 6, 7, 8, 9, 10, 11, 12, 13, 14, 15, 16] rfl rfl rfl rfl rfl (fun _ => rfl) rfl (fun _ => rfl) ?_ ?_
    · intro En ce q9 u_4 H locs hCx hP hD hS hxf hq9 hce hcv hcl
      have hCx : En = "java/lang/IndexOutOfBoundsException" ∧ (m_opened g th) = false := hCx
      have hP : va_P E.1 CL (SW E o sc ar) H := hP
      have hD : va_D A (SW E o sc ar) := hD
      exact n_out () (by exact hCx) hP hD hS hxf (Nat.le_trans hz_2 hq9) hce hcv hcl (fun x hx9 => (htb x hx9).elim) hlocks (Nat.le_of_ble_eq_true rfl) (Nat.le_of_ble_eq_true rfl)
    · intro u_3 H locs hC hP hD hS
      have hu_3 : (m_opened g th) = true := hC
      have hP : va_P E.1 CL (SW E o sc ar) H := hP
      have hD : va_D A (SW E o sc ar) := hD
      refine vx_ret ?_
      refine W.widen (k := 1) (n := 6) (Nat.le_of_ble_eq_true rfl) (Nat.le_of_ble_eq_true rfl) ?_
      exact W.vret hx hb hr (fun tt_ ht_ hW_ => ⟨⟨(), rfl, by assumption, by rw [ht_]; exact hP, hD⟩, hS.F ht_⟩) hS.2.2 dX2_checkThread_24
  refine lv_iload_n hx hb dX2_checkThread_0 rfl (lv_at hl 1 rfl) ?_
  refine n_csi (x := b2 (decide (0 ≤ th ∧ th ≤ 3))) (va_runSN (As := [iv th]) (rest := []) ⟨hx, hb, hml, hown, hts⟩ (mt_X1_isThread l E th (by omega)) ⟨(va_cnB 1 hts (lw_meth q1245) rfl rfl rfl (hK.nv q1243) (hts _ q94) (by decide +kernel) ⟨Nat.le_of_ble_eq_true rfl, Nat.le_of_ble_eq_true rfl⟩), hts _ q1244, trivial⟩ (PW_S (hP.sub (ws' := []) [] rfl) hK) rfl rfl hl.1 rfl (lv_room (Nat.le_of_ble_eq_true rfl)) dX2_checkThread_1 ⟨Nat.le_of_ble_eq_true rfl, Nat.le_of_ble_eq_true rfl⟩) ?_
  refine n_ifd_eq (tgt := 20) hx hb dX2_checkThread_4 (by decide) (fun c_5 => ?_) (fun c_5 => ?_)
  · refine lv_iconst (v := iI 0) hx hb dX2_checkThread_20 rfl ?_
    refine n_top (y := b2 (m_opened g th)) (by first | (rw [show m_opened g th = true by assumption]; rfl) | (rw [show m_opened g th = false by assumption]; rfl) | (rw [m_opened_no (by omega)]; rfl)) ?_
    exact j_1
  · refine lv_aload_n hx hb dX2_checkThread_7 rfl (lv_at hl 0 rfl) ?_
    refine va_get (D := E.1) (ci := 2) (v := .ref (o 9)) (C := RX2) (T := TX2) (N := 14) hx hb hts in_X2 hown hK.1 hP 0 rfl rfl 1 (by decide) (hts _ q191) (fun _ h9 => h9) rfl dX2_checkThread_8 ?_
    refine lv_iload_n hx hb dX2_checkThread_11 rfl (lv_at hl 1 rfl) ?_
    refine n_zald (f := ar 9) hx hb hK.1 hP 9 1 rfl rfl (by omega) (by decide) dX2_checkThread_12 ?_
    rw [hsr.op (k := th) (by omega)]
    refine n_ifb_eq (tgt := 20) hx hb dX2_checkThread_13 (by decide) (fun c_6 => ?_) (fun c_6 => ?_)
    · refine lv_iconst (v := iI 0) hx hb dX2_checkThread_20 rfl ?_
      refine n_top (y := b2 (m_opened g th)) (by first | (rw [show m_opened g th = true by assumption]; rfl) | (rw [show m_opened g th = false by assumption]; rfl) | (rw [m_opened_no (by omega)]; rfl)) ?_
      exact j_1
    · refine lv_iconst (v := iI 1) hx hb dX2_checkThread_16 rfl ?_
      refine lv_goto (tgt := 21) hx hb dX2_checkThread_17 (by decide) ?_
      refine n_top (y := b2 (m_opened g th)) (by first | (rw [show m_opened g th = true by assumption]; rfl) | (rw [show m_opened g th = false by assumption]; rfl) | (rw [m_opened_no (by omega)]; rfl)) ?_
      exact j_1
set_option maxHeartbeats 4000000 in
set_option maxRecDepth 100000 in
theorem mt_X2_checkObject (l : Launch) (E : EE) (o : Nat → Nat) (sc : Nat → Int) (ar : Nat → Int → Int) (k : Int) (g : Int → Int) (hst : l.stackTraces = false) (hk : -2147483648 ≤ k ∧ k < 2147483648) (hsr : SR g sc ar) (how : OY g) (sz : Nat) : vx_Met l yX2_checkObject (ws_ yX2_checkObject cX2_checkObject 2 none) { frames := 7, cells := 1, slots := 6, locals := 112 } (va_Pc [.ref (o 0), iv k] (UX E (SW E o sc ar) sz)) (UQxv E (fun u : Unit => m_isobj g k = true) (fun u : Unit => SW E o sc ar) (va_A (SW E o sc ar) sz)) (UXx E (fun (En : String) (u : Unit) => En = "java/lang/IndexOutOfBoundsException" ∧ m_isobj g k = false) (fun u : Unit => SW E o sc ar) (fun u : Unit => none) (va_A (SW E o sc ar) sz)) 1 6 (va_A (SW E o sc ar) sz) := by
  refine vx_ofW (cc := cX2_checkObject) (maxL := 2) (ret := none) (by decide) rfl ?_
  intro p e s m args below meth c s₁ B hml htb hv
  obtain ⟨rfl, hsz, hP, hK, hD0, hE⟩ := hv
  have hx := B.exec
  have hb := B.bytes
  have hr := B.returns
  have hts := atoms_spec (ws := (ws_ yX2_checkObject cX2_checkObject 2 none)) B.pre
  have hts : ∀ w ∈ lw_all, w.before _ s = true := fun w h => hts w (List.mem_cons_of_mem _ h)
  have hown : s.vm.findClass RX2 = some m.cls := findClass_of_methodNamed B.named
  have hlocks := B.notSynchronized
  subst hsz
  have hD := hD0.self (sz := s.heap.size)
  generalize hAe : va_A (SW E o sc ar) s.heap.size = A at hD hE ⊢
  have hA : ∀ q : Nat, s.heap.size ≤ q → A q := fun q h => by rw [← hAe]; exact Or.inr h
  have hS : va_S A s.heap s.heap [] := va_S.rf
  have hl := lv_entry ([.ref (o 0), iv k]) (n := 2) (Nat.le_of_ble_eq_true rfl)
  rw [lg_entry_eq]
  generalize (lg_sl ([.ref (o 0), iv k]) ++ List.replicate (2 - (lg_sl ([.ref (o 0), iv k])).length) Slot.unset).toArray = ls at hl ⊢
  have hl : lv_has ls 2 [(0, .ref (o 0)), (1, iv k)] := hl
  have hn1 := hsr.n1
  have ho1 := how.1
  have ho2 := how.2.1
  have j_1 : W p l e (headSpec (ws_ yX2_checkObject cX2_checkObject 2 none) { frames := 7, cells := 1, slots := 6, locals := 112 }).room s m ([.ref (o 0), iv k] : List Value).toArray below meth c s.heap [] 0 0 (vx_MQ below (UQxv E (fun u : Unit => m_isobj g k = true) (fun u : Unit => SW E o sc ar) A) (UXx E (fun (En : String) (u : Unit) => En = "java/lang/IndexOutOfBoundsException" ∧ m_isobj g k = false) (fun u : Unit => SW E o sc ar) (fun u : Unit => none) A) ([.ref (o 0), iv k] : List Value).toArray s 1 6 A) (F0 m 28 ls [iv (b2 (m_isobj g k))]) := by
    have hz_2 : s.heap.size ≤ s.heap.size := hS.1
    refine n_txvS (w2 := fun u_3 => SW E o sc ar) (w3 := fun u_4 => SW E o sc ar) (vx_runSN (As := [iv (b2 (m_isobj g k))]) (rest := []) ⟨hx, hb, hml, hown, hts⟩ (mt_X1_checkIndex l E (m_isobj g k) (by exact hst) _) ⟨(va_cnB 1 hts (lw_meth q1109) rfl rfl rfl (hK.nv q1246) (hts _ q94) (by decide +kernel) ⟨Nat.le_of_ble_eq_true rfl, Nat.le_of_ble_eq_true rfl⟩), hts _ q1108, trivial⟩ (UX_S (hP.sub (ws' := []) [] rfl) hK (hD.sub (ws' := []) [] rfl rfl) hE hS (va_sub_free hD hS hA [] rfl)) rfl rfl hl.1 rfl (lv_room (Nat.le_of_ble_eq_true rfl)) dX2_checkObject_28 ⟨Nat.le_of_ble_eq_true rfl, Nat.le_of_ble_eq_true rfl⟩) hP hD hS hA [] [0, 1, 2, 3, 4, 5, 6, 7, 8, 9, 10, 11, 12, 13, 14, 15, 16] [0, 1, 2, 3, 4, 5, 6, 7, 8, 9, 10, 11, 12, 13, 14, 15, 16] [0, 1, 2, 3, 4, 5, 6, 7, 8, 9, 10, 11, 12, 13, 14, 15, 16] rfl rfl rfl rfl rfl (fun _ => rfl) rfl (fun _ => rfl) ?_ ?_
    · intro En ce q9 u_4 H locs hCx hP hD hS hxf hq9 hce hcv hcl
      have hCx : En = "java/lang/IndexOutOfBoundsException" ∧ (m_isobj g k) = false := hCx
      have hP : va_P E.1 CL (SW E o sc ar) H := hP
      have hD : va_D A (SW E o sc ar) := hD
      exact n_out () (by exact hCx) hP hD hS hxf (Nat.le_trans hz_2 hq9) hce hcv hcl (fun x hx9 => (htb x hx9).elim) hlocks (Nat.le_of_ble_eq_true rfl) (Nat.le_of_ble_eq_true rfl)
    · intro u_3 H locs hC hP hD hS
      have hu_3 : (m_isobj g k) = true := hC
      have hP : va_P E.1 CL (SW E o sc ar) H := hP
      have hD : va_D A (SW E o sc ar) := hD
      refine vx_ret ?_
      refine W.widen (k := 1) (n := 6) (Nat.le_of_ble_eq_true rfl) (Nat.le_of_ble_eq_true rfl) ?_
      exact W.vret hx hb hr (fun tt_ ht_ hW_ => ⟨⟨(), rfl, by assumption, by rw [ht_]; exact hP, hD⟩, hS.F ht_⟩) hS.2.2 dX2_checkObject_31
  refine lv_iload_n hx hb dX2_checkObject_0 rfl (lv_at hl 1 rfl) ?_
  refine lv_iconst (v := iI 0) hx hb dX2_checkObject_1 rfl ?_
  refine lv_aload_n hx hb dX2_checkObject_2 rfl (lv_at hl 0 rfl) ?_
  refine va_get (D := E.1) (ci := 2) (v := iv (sc 2)) (C := RX2) (T := TX2) (N := 14) hx hb hts in_X2 hown hK.1 hP 0 rfl rfl 2 (by decide) (hts _ q193) (fun _ h9 => h9) rfl dX2_checkObject_3 ?_
  refine lv_iconst (v := iI 1) hx hb dX2_checkObject_6 rfl ?_
  refine n_isub hx hb dX2_checkObject_7 ?_
  refine n_csi (x := b2 (decide (0 ≤ k ∧ k ≤ (sc 2) - 1))) (va_runSN (As := [iv k, iv 0, iv ((sc 2) - 1)]) (rest := []) ⟨hx, hb, hml, hown, hts⟩ (mt_X1_inRange l E k 0 ((sc 2) - 1) (by omega) (by omega) (by omega)) ⟨(va_cnB 3 hts (lw_meth q884) rfl rfl rfl (hK.nv q888) (hts _ q94) (by decide +kernel) ⟨Nat.le_of_ble_eq_true rfl, Nat.le_of_ble_eq_true rfl⟩), hts _ q883, trivial⟩ (PW_S (hP.sub (ws' := []) [] rfl) hK) rfl rfl hl.1 rfl (lv_room (Nat.le_of_ble_eq_true rfl)) dX2_checkObject_8 ⟨Nat.le_of_ble_eq_true rfl, Nat.le_of_ble_eq_true rfl⟩) ?_
  refine n_ifd_eq (tgt := 27) hx hb dX2_checkObject_11 (by decide) (fun c_5 => ?_) (fun c_5 => ?_)
  · refine lv_iconst (v := iI 0) hx hb dX2_checkObject_27 rfl ?_
    refine n_top (y := b2 (m_isobj g k)) (by first | (rw [m_isobj_y (by omega) (by assumption)]; rfl) | (rw [m_isobj_n (by omega)]; rfl)) ?_
    exact j_1
  · refine lv_aload_n hx hb dX2_checkObject_14 rfl (lv_at hl 0 rfl) ?_
    refine va_get (D := E.1) (ci := 2) (v := .ref (o 12)) (C := RX2) (T := TX2) (N := 14) hx hb hts in_X2 hown hK.1 hP 0 rfl rfl 5 (by decide) (hts _ q199) (fun _ h9 => h9) rfl dX2_checkObject_15 ?_
    refine lv_iload_n hx hb dX2_checkObject_18 rfl (lv_at hl 1 rfl) ?_
    refine n_zald (f := ar 12) hx hb hK.1 hP 12 1 rfl rfl (by omega) (by decide) dX2_checkObject_19 ?_
    rw [hsr.her (k := k) (by omega)]
    refine n_ifb_eq (tgt := 27) hx hb dX2_checkObject_20 (by decide) (fun c_6 => ?_) (fun c_6 => ?_)
    · refine lv_iconst (v := iI 0) hx hb dX2_checkObject_27 rfl ?_
      refine n_top (y := b2 (m_isobj g k)) (by first | (rw [m_isobj_y (by omega) (by assumption)]; rfl) | (rw [m_isobj_n (by omega)]; rfl)) ?_
      exact j_1
    · refine lv_iconst (v := iI 1) hx hb dX2_checkObject_23 rfl ?_
      refine lv_goto (tgt := 28) hx hb dX2_checkObject_24 (by decide) ?_
      refine n_top (y := b2 (m_isobj g k)) (by first | (rw [m_isobj_y (by omega) (by assumption)]; rfl) | (rw [m_isobj_n (by omega)]; rfl)) ?_
      exact j_1
set_option maxHeartbeats 4000000 in
set_option maxRecDepth 100000 in
theorem mt_X2_checkNeed (l : Launch) (E : EE) (o : Nat → Nat) (sc : Nat → Int) (ar : Nat → Int → Int) (k : Int) (q : Int) (g : Int → Int) (hst : l.stackTraces = false) (hk : -2147483648 ≤ k ∧ k < 2147483648) (hq : -2147483648 ≤ q ∧ q < 2147483648) (hsr : SR g sc ar) (how : OY g) (sz : Nat) : vx_Met l yX2_checkNeed (ws_ yX2_checkNeed cX2_checkNeed 3 none) { frames := 8, cells := 2, slots := 12, locals := 133 } (va_Pc [.ref (o 0), iv k, iv q] (UX E (SW E o sc ar) sz)) (UQxv E (fun u : Unit => m_noneed g k q = false) (fun u : Unit => SW E o sc ar) (va_A (SW E o sc ar) sz)) (UXx E (fun (En : String) (u : Unit) => En = "java/lang/IndexOutOfBoundsException" ∧ m_noneed g k q = true) (fun u : Unit => SW E o sc ar) (fun u : Unit => none) (va_A (SW E o sc ar) sz)) 2 12 (va_A (SW E o sc ar) sz) := by
  refine vx_ofW (cc := cX2_checkNeed) (maxL := 3) (ret := none) (by decide) rfl ?_
  intro p e s m args below meth c s₁ B hml htb hv
  obtain ⟨rfl, hsz, hP, hK, hD0, hE⟩ := hv
  have hx := B.exec
  have hb := B.bytes
  have hr := B.returns
  have hts := atoms_spec (ws := (ws_ yX2_checkNeed cX2_checkNeed 3 none)) B.pre
  have hts : ∀ w ∈ lw_all, w.before _ s = true := fun w h => hts w (List.mem_cons_of_mem _ h)
  have hown : s.vm.findClass RX2 = some m.cls := findClass_of_methodNamed B.named
  have hlocks := B.notSynchronized
  subst hsz
  have hD := hD0.self (sz := s.heap.size)
  generalize hAe : va_A (SW E o sc ar) s.heap.size = A at hD hE ⊢
  have hA : ∀ q : Nat, s.heap.size ≤ q → A q := fun q h => by rw [← hAe]; exact Or.inr h
  have hS : va_S A s.heap s.heap [] := va_S.rf
  have hl := lv_entry ([.ref (o 0), iv k, iv q]) (n := 3) (Nat.le_of_ble_eq_true rfl)
  rw [lg_entry_eq]
  generalize (lg_sl ([.ref (o 0), iv k, iv q]) ++ List.replicate (3 - (lg_sl ([.ref (o 0), iv k, iv q])).length) Slot.unset).toArray = ls at hl ⊢
  have hl : lv_has ls 3 [(0, .ref (o 0)), (1, iv k), (2, iv q)] := hl
  have hn1 := hsr.n1
  have ho1 := how.1
  have ho2 := how.2.1
  refine lv_aload_n hx hb dX2_checkNeed_0 rfl (lv_at hl 0 rfl) ?_
  refine lv_iload_n hx hb dX2_checkNeed_1 rfl (lv_at hl 1 rfl) ?_
  have hz_1 : s.heap.size ≤ s.heap.size := hS.1
  refine n_txvS (w2 := fun u_2 => SW E o sc ar) (w3 := fun u_3 => SW E o sc ar) (vx_runV (As := [iv k]) (rest := []) ⟨hx, hb, hml, hown, hts⟩ (mt_X2_checkObject l E o sc ar k g (by exact hst) (by omega) (by assumption) (by assumption) _) (cwV 1 hts (lw_V q1289 q1290 q1291 q95 q1292) rfl rfl rfl (by decide +kernel) ⟨Nat.le_of_ble_eq_true rfl, Nat.le_of_ble_eq_true rfl⟩) (UX_V hP hK (hD) hE hS (va_A_in hD hS hA) (va_recv hK.1 hP (ci := 2) (q0 := 0) rfl rfl)) rfl rfl hl.1 rfl (lv_room (Nat.le_of_ble_eq_true rfl)) dX2_checkNeed_2 ⟨Nat.le_of_ble_eq_true rfl, Nat.le_of_ble_eq_true rfl⟩) hP hD hS hA [0, 1, 2, 3, 4, 5, 6, 7, 8, 9, 10, 11, 12, 13, 14, 15, 16] [] [0, 1, 2, 3, 4, 5, 6, 7, 8, 9, 10, 11, 12, 13, 14, 15, 16] [0, 1, 2, 3, 4, 5, 6, 7, 8, 9, 10, 11, 12, 13, 14, 15, 16] rfl rfl rfl rfl rfl (fun _ => rfl) rfl (fun _ => rfl) ?_ ?_
  · intro En ce q9 u_3 H locs hCx hP hD hS hxf hq9 hce hcv hcl
    have hCx : En = "java/lang/IndexOutOfBoundsException" ∧ m_isobj g k = false := hCx
    have hP : va_P E.1 CL (SW E o sc ar) H := hP
    have hD : va_D A (SW E o sc ar) := hD
    exact n_out () (by exact ⟨hCx.1, by unfold m_noneed; rw [hCx.2]; first | rfl | rw [Bool.not_false, Bool.or_true]⟩) hP hD hS hxf (Nat.le_trans hz_1 hq9) hce hcv hcl (fun x hx9 => (htb x hx9).elim) hlocks (Nat.le_of_ble_eq_true rfl) (Nat.le_of_ble_eq_true rfl)
  · intro u_2 H locs hC hP hD hS
    have hu_2 : m_isobj g k = true := hC
    have hP : va_P E.1 CL (SW E o sc ar) H := hP
    have hD : va_D A (SW E o sc ar) := hD
    have hob : m_isobj g k = true := by assumption
    have hz := m_isobj_ok hob
    refine lv_iload_n hx hb dX2_checkNeed_5 rfl (lv_at hl 2 rfl) ?_
    refine lv_iconst (v := iI 0) hx hb dX2_checkNeed_6 rfl ?_
    refine lv_aload_n hx hb dX2_checkNeed_7 rfl (lv_at hl 0 rfl) ?_
    refine va_get (D := E.1) (ci := 2) (v := .ref (o 13)) (C := RX2) (T := TX2) (N := 14) hx hb hts in_X2 hown hK.1 hP 0 rfl rfl 6 (by decide) (hts _ q201) (fun _ h9 => h9) rfl dX2_checkNeed_8 ?_
    refine lv_iload_n hx hb dX2_checkNeed_11 rfl (lv_at hl 1 rfl) ?_
    refine n_iald (f := ar 13) hx hb hK.1 hP 13 0 rfl rfl (by omega) (by decide) dX2_checkNeed_12 ?_
    rw [hsr.many (k := k) (by omega)]
    refine lv_iconst (v := iI 1) hx hb dX2_checkNeed_13 rfl ?_
    refine n_isub hx hb dX2_checkNeed_14 ?_
    have b_4 := (how.2.2 k (by omega) (by omega)).2.1
    refine n_csi (x := b2 (decide (0 ≤ q ∧ q ≤ (m_thing g k 3) - 1))) (va_runSN (As := [iv q, iv 0, iv ((m_thing g k 3) - 1)]) (rest := []) ⟨hx, hb, hml, hown, hts⟩ (mt_X1_inRange l E q 0 ((m_thing g k 3) - 1) (by omega) (by omega) (by omega)) ⟨(va_cnB 3 hts (lw_meth q884) rfl rfl rfl (hK.nv q888) (hts _ q94) (by decide +kernel) ⟨Nat.le_of_ble_eq_true rfl, Nat.le_of_ble_eq_true rfl⟩), hts _ q883, trivial⟩ (PW_S (hP.sub (ws' := []) [] rfl) hK) rfl rfl hl.1 rfl (lv_room (Nat.le_of_ble_eq_true rfl)) dX2_checkNeed_15 ⟨Nat.le_of_ble_eq_true rfl, Nat.le_of_ble_eq_true rfl⟩) ?_
    have hz_5 : s.heap.size ≤ H.size := hS.1
    refine n_txvS (w2 := fun u_6 => SW E o sc ar) (w3 := fun u_7 => SW E o sc ar) (vx_runSN (As := [iv (b2 (decide (0 ≤ q ∧ q ≤ (m_thing g k 3) - 1)))]) (rest := []) ⟨hx, hb, hml, hown, hts⟩ (mt_X1_checkIndex l E (decide (0 ≤ q ∧ q ≤ (m_thing g k 3) - 1)) (by exact hst) _) ⟨(va_cnB 1 hts (lw_meth q1109) rfl rfl rfl (hK.nv q1246) (hts _ q94) (by decide +kernel) ⟨Nat.le_of_ble_eq_true rfl, Nat.le_of_ble_eq_true rfl⟩), hts _ q1108, trivial⟩ (UX_S (hP.sub (ws' := []) [] rfl) hK (hD.sub (ws' := []) [] rfl rfl) hE hS (va_sub_free hD hS hA [] rfl)) rfl rfl hl.1 rfl (lv_room (Nat.le_of_ble_eq_true rfl)) dX2_checkNeed_18 ⟨Nat.le_of_ble_eq_true rfl, Nat.le_of_ble_eq_true rfl⟩) hP hD hS hA [] [0, 1, 2, 3, 4, 5, 6, 7, 8, 9, 10, 11, 12, 13, 14, 15, 16] [0, 1, 2, 3, 4, 5, 6, 7, 8, 9, 10, 11, 12, 13, 14, 15, 16] [0, 1, 2, 3, 4, 5, 6, 7, 8, 9, 10, 11, 12, 13, 14, 15, 16] rfl rfl rfl rfl rfl (fun _ => rfl) rfl (fun _ => rfl) ?_ ?_
    · intro En ce q9 u_7 H locs hCx hP hD hS hxf hq9 hce hcv hcl
      have hCx : En = "java/lang/IndexOutOfBoundsException" ∧ (decide (0 ≤ q ∧ q ≤ (m_thing g k 3) - 1)) = false := hCx
      have hP : va_P E.1 CL (SW E o sc ar) H := hP
      have hD : va_D A (SW E o sc ar) := hD
      exact n_out () (by exact ⟨hCx.1, by unfold m_noneed; rw [hCx.2]; first | rfl | rw [Bool.not_false, Bool.or_true]⟩) hP hD hS hxf (Nat.le_trans hz_5 hq9) hce hcv hcl (fun x hx9 => (htb x hx9).elim) hlocks (Nat.le_of_ble_eq_true rfl) (Nat.le_of_ble_eq_true rfl)
    · intro u_6 H locs hC hP hD hS
      have hu_6 : (decide (0 ≤ q ∧ q ≤ (m_thing g k 3) - 1)) = true := hC
      have hP : va_P E.1 CL (SW E o sc ar) H := hP
      have hD : va_D A (SW E o sc ar) := hD
      refine vx_ret ?_
      refine W.widen (k := 2) (n := 12) (Nat.le_of_ble_eq_true rfl) (Nat.le_of_ble_eq_true rfl) ?_
      exact W.vret hx hb hr (fun tt_ ht_ hW_ => ⟨⟨(), rfl, by unfold m_noneed; rw [hob, show decide (0 ≤ q ∧ q ≤ m_thing g k 3 - 1) = true by assumption]; rfl, by rw [ht_]; exact hP, hD⟩, hS.F ht_⟩) hS.2.2 dX2_checkNeed_21
