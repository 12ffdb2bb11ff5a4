set_option maxHeartbeats 1000000 in
set_option maxRecDepth 100000 in
theorem mt_X3_swapCircle (l : Launch) (E : EE) (o : Nat → Nat) (sc : Nat → Int) (ar : Nat → Int → Int) (t : Int) (nd : Int) (g : Int → Int) (ht : 0 ≤ t ∧ t < 8) (hnd : 0 ≤ nd ∧ nd < 8) (hbr : BR g ar) (hsw : SwOK g) : Met l yX3_swapCircle (ws_ yX3_swapCircle cX3_swapCircle 5 (some .int)) { frames := 0, cells := 0, slots := 0, locals := 0 } (va_Pc [.ref (o 1), iv t, iv nd] (PW E (BW E o sc ar))) (NP (m_chain g nd t)) 0 0 (fun _ => False) := by
  refine Met.ofW (cc := cX3_swapCircle) (maxL := 5) (ret := (some .int)) (by decide) rfl ?_
  intro p e s m args below meth c s₁ B hml hv
  obtain ⟨rfl, hP, hK⟩ := hv
  have hx := B.exec
  have hb := B.bytes
  have hr := B.returns
  have hts := atoms_spec (ws := (ws_ yX3_swapCircle cX3_swapCircle 5 (some .int))) B.pre
  have hts : ∀ w ∈ lw_all, w.before _ s = true := fun w h => hts w (List.mem_cons_of_mem _ h)
  have hown : s.vm.findClass RX3 = some m.cls := findClass_of_methodNamed B.named
  have hlocks := B.notSynchronized
  have hl := lv_entry ([.ref (o 1), iv t, iv nd]) (n := 5) (Nat.le_of_ble_eq_true rfl)
  rw [lg_entry_eq]
  generalize (lg_sl ([.ref (o 1), iv t, iv nd]) ++ List.replicate (5 - (lg_sl ([.ref (o 1), iv t, iv nd])).length) Slot.unset).toArray = ls at hl ⊢
  have hl : lv_has ls 5 [(0, .ref (o 1)), (1, iv t), (2, iv nd)] := hl
  refine lv_iconst (v := iI 1) hx hb dX3_swapCircle_0 rfl ?_
  refine lv_istore_n (lv' := [(3, iv 1), (0, .ref (o 1)), (1, iv t), (2, iv nd)]) hx hb dX3_swapCircle_1 rfl hl (by decide) rfl (fun ls hl => ?_)
  refine lv_iload_n hx hb dX3_swapCircle_2 rfl (lv_at hl 3 rfl) ?_
  refine lv_istore (lv' := [(4, iv nd), (3, iv 1), (0, .ref (o 1)), (1, iv t), (2, iv nd)]) hx hb dX3_swapCircle_3 hl (by decide) rfl (fun ls hl => ?_)
  have l5 : ∀ (fu : Nat) (x3 : Int) (x4 : Int) (z : Nat), (-1 ≤ x4 ∧ x4 < 8 ∧ 1 ≤ x3) → (m_chain g nd t = (if chR g z x4 t = 0 then 0 else chR g z x4 t + (x3 - 1))) → (x4 < 0 ∨ m_of g (m_stN g z x4) 6 = 0) → ((if x4 < 0 then (0 : Int) else (z : Int) + 1) < (fu : Int)) → ∀ ls : Array Slot, lv_has ls 5 [(4, iv x4), (3, iv x3), (0, .ref (o 1)), (1, iv t), (2, iv nd)] → W p l e (headSpec (ws_ yX3_swapCircle cX3_swapCircle 5 (some .int)) { frames := 0, cells := 0, slots := 0, locals := 0 }).room s m ([.ref (o 1), iv t, iv nd] : List Value).toArray below meth c s.heap [] 0 0 (MQ below (NP (m_chain g nd t)) ([.ref (o 1), iv t, iv nd] : List Value).toArray s 0 0 (fun _ => False)) (F0 m 5 ls []) := by
    intro fu
    induction fu with
    | zero =>
      intro x3 x4 z il5_0 il5_1 il5_2 hm
      exfalso; split at hm <;> omega
    | succ fu ih =>
      intro x3 x4 z il5_0 il5_1 il5_2 hm ls hl
      have ihl5 := ih
      refine lv_iload hx hb dX3_swapCircle_5 (lv_at hl 0 rfl) ?_
      refine lv_iconst (v := iI (-1)) hx hb dX3_swapCircle_7 rfl ?_
      refine n_icmp_eq (tgt := 32) hx hb dX3_swapCircle_8 (by decide) (by omega) (by omega) (fun c_1 => ?_) (fun c_1 => ?_)
      · refine lv_iload hx hb dX3_swapCircle_32 (lv_at hl 0 rfl) ?_
        refine lv_iload_n hx hb dX3_swapCircle_34 rfl (lv_at hl 3 rfl) ?_
        refine n_icmp_ne (tgt := 42) hx hb dX3_swapCircle_35 (by decide) (by omega) (by omega) (fun c_2 => ?_) (fun c_2 => ?_)
        · refine lv_iconst (v := iI 0) hx hb dX3_swapCircle_42 rfl ?_
          have hfin : 0 = m_chain g nd t := by
            first | (exfalso; omega) | (rw [il5_1, show chR g z x4 t = 0 from if_pos (by omega)]; rfl) | (rw [il5_1, show x4 = t by assumption, chR_hit (by omega), if_neg (by omega)]; omega)
          exact W.iret (v := iI 0) hx hb hr (fun tt_ ht_ hW_ => ⟨iI 0, rfl, (congrArg iI hfin), ht_⟩) (fun q h => by cases h) dX3_swapCircle_43
        · refine lv_iload_n hx hb dX3_swapCircle_38 rfl (lv_at hl 1 rfl) ?_
          refine lv_goto (tgt := 43) hx hb dX3_swapCircle_39 (by decide) ?_
          have hfin : x3 = m_chain g nd t := by
            first | (exfalso; omega) | (rw [il5_1, show chR g z x4 t = 0 from if_pos (by omega)]; rfl) | (rw [il5_1, show x4 = t by assumption, chR_hit (by omega), if_neg (by omega)]; omega)
          exact W.iret (v := iI x3) hx hb hr (fun tt_ ht_ hW_ => ⟨iI x3, rfl, (congrArg iI hfin), ht_⟩) (fun q h => by cases h) dX3_swapCircle_43
      · refine lv_iload hx hb dX3_swapCircle_11 (lv_at hl 0 rfl) ?_
        refine lv_iload_n hx hb dX3_swapCircle_13 rfl (lv_at hl 3 rfl) ?_
        refine n_icmp_eq (tgt := 32) hx hb dX3_swapCircle_14 (by decide) (by omega) (by omega) (fun c_3 => ?_) (fun c_3 => ?_)
        · refine lv_iload hx hb dX3_swapCircle_32 (lv_at hl 0 rfl) ?_
          refine lv_iload_n hx hb dX3_swapCircle_34 rfl (lv_at hl 3 rfl) ?_
          refine n_icmp_ne (tgt := 42) hx hb dX3_swapCircle_35 (by decide) (by omega) (by omega) (fun c_4 => ?_) (fun c_4 => ?_)
          · refine lv_iconst (v := iI 0) hx hb dX3_swapCircle_42 rfl ?_
            have hfin : 0 = m_chain g nd t := by
              first | (exfalso; omega) | (rw [il5_1, show chR g z x4 t = 0 from if_pos (by omega)]; rfl) | (rw [il5_1, show x4 = t by assumption, chR_hit (by omega), if_neg (by omega)]; omega)
            exact W.iret (v := iI 0) hx hb hr (fun tt_ ht_ hW_ => ⟨iI 0, rfl, (congrArg iI hfin), ht_⟩) (fun q h => by cases h) dX3_swapCircle_43
          · refine lv_iload_n hx hb dX3_swapCircle_38 rfl (lv_at hl 1 rfl) ?_
            refine lv_goto (tgt := 43) hx hb dX3_swapCircle_39 (by decide) ?_
            have hfin : x3 = m_chain g nd t := by
              first | (exfalso; omega) | (rw [il5_1, show chR g z x4 t = 0 from if_pos (by omega)]; rfl) | (rw [il5_1, show x4 = t by assumption, chR_hit (by omega), if_neg (by omega)]; omega)
            exact W.iret (v := iI x3) hx hb hr (fun tt_ ht_ hW_ => ⟨iI x3, rfl, (congrArg iI hfin), ht_⟩) (fun q h => by cases h) dX3_swapCircle_43
        · refine lv_aload_n hx hb dX3_swapCircle_17 rfl (lv_at hl 2 rfl) ?_
          refine va_get (D := E.1) (ci := 3) (v := .ref (o 8)) (C := RX3) (T := TX3) (N := 7) hx hb hts in_X3 hown hK.1 hP 0 rfl rfl 6 (by decide) (hts _ q168) (fun _ h9 => h9) rfl dX3_swapCircle_18 ?_
          refine lv_iload hx hb dX3_swapCircle_21 (lv_at hl 0 rfl) ?_
          refine n_iald (f := ar 8) hx hb hK.1 hP 7 0 rfl rfl (by omega) (by decide) dX3_swapCircle_23 ?_
          rw [hbr.rep (t := x4) (by omega)]
          refine lv_istore (lv' := [(4, iv (m_of g x4 6 - 1)), (3, iv x3), (0, .ref (o 1)), (1, iv t), (2, iv nd)]) hx hb dX3_swapCircle_24 hl (by decide) rfl (fun ls hl => ?_)
          refine lv_iinc (v := iI (x3 + 1)) (lv' := [(3, iv (x3 + 1)), (4, iv (m_of g x4 6 - 1)), (0, .ref (o 1)), (1, iv t), (2, iv nd)]) hx hb dX3_swapCircle_26 hl (k := 1) rfl (iI_add _ _) (by decide) rfl (fun ls hl => ?_)
          refine lv_goto (tgt := 5) hx hb dX3_swapCircle_29 (by decide) ?_
          have hsx := hsw x4 (by omega) (by omega)
          obtain ⟨w, hw1, hw2, hw3⟩ : ∃ w : Nat, (m_of g x4 6 - 1 < 0 ∨ m_of g (m_stN g w (m_of g x4 6 - 1)) 6 = 0) ∧ chR g z x4 t = (if chR g w (m_of g x4 6 - 1) t = 0 then 0 else chR g w (m_of g x4 6 - 1) t + 1) ∧ (if m_of g x4 6 - 1 < 0 then (0 : Int) else (w : Int) + 1) < (z : Int) + 1 := by
            by_cases hs0 : 0 < m_of g x4 6
            · rcases il5_2 with hq | hq
              · omega
              · obtain ⟨w, rfl, hw⟩ := m_stN_step hs0 hq
                exact ⟨w, Or.inr (by rw [← hw]; exact hq), chR_step (by omega) (by assumption) hs0, by rw [if_neg (by omega)]; omega⟩
            · refine ⟨0, Or.inl (by omega), ?_, by rw [if_pos (by omega)]; omega⟩
              rw [chR_end (by omega) (by assumption) (by omega), show chR g 0 (m_of g x4 6 - 1) t = 0 from if_pos (by omega)]
              rfl
          have hcr := chR_r g w (m_of g x4 6 - 1) t
          exact ihl5 (x3 + 1) (m_of g x4 6 - 1) w (by first | omega | rfl) (by rw [il5_1, hw2]; (repeat' split) <;> omega) (by exact hw1) (by rw [if_neg (by omega)] at hm; omega) ls (lv_sub hl [1, 0, 2, 3, 4] rfl)
  exact l5 (m_len g nd + 2) 1 nd (m_len g nd) (by first | omega | rfl | trivial) (by have e : chR g (m_len g nd) nd t = m_chain g nd t := if_neg (by omega); rw [e]; split <;> omega) (by exact Or.inr (hsw nd (by omega) (by omega)).2.2) (by rw [if_neg (by omega)]; omega) ls hl
set_option maxHeartbeats 1000000 in
set_option maxRecDepth 100000 in
theorem mt_X2_danglers (l : Launch) (E : EE) (o : Nat → Nat) (sc : Nat → Int) (ar : Nat → Int → Int)  (g : Int → Int) (hsr : SR g sc ar) (how : OY g) : Met l yX2_danglers (ws_ yX2_danglers cX2_danglers 6 (some .int)) { frames := 0, cells := 0, slots := 0, locals := 0 } (va_Pc [.ref (o 0)] (PW E (SW E o sc ar))) (NP (m_dang g)) 0 0 (fun _ => False) := by
  refine Met.ofW (cc := cX2_danglers) (maxL := 6) (ret := (some .int)) (by decide) rfl ?_
  intro p e s m args below meth c s₁ B hml hv
  obtain ⟨rfl, hP, hK⟩ := hv
  have hx := B.exec
  have hb := B.bytes
  have hr := B.returns
  have hts := atoms_spec (ws := (ws_ yX2_danglers cX2_danglers 6 (some .int))) B.pre
  have hts : ∀ w ∈ lw_all, w.before _ s = true := fun w h => hts w (List.mem_cons_of_mem _ h)
  have hown : s.vm.findClass RX2 = some m.cls := findClass_of_methodNamed B.named
  have hlocks := B.notSynchronized
  have hl := lv_entry ([.ref (o 0)]) (n := 6) (Nat.le_of_ble_eq_true rfl)
  rw [lg_entry_eq]
  generalize (lg_sl ([.ref (o 0)]) ++ List.replicate (6 - (lg_sl ([.ref (o 0)])).length) Slot.unset).toArray = ls at hl ⊢
  have hl : lv_has ls 6 [(0, .ref (o 0))] := hl
  have hn1 := hsr.n1
  have ho1 := how.1
  have ho2 := how.2.1
  refine lv_iconst (v := iI 0) hx hb dX2_danglers_0 rfl ?_
  refine lv_istore_n (lv' := [(1, iv 0), (0, .ref (o 0))]) hx hb dX2_danglers_1 rfl hl (by decide) rfl (fun ls hl => ?_)
  refine lv_iconst (v := iI 0) hx hb dX2_danglers_2 rfl ?_
  refine lv_istore_n (lv' := [(2, iv 0), (1, iv 0), (0, .ref (o 0))]) hx hb dX2_danglers_3 rfl hl (by decide) rfl (fun ls hl => ?_)
  have la : ∀ (fu : Nat) (x1 : Int) (x2 : Int), (0 ≤ x2 ∧ x2 ≤ g 1) → (x1 = sumI (fun o => b2 (exB (fun k => decide (0 < m_thing g o (7 + k)) && !(m_here g (m_thing g o (7 + k) - 1))) (m_thing g o 3) && m_here g o)) x2) → (g 1 - x2 < (fu : Int)) → ∀ ls : Array Slot, lv_has ls 6 [(2, iv x2), (1, iv x1), (0, .ref (o 0))] → W p l e (headSpec (ws_ yX2_danglers cX2_danglers 6 (some .int)) { frames := 0, cells := 0, slots := 0, locals := 0 }).room s m ([.ref (o 0)] : List Value).toArray below meth c s.heap [] 0 0 (MQ below (NP (m_dang g)) ([.ref (o 0)] : List Value).toArray s 0 0 (fun _ => False)) (F0 m 4 ls []) := by
    intro fu
    induction fu with
    | zero =>
      intro x1 x2 ila_0 ila_1 hm
      exfalso; omega
    | succ fu ih =>
      intro x1 x2 ila_0 ila_1 hm ls hl
      have ihla := ih
      refine lv_iload_n hx hb dX2_danglers_4 rfl (lv_at hl 0 rfl) ?_
      refine lv_aload_n hx hb dX2_danglers_5 rfl (lv_at hl 2 rfl) ?_
      refine va_get (D := E.1) (ci := 2) (v := iv (sc 2)) (C := RX2) (T := TX2) (N := 14) hx hb hts in_X2 hown hK.1 hP 0 rfl rfl 2 (by decide) (hts _ q193) (fun _ h9 => h9) rfl dX2_danglers_6 ?_
      refine n_icmp_ge (tgt := 98) hx hb dX2_danglers_9 (by decide) (by omega) (by omega) (fun c_1 => ?_) (fun c_1 => ?_)
      · refine lv_iload_n hx hb dX2_danglers_98 rfl (lv_at hl 1 rfl) ?_
        have hfin : x1 = m_dang g := by
          obtain rfl : x2 = g 1 := by omega
          exact ila_1
        exact W.iret (v := iI x1) hx hb hr (fun tt_ ht_ hW_ => ⟨iI x1, rfl, (congrArg iI hfin), ht_⟩) (fun q h => by cases h) dX2_danglers_99
      · refine lv_iconst (v := iI 0) hx hb dX2_danglers_12 rfl ?_
        refine lv_istore_n (lv' := [(3, iv 0), (2, iv x2), (1, iv x1), (0, .ref (o 0))]) hx hb dX2_danglers_13 rfl hl (by decide) rfl (fun ls hl => ?_)
        refine lv_iconst (v := iI 0) hx hb dX2_danglers_14 rfl ?_
        refine lv_istore (lv' := [(4, iv 0), (3, iv 0), (2, iv x2), (1, iv x1), (0, .ref (o 0))]) hx hb dX2_danglers_15 hl (by decide) rfl (fun ls hl => ?_)
        have lb : ∀ (fu : Nat) (f3 : Bool) (x4 : Int), (0 ≤ x4 ∧ x4 ≤ m_thing g x2 3) → (f3 = exB (fun k => m_here g x2 && (decide (0 < m_thing g x2 (7 + k)) && !(m_here g (m_thing g x2 (7 + k) - 1)))) x4) → (m_thing g x2 3 - x4 < (fu : Int)) → ∀ ls : Array Slot, lv_has ls 6 [(4, iv x4), (3, iv (b2 f3)), (2, iv x2), (1, iv x1), (0, .ref (o 0))] → W p l e (headSpec (ws_ yX2_danglers cX2_danglers 6 (some .int)) { frames := 0, cells := 0, slots := 0, locals := 0 }).room s m ([.ref (o 0)] : List Value).toArray below meth c s.heap [] 0 0 (MQ below (NP (m_dang g)) ([.ref (o 0)] : List Value).toArray s 0 0 (fun _ => False)) (F0 m 17 ls []) := by
          intro fu
          induction fu with
          | zero =>
            intro f3 x4 ilb_0 ilb_1 hm
            exfalso; omega
          | succ fu ih =>
            intro f3 x4 ilb_0 ilb_1 hm ls hl
            have ihlb := ih
            have hob := how.2.2 x2 (by omega) (by omega)
            have hob3 := hob.2.1
            refine lv_iload hx hb dX2_danglers_17 (lv_at hl 0 rfl) ?_
            refine lv_aload_n hx hb dX2_danglers_19 rfl (lv_at hl 4 rfl) ?_
            refine va_get (D := E.1) (ci := 2) (v := .ref (o 13)) (C := RX2) (T := TX2) (N := 14) hx hb hts in_X2 hown hK.1 hP 0 rfl rfl 6 (by decide) (hts _ q201) (fun _ h9 => h9) rfl dX2_danglers_20 ?_
            refine lv_iload_n hx hb dX2_danglers_23 rfl (lv_at hl 2 rfl) ?_
            refine n_iald (f := ar 13) hx hb hK.1 hP 13 0 rfl rfl (by omega) (by decide) dX2_danglers_24 ?_
            rw [hsr.many (k := x2) (by omega)]
            have b_2 := (how.2.2 x2 (by omega) (by omega)).2.1
            refine n_icmp_ge (tgt := 80) hx hb dX2_danglers_25 (by decide) (by omega) (by omega) (fun c_3 => ?_) (fun c_3 => ?_)
            · have hdz : f3 = (exB (fun k => decide (0 < m_thing g x2 (7 + k)) && !(m_here g (m_thing g x2 (7 + k) - 1))) (m_thing g x2 3) && m_here g x2) := by rw [ilb_1, show x4 = m_thing g x2 3 by omega, exB_and]
              refine lv_iload_n hx hb dX2_danglers_80 rfl (lv_at hl 3 rfl) ?_
              refine lv_iload_n hx hb dX2_danglers_81 rfl (lv_at hl 1 rfl) ?_
              refine n_ifb_eq (tgt := 89) hx hb dX2_danglers_82 (by decide) (fun c_4 => ?_) (fun c_4 => ?_)
              · refine lv_iconst (v := iI 0) hx hb dX2_danglers_89 rfl ?_
                refine n_iadd hx hb dX2_danglers_90 ?_
                refine lv_istore_n (lv' := [(1, iv (x1 + 0)), (4, iv x4), (3, iv (b2 f3)), (2, iv x2), (0, .ref (o 0))]) hx hb dX2_danglers_91 rfl hl (by decide) rfl (fun ls hl => ?_)
                refine lv_iinc (v := iI (x2 + 1)) (lv' := [(2, iv (x2 + 1)), (1, iv (x1 + 0)), (4, iv x4), (3, iv (b2 f3)), (0, .ref (o 0))]) hx hb dX2_danglers_92 hl (k := 3) rfl (iI_add _ _) (by decide) rfl (fun ls hl => ?_)
                refine lv_goto (tgt := 4) hx hb dX2_danglers_95 (by decide) ?_
                exact ihla (x1 + 0) (x2 + 1) (by first | omega | rfl) (by rw [sumI_s (by omega), ← ila_1, ← hdz]; first | (rw [show f3 = true by assumption]; rfl) | (rw [show f3 = false by assumption]; rfl)) (by omega) ls (lv_sub hl [0, 1, 4] rfl)
              · refine lv_iconst (v := iI 1) hx hb dX2_danglers_85 rfl ?_
                refine lv_goto (tgt := 90) hx hb dX2_danglers_86 (by decide) ?_
                refine n_iadd hx hb dX2_danglers_90 ?_
                refine lv_istore_n (lv' := [(1, iv (x1 + 1)), (4, iv x4), (3, iv (b2 f3)), (2, iv x2), (0, .ref (o 0))]) hx hb dX2_danglers_91 rfl hl (by decide) rfl (fun ls hl => ?_)
                refine lv_iinc (v := iI (x2 + 1)) (lv' := [(2, iv (x2 + 1)), (1, iv (x1 + 1)), (4, iv x4), (3, iv (b2 f3)), (0, .ref (o 0))]) hx hb dX2_danglers_92 hl (k := 3) rfl (iI_add _ _) (by decide) rfl (fun ls hl => ?_)
                refine lv_goto (tgt := 4) hx hb dX2_danglers_95 (by decide) ?_
                exact ihla (x1 + 1) (x2 + 1) (by first | omega | rfl) (by rw [sumI_s (by omega), ← ila_1, ← hdz]; first | (rw [show f3 = true by assumption]; rfl) | (rw [show f3 = false by assumption]; rfl)) (by omega) ls (lv_sub hl [0, 1, 4] rfl)
            · refine lv_aload_n hx hb dX2_danglers_28 rfl (lv_at hl 4 rfl) ?_
              refine va_get (D := E.1) (ci := 2) (v := .ref (o 15)) (C := RX2) (T := TX2) (N := 14) hx hb hts in_X2 hown hK.1 hP 0 rfl rfl 8 (by decide) (hts _ q203) (fun _ h9 => h9) rfl dX2_danglers_29 ?_
              refine lv_iconst (v := iI 3) hx hb dX2_danglers_32 rfl ?_
              refine lv_iload_n hx hb dX2_danglers_33 rfl (lv_at hl 2 rfl) ?_
              refine n_imul hx hb dX2_danglers_34 ?_
              refine lv_iload hx hb dX2_danglers_35 (lv_at hl 0 rfl) ?_
              refine n_iadd hx hb dX2_danglers_37 ?_
              refine n_iald (f := ar 15) hx hb hK.1 hP 15 0 rfl rfl (by omega) (by decide) dX2_danglers_38 ?_
              rw [hsr.fil (k := x2) (j := x4) (by omega) (by omega)]
              refine lv_istore (lv' := [(5, iv (m_thing g x2 (7 + x4) - 1)), (4, iv x4), (3, iv (b2 f3)), (2, iv x2), (1, iv x1), (0, .ref (o 0))]) hx hb dX2_danglers_39 hl (by decide) rfl (fun ls hl => ?_)
              refine lv_iload_n hx hb dX2_danglers_41 rfl (lv_at hl 2 rfl) ?_
              have j_5 : W p l e (headSpec (ws_ yX2_danglers cX2_danglers 6 (some .int)) { frames := 0, cells := 0, slots := 0, locals := 0 }).room s m ([.ref (o 0)] : List Value).toArray below meth c s.heap [] 0 0 (MQ below (NP (m_dang g)) ([.ref (o 0)] : List Value).toArray s 0 0 (fun _ => False)) (F0 m 72 ls [iv (b2 (m_here g x2 && (decide (0 < m_thing g x2 (7 + x4)) && !(m_here g (m_thing g x2 (7 + x4) - 1))))), iv (b2 f3)]) := by
                refine n_ior_b (x := f3) (y := (m_here g x2 && (decide (0 < m_thing g x2 (7 + x4)) && !(m_here g (m_thing g x2 (7 + x4) - 1))))) hx hb dX2_danglers_72 ?_
                refine lv_istore_n (lv' := [(3, iv (b2 (f3 || (m_here g x2 && (decide (0 < m_thing g x2 (7 + x4)) && !(m_here g (m_thing g x2 (7 + x4) - 1))))))), (5, iv (m_thing g x2 (7 + x4) - 1)), (4, iv x4), (2, iv x2), (1, iv x1), (0, .ref (o 0))]) hx hb dX2_danglers_73 rfl hl (by decide) rfl (fun ls hl => ?_)
                refine lv_iinc (v := iI (x4 + 1)) (lv' := [(4, iv (x4 + 1)), (3, iv (b2 (f3 || (m_here g x2 && (decide (0 < m_thing g x2 (7 + x4)) && !(m_here g (m_thing g x2 (7 + x4) - 1))))))), (5, iv (m_thing g x2 (7 + x4) - 1)), (2, iv x2), (1, iv x1), (0, .ref (o 0))]) hx hb dX2_danglers_74 hl (k := 2) rfl (iI_add _ _) (by decide) rfl (fun ls hl => ?_)
                refine lv_goto (tgt := 17) hx hb dX2_danglers_77 (by decide) ?_
                exact ihlb (f3 || (m_here g x2 && (decide (0 < m_thing g x2 (7 + x4)) && !(m_here g (m_thing g x2 (7 + x4) - 1))))) (x4 + 1) (by first | omega | rfl) (by rw [exB_s (by omega), ← ilb_1]) (by omega) ls (lv_sub hl [0, 1, 3, 4, 5] rfl)
              refine lv_aload_n hx hb dX2_danglers_42 rfl (lv_at hl 5 rfl) ?_
              refine va_get (D := E.1) (ci := 2) (v := .ref (o 12)) (C := RX2) (T := TX2) (N := 14) hx hb hts in_X2 hown hK.1 hP 0 rfl rfl 5 (by decide) (hts _ q199) (fun _ h9 => h9) rfl dX2_danglers_43 ?_
              refine lv_iload_n hx hb dX2_danglers_46 rfl (lv_at hl 3 rfl) ?_
              refine n_zald (f := ar 12) hx hb hK.1 hP 12 1 rfl rfl (by omega) (by decide) dX2_danglers_47 ?_
              rw [hsr.her (k := x2) (by omega)]
              refine n_ifb_eq (tgt := 71) hx hb dX2_danglers_48 (by decide) (fun c_6 => ?_) (fun c_6 => ?_)
              · refine lv_iconst (v := iI 0) hx hb dX2_danglers_71 rfl ?_
                refine n_top (y := b2 (m_here g x2 && (decide (0 < m_thing g x2 (7 + x4)) && !(m_here g (m_thing g x2 (7 + x4) - 1))))) (by cases hh1 : m_here g x2 <;> cases hh2 : m_here g (m_thing g x2 (7 + x4) - 1) <;> first | (exfalso; simp_all; done) | (by_cases hq9 : 0 < m_thing g x2 (7 + x4); (rw [decide_eq_true hq9]; first | rfl | (exfalso; omega)); (rw [decide_eq_false hq9]; first | rfl | (exfalso; omega)))) ?_
                exact j_5
              · refine lv_iload hx hb dX2_danglers_51 (lv_at hl 0 rfl) ?_
                refine lv_iconst (v := iI (-1)) hx hb dX2_danglers_53 rfl ?_
                have b_7 := hob.2.2.1 x4 (by omega) (by omega) (by omega)
                refine n_icmp_eq (tgt := 71) hx hb dX2_danglers_54 (by decide) (by omega) (by omega) (fun c_8 => ?_) (fun c_8 => ?_)
                · refine lv_iconst (v := iI 0) hx hb dX2_danglers_71 rfl ?_
                  refine n_top (y := b2 (m_here g x2 && (decide (0 < m_thing g x2 (7 + x4)) && !(m_here g (m_thing g x2 (7 + x4) - 1))))) (by cases hh1 : m_here g x2 <;> cases hh2 : m_here g (m_thing g x2 (7 + x4) - 1) <;> first | (exfalso; simp_all; done) | (by_cases hq9 : 0 < m_thing g x2 (7 + x4); (rw [decide_eq_true hq9]; first | rfl | (exfalso; omega)); (rw [decide_eq_false hq9]; first | rfl | (exfalso; omega)))) ?_
                  exact j_5
                · refine lv_aload_n hx hb dX2_danglers_57 rfl (lv_at hl 5 rfl) ?_
                  refine va_get (D := E.1) (ci := 2) (v := .ref (o 12)) (C := RX2) (T := TX2) (N := 14) hx hb hts in_X2 hown hK.1 hP 0 rfl rfl 5 (by decide) (hts _ q199) (fun _ h9 => h9) rfl dX2_danglers_58 ?_
                  refine lv_iload hx hb dX2_danglers_61 (lv_at hl 0 rfl) ?_
                  refine n_zald (f := ar 12) hx hb hK.1 hP 12 1 rfl rfl (by omega) (by decide) dX2_danglers_63 ?_
                  rw [hsr.her (k := m_thing g x2 (7 + x4) - 1) (by omega)]
                  refine n_ifb_ne (tgt := 71) hx hb dX2_danglers_64 (by decide) (fun c_9 => ?_) (fun c_9 => ?_)
                  · refine lv_iconst (v := iI 0) hx hb dX2_danglers_71 rfl ?_
                    refine n_top (y := b2 (m_here g x2 && (decide (0 < m_thing g x2 (7 + x4)) && !(m_here g (m_thing g x2 (7 + x4) - 1))))) (by cases hh1 : m_here g x2 <;> cases hh2 : m_here g (m_thing g x2 (7 + x4) - 1) <;> first | (exfalso; simp_all; done) | (by_cases hq9 : 0 < m_thing g x2 (7 + x4); (rw [decide_eq_true hq9]; first | rfl | (exfalso; omega)); (rw [decide_eq_false hq9]; first | rfl | (exfalso; omega)))) ?_
                    exact j_5
                  · refine lv_iconst (v := iI 1) hx hb dX2_danglers_67 rfl ?_
                    refine lv_goto (tgt := 72) hx hb dX2_danglers_68 (by decide) ?_
                    refine n_top (y := b2 (m_here g x2 && (decide (0 < m_thing g x2 (7 + x4)) && !(m_here g (m_thing g x2 (7 + x4) - 1))))) (by cases hh1 : m_here g x2 <;> cases hh2 : m_here g (m_thing g x2 (7 + x4) - 1) <;> first | (exfalso; simp_all; done) | (by_cases hq9 : 0 < m_thing g x2 (7 + x4); (rw [decide_eq_true hq9]; first | rfl | (exfalso; omega)); (rw [decide_eq_false hq9]; first | rfl | (exfalso; omega)))) ?_
                    exact j_5
        have hob := how.2.2 x2 (by omega) (by omega)
        have hob3 := hob.2.1
        exact lb 4 false 0 (by first | omega | rfl | trivial) (by rfl) (by omega) ls hl
  exact la 161 0 0 (by first | omega | rfl | trivial) (by rfl) (by omega) ls hl
set_option maxHeartbeats 1000000 in
set_option maxRecDepth 100000 in
theorem mt_X2_areSinglesSingle (l : Launch) (E : EE) (o : Nat → Nat) (sc : Nat → Int) (ar : Nat → Int → Int)  (g : Int → Int) (hsr : SR g sc ar) (how : OY g) (hsc : SC g) (hhh : HH g) (hsi : SI g) : Met l yX2_areSinglesSingle (ws_ yX2_areSinglesSingle cX2_areSinglesSingle 4 (some .boolean)) { frames := 1, cells := 0, slots := 0, locals := 21 } (va_Pc [.ref (o 0)] (PW E (SW E o sc ar))) (NP 1) 0 0 (fun _ => False) := by
  refine Met.ofW (cc := cX2_areSinglesSingle) (maxL := 4) (ret := (some .boolean)) (by decide) rfl ?_
  intro p e s m args below meth c s₁ B hml hv
  obtain ⟨rfl, hP, hK⟩ := hv
  have hx := B.exec
  have hb := B.bytes
  have hr := B.returns
  have hts := atoms_spec (ws := (ws_ yX2_areSinglesSingle cX2_areSinglesSingle 4 (some .boolean))) B.pre
  have hts : ∀ w ∈ lw_all, w.before _ s = true := fun w h => hts w (List.mem_cons_of_mem _ h)
  have hown : s.vm.findClass RX2 = some m.cls := findClass_of_methodNamed B.named
  have hlocks := B.notSynchronized
  have hl := lv_entry ([.ref (o 0)]) (n := 4) (Nat.le_of_ble_eq_true rfl)
  rw [lg_entry_eq]
  generalize (lg_sl ([.ref (o 0)]) ++ List.replicate (4 - (lg_sl ([.ref (o 0)])).length) Slot.unset).toArray = ls at hl ⊢
  have hl : lv_has ls 4 [(0, .ref (o 0))] := hl
  have hn1 := hsr.n1
  have ho1 := how.1
  have ho2 := how.2.1
  refine lv_iconst (v := iI 0) hx hb dX2_areSinglesSingle_0 rfl ?_
  refine lv_istore_n (lv' := [(1, iv 0), (0, .ref (o 0))]) hx hb dX2_areSinglesSingle_1 rfl hl (by decide) rfl (fun ls hl => ?_)
  refine lv_iconst (v := iI 1) hx hb dX2_areSinglesSingle_2 rfl ?_
  refine lv_istore_n (lv' := [(2, iv 1), (1, iv 0), (0, .ref (o 0))]) hx hb dX2_areSinglesSingle_3 rfl hl (by decide) rfl (fun ls hl => ?_)
  refine lv_iconst (v := iI 0) hx hb dX2_areSinglesSingle_4 rfl ?_
  refine lv_istore_n (lv' := [(3, iv 0), (2, iv 1), (1, iv 0), (0, .ref (o 0))]) hx hb dX2_areSinglesSingle_5 rfl hl (by decide) rfl (fun ls hl => ?_)
  have l6 : ∀ (fu : Nat) (fs : Int → Bool) (x2 : Int) (x3 : Int), (0 ≤ x3 ∧ x3 ≤ g 1) → (x2 = 1) → (∀ v, fs v = sngS g x3 v) → (g 1 - x3 < (fu : Int)) → ∀ ls : Array Slot, lv_has ls 4 [(3, iv x3), (2, iv x2), (1, iv (bsI fs)), (0, .ref (o 0))] → W p l e (headSpec (ws_ yX2_areSinglesSingle cX2_areSinglesSingle 4 (some .boolean)) { frames := 1, cells := 0, slots := 0, locals := 21 }).room s m ([.ref (o 0)] : List Value).toArray below meth c s.heap [] 0 0 (MQ below (NP 1) ([.ref (o 0)] : List Value).toArray s 0 0 (fun _ => False)) (F0 m 6 ls []) := by
    intro fu
    induction fu with
    | zero =>
      intro fs x2 x3 il6_0 il6_1 il6_2 hm
      exfalso; omega
    | succ fu ih =>
      intro fs x2 x3 il6_0 il6_1 il6_2 hm ls hl
      have ihl6 := ih
      refine lv_iload_n hx hb dX2_areSinglesSingle_6 rfl (lv_at hl 0 rfl) ?_
      refine lv_aload_n hx hb dX2_areSinglesSingle_7 rfl (lv_at hl 3 rfl) ?_
      refine va_get (D := E.1) (ci := 2) (v := iv (sc 2)) (C := RX2) (T := TX2) (N := 14) hx hb hts in_X2 hown hK.1 hP 0 rfl rfl 2 (by decide) (hts _ q193) (fun _ h9 => h9) rfl dX2_areSinglesSingle_8 ?_
      refine n_icmp_ge (tgt := 80) hx hb dX2_areSinglesSingle_11 (by decide) (by omega) (by omega) (fun c_1 => ?_) (fun c_1 => ?_)
      · refine lv_iload_n hx hb dX2_areSinglesSingle_80 rfl (lv_at hl 1 rfl) ?_
        have hfin : x2 = 1 := by
          exact il6_1
        exact W.zret (v := iI x2) hx hb hr (nr_b (by omega)) (fun tt_ ht_ hW_ => ⟨iI x2, rfl, (congrArg iI hfin), ht_⟩) (fun q h => by cases h) dX2_areSinglesSingle_81
      · refine lv_aload_n hx hb dX2_areSinglesSingle_14 rfl (lv_at hl 3 rfl) ?_
        refine va_get (D := E.1) (ci := 2) (v := .ref (o 12)) (C := RX2) (T := TX2) (N := 14) hx hb hts in_X2 hown hK.1 hP 0 rfl rfl 5 (by decide) (hts _ q199) (fun _ h9 => h9) rfl dX2_areSinglesSingle_15 ?_
        refine lv_iload_n hx hb dX2_areSinglesSingle_18 rfl (lv_at hl 0 rfl) ?_
        refine n_zald (f := ar 12) hx hb hK.1 hP 12 1 rfl rfl (by omega) (by decide) dX2_areSinglesSingle_19 ?_
        rw [hsr.her (k := x3) (by omega)]
        refine n_ifb_eq (tgt := 74) hx hb dX2_areSinglesSingle_20 (by decide) (fun c_2 => ?_) (fun c_2 => ?_)
        · refine lv_iinc (v := iI (x3 + 1)) (lv' := [(3, iv (x3 + 1)), (2, iv x2), (1, iv (bsI fs)), (0, .ref (o 0))]) hx hb dX2_areSinglesSingle_74 hl (k := 0) rfl (iI_add _ _) (by decide) rfl (fun ls hl => ?_)
          refine lv_goto (tgt := 6) hx hb dX2_areSinglesSingle_77 (by decide) ?_
          exact ihl6 fs x2 (x3 + 1) (by first | omega | rfl) (by first | omega | rfl) (by intro v; unfold sngS; rw [exB_s (by omega)]; have q2 := il6_2 v; unfold sngS at q2; simp [c_1, c_2, b2_t, q2]; first | done | (congr 1; exact decide_eq_decide.mpr eq_comm)) (by omega) ls (lv_sub hl [0, 1, 2, 3] rfl)
        · have hob := (how.2.2 x3 (by omega) (by omega)).1
          have hha : m_has g (m_thing g x3 0) = true := hhh x3 (by omega) (by omega) (by assumption)
          have hs4 := hsc (m_thing g x3 0) (by omega) (by omega)
          refine lv_aload_n hx hb dX2_areSinglesSingle_23 rfl (lv_at hl 3 rfl) ?_
          refine va_get (D := E.1) (ci := 2) (v := .ref (o 1)) (C := RX2) (T := TX2) (N := 14) hx hb hts in_X2 hown hK.1 hP 0 rfl rfl 0 (by decide) (hts _ q188) (fun _ h9 => h9) rfl dX2_areSinglesSingle_24 ?_
          refine va_getN (D := E.1) (ci := 3) (v := .ref (o 3)) (C := RX3) (T := TX3) (N := 7) hx hb hts in_X3 hown hK.1 hP 1 rfl rfl 1 (by decide) (hK.nw q158) (fun _ h9 => h9) rfl dX2_areSinglesSingle_27 ?_
          refine lv_aload_n hx hb dX2_areSinglesSingle_30 rfl (lv_at hl 3 rfl) ?_
          refine va_get (D := E.1) (ci := 2) (v := .ref (o 10)) (C := RX2) (T := TX2) (N := 14) hx hb hts in_X2 hown hK.1 hP 0 rfl rfl 3 (by decide) (hts _ q195) (fun _ h9 => h9) rfl dX2_areSinglesSingle_31 ?_
          refine lv_iload_n hx hb dX2_areSinglesSingle_34 rfl (lv_at hl 0 rfl) ?_
          refine n_iald (f := ar 10) hx hb hK.1 hP 10 0 rfl rfl (by omega) (by decide) dX2_areSinglesSingle_35 ?_
          rw [hsr.kind (k := x3) (by omega)]
          have b_3 := (how.2.2 x3 (by omega) (by omega)).1
          refine n_cald (f := ar 3) hx hb hK.1 hP 3 2 rfl rfl (by omega) (by decide) dX2_areSinglesSingle_36 ?_
          rw [hsr.br.sco (t := m_thing g x3 0) (by omega) (by first | assumption | exact HN_pos hhn (t := m_thing g x3 0) (by omega) (by omega))]
          refine lv_bipush (v := iI 115) hx hb dX2_areSinglesSingle_37 (by decide) ?_
          have b_4 := hsc (m_thing g x3 0) (by omega) (by omega)
          refine n_icmp_ne (tgt := 74) hx hb dX2_areSinglesSingle_39 (by decide) (by omega) (by omega) (fun c_5 => ?_) (fun c_5 => ?_)
          · refine lv_iinc (v := iI (x3 + 1)) (lv' := [(3, iv (x3 + 1)), (2, iv x2), (1, iv (bsI fs)), (0, .ref (o 0))]) hx hb dX2_areSinglesSingle_74 hl (k := 0) rfl (iI_add _ _) (by decide) rfl (fun ls hl => ?_)
            refine lv_goto (tgt := 6) hx hb dX2_areSinglesSingle_77 (by decide) ?_
            exact ihl6 fs x2 (x3 + 1) (by first | omega | rfl) (by first | omega | rfl) (by intro v; unfold sngS; rw [exB_s (by omega)]; have q2 := il6_2 v; unfold sngS at q2; simp [c_1, c_2, c_5, b2_t, q2]; first | done | (congr 1; exact decide_eq_decide.mpr eq_comm)) (by omega) ls (lv_sub hl [0, 1, 2, 3] rfl)
          · refine lv_iload_n hx hb dX2_areSinglesSingle_42 rfl (lv_at hl 1 rfl) ?_
            refine lv_iload_n hx hb dX2_areSinglesSingle_43 rfl (lv_at hl 2 rfl) ?_
            refine lv_aload_n hx hb dX2_areSinglesSingle_44 rfl (lv_at hl 3 rfl) ?_
            refine va_get (D := E.1) (ci := 2) (v := .ref (o 10)) (C := RX2) (T := TX2) (N := 14) hx hb hts in_X2 hown hK.1 hP 0 rfl rfl 3 (by decide) (hts _ q195) (fun _ h9 => h9) rfl dX2_areSinglesSingle_45 ?_
            refine lv_iload_n hx hb dX2_areSinglesSingle_48 rfl (lv_at hl 0 rfl) ?_
            refine n_iald (f := ar 10) hx hb hK.1 hP 10 0 rfl rfl (by omega) (by decide) dX2_areSinglesSingle_49 ?_
            rw [hsr.kind (k := x3) (by omega)]
            refine n_csi (x := b2 (fs (m_thing g x3 0))) (va_runSN (As := [iv (bsI fs), iv (m_thing g x3 0)]) (rest := [iv x2]) ⟨hx, hb, hml, hown, hts⟩ (mt_X1_isIn l E fs (m_thing g x3 0) (by omega)) ⟨(va_cnB 2 hts (lw_meth q751) rfl rfl rfl (hK.nv q749) (hts _ q94) (by decide +kernel) ⟨Nat.le_of_ble_eq_true rfl, Nat.le_of_ble_eq_true rfl⟩), hts _ q750, trivial⟩ (PW_S (hP.sub (ws' := []) [] rfl) hK) rfl rfl hl.1 rfl (lv_room (Nat.le_of_ble_eq_true rfl)) dX2_areSinglesSingle_50 ⟨Nat.le_of_ble_eq_true rfl, Nat.le_of_ble_eq_true rfl⟩) ?_
            refine n_top (y := 0) (by rw [il6_2, sng_no hsi (by omega) (by assumption) (by assumption)]; rfl) ?_
            refine n_if_ne (tgt := 60) hx hb dX2_areSinglesSingle_53 (by decide) (by omega) (fun c_6 => absurd c_6 (by decide)) (fun _ => ?_)
            refine lv_iconst (v := iI 1) hx hb dX2_areSinglesSingle_56 rfl ?_
            refine lv_goto (tgt := 61) hx hb dX2_areSinglesSingle_57 (by decide) ?_
            refine n_iand1 hx hb dX2_areSinglesSingle_61 ?_
            refine lv_istore_n (lv' := [(2, iv (x2 % 2)), (3, iv x3), (1, iv (bsI fs)), (0, .ref (o 0))]) hx hb dX2_areSinglesSingle_62 rfl hl (by decide) rfl (fun ls hl => ?_)
            refine lv_iload_n hx hb dX2_areSinglesSingle_63 rfl (lv_at hl 2 rfl) ?_
            refine lv_iconst (v := iI 1) hx hb dX2_areSinglesSingle_64 rfl ?_
            refine lv_aload_n hx hb dX2_areSinglesSingle_65 rfl (lv_at hl 3 rfl) ?_
            refine va_get (D := E.1) (ci := 2) (v := .ref (o 10)) (C := RX2) (T := TX2) (N := 14) hx hb hts in_X2 hown hK.1 hP 0 rfl rfl 3 (by decide) (hts _ q195) (fun _ h9 => h9) rfl dX2_areSinglesSingle_66 ?_
            refine lv_iload_n hx hb dX2_areSinglesSingle_69 rfl (lv_at hl 1 rfl) ?_
            refine n_iald (f := ar 10) hx hb hK.1 hP 10 0 rfl rfl (by omega) (by decide) dX2_areSinglesSingle_70 ?_
            rw [hsr.kind (k := x3) (by omega)]
            refine n_ishl1_bs hx hb (by omega) dX2_areSinglesSingle_71 ?_
            refine n_ior_bs hx hb dX2_areSinglesSingle_72 ?_
            refine lv_istore_n (lv' := [(1, iv (bsI (fun v => fs v || (fun v => decide (v = m_thing g x3 0)) v))), (2, iv (x2 % 2)), (3, iv x3), (0, .ref (o 0))]) hx hb dX2_areSinglesSingle_73 rfl hl (by decide) rfl (fun ls hl => ?_)
            refine lv_iinc (v := iI (x3 + 1)) (lv' := [(3, iv (x3 + 1)), (1, iv (bsI (fun v => fs v || (fun v => decide (v = m_thing g x3 0)) v))), (2, iv (x2 % 2)), (0, .ref (o 0))]) hx hb dX2_areSinglesSingle_74 hl (k := 2) rfl (iI_add _ _) (by decide) rfl (fun ls hl => ?_)
            refine lv_goto (tgt := 6) hx hb dX2_areSinglesSingle_77 (by decide) ?_
            exact ihl6 (fun v => fs v || (fun v => decide (v = m_thing g x3 0)) v) (x2 % 2) (x3 + 1) (by first | omega | rfl) (by first | omega | rfl) (by intro v; unfold sngS; rw [exB_s (by omega)]; have q2 := il6_2 v; unfold sngS at q2; simp [c_1, c_2, c_5, b2_t, q2]; first | done | (congr 1; exact decide_eq_decide.mpr eq_comm)) (by omega) ls (lv_sub hl [0, 2, 1, 3] rfl)
  exact l6 161 (fun _ => false) 1 0 (by first | omega | rfl | trivial) (by first | omega | rfl | trivial) (by intro v; rfl) (by omega) ls hl
