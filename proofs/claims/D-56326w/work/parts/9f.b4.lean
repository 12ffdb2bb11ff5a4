set_option maxHeartbeats 2000000 in
set_option maxRecDepth 100000 in
theorem mt_X3_directCircle (l : Launch) (E : EE) (o : Nat → Nat) (sc : Nat → Int) (ar : Nat → Int → Int)  (g : Int → Int) (hbr : BR g ar) (hhn : HN g) (htw : TW g) (hsw : SwOK g) (sz : Nat) : Met l yX3_directCircle (ws_ yX3_directCircle cX3_directCircle 4 (some .int)) { frames := 5, cells := 40, slots := 296, locals := 3093 } (va_Pc [.ref (o 1)] (UX E (BW E o sc ar) sz)) (UQi E (m_circ g) (BW E o sc ar) (va_A (BW E o sc ar) sz)) 40 296 (va_A (BW E o sc ar) sz) := by
  refine Met.ofW (cc := cX3_directCircle) (maxL := 4) (ret := (some .int)) (by decide) rfl ?_
  intro p e s m args below meth c s₁ B hml hv
  obtain ⟨rfl, hsz, hP, hK, hD0, hE⟩ := hv
  have hx := B.exec
  have hb := B.bytes
  have hr := B.returns
  have hts := atoms_spec (ws := (ws_ yX3_directCircle cX3_directCircle 4 (some .int))) B.pre
  have hts : ∀ w ∈ lw_all, w.before _ s = true := fun w h => hts w (List.mem_cons_of_mem _ h)
  have hown : s.vm.findClass RX3 = some m.cls := findClass_of_methodNamed B.named
  have hlocks := B.notSynchronized
  subst hsz
  have hD := hD0.self (sz := s.heap.size)
  generalize hAe : va_A (BW E o sc ar) s.heap.size = A at hD hE ⊢
  have hA : ∀ q : Nat, s.heap.size ≤ q → A q := fun q h => by rw [← hAe]; exact Or.inr h
  have hS : va_S A s.heap s.heap [] := va_S.rf
  have hl := lv_entry ([.ref (o 1)]) (n := 4) (Nat.le_of_ble_eq_true rfl)
  rw [lg_entry_eq]
  generalize (lg_sl ([.ref (o 1)]) ++ List.replicate (4 - (lg_sl ([.ref (o 1)])).length) Slot.unset).toArray = ls at hl ⊢
  have hl : lv_has ls 4 [(0, .ref (o 1))] := hl
  refine lv_iconst (v := iI 0) hx hb dX3_directCircle_0 rfl ?_
  refine lv_istore_n (lv' := [(1, iv 0), (0, .ref (o 1))]) hx hb dX3_directCircle_1 rfl hl (by decide) rfl (fun ls hl => ?_)
  refine lv_iconst (v := iI 0) hx hb dX3_directCircle_2 rfl ?_
  refine lv_istore_n (lv' := [(2, iv 0), (1, iv 0), (0, .ref (o 1))]) hx hb dX3_directCircle_3 rfl hl (by decide) rfl (fun ls hl => ?_)
  have l4 : ∀ (fu : Nat) (cll4 sll4 : Nat) (x1 : Int) (x2 : Int), (cll4 + 5 * fu ≤ 45 ∧ sll4 + 37 * fu ≤ 333) → (0 ≤ x2 ∧ x2 ≤ 8 ∧ 0 ≤ x1 ∧ x1 ≤ 8) → (CB g x1) → (∀ k n, 0 ≤ k → k < x2 → 1 ≤ n → n ≤ 8 → m_hit g n k = true → x1 ≠ 0 ∧ x1 ≤ n) → (8 - x2 < (fu : Int)) → ∀ (H : Heap) (locs : List Loc), va_P E.1 CL (BW E o sc ar) H → va_D A (BW E o sc ar) → va_S A s.heap H locs → ∀ ls : Array Slot, lv_has ls 4 [(2, iv x2), (1, iv x1), (0, .ref (o 1))] → W p l e (headSpec (ws_ yX3_directCircle cX3_directCircle 4 (some .int)) { frames := 5, cells := 40, slots := 296, locals := 3093 }).room s m ([.ref (o 1)] : List Value).toArray below meth c H locs cll4 sll4 (MQ below (UQi E (m_circ g) (BW E o sc ar) A) ([.ref (o 1)] : List Value).toArray s 40 296 A) (F0 m 4 ls []) := by
    intro fu
    induction fu with
    | zero =>
      intro cll4 sll4 x1 x2 hgl4 il4_0 il4_1 il4_2 hm
      exfalso; omega
    | succ fu ih =>
      intro cll4 sll4 x1 x2 hgl4 il4_0 il4_1 il4_2 hm H locs hP hD hS ls hl
      have ihl4 := ih
      refine lv_iload_n hx hb dX3_directCircle_4 rfl (lv_at hl 0 rfl) ?_
      refine lv_bipush (v := iI 8) hx hb dX3_directCircle_5 (by decide) ?_
      refine n_icmp_ge (tgt := 46) hx hb dX3_directCircle_7 (by decide) (by omega) (by omega) (fun c_1 => ?_) (fun c_1 => ?_)
      · refine lv_iload_n hx hb dX3_directCircle_46 rfl (lv_at hl 1 rfl) ?_
        have hfin : x1 = m_circ g := by
          obtain rfl : x2 = 8 := by omega
          exact m_circ_fin il4_1 (fun k n q1 q2 q3 q4 q5 => il4_2 k n q1 q2 q3 q4 q5)
        refine W.widen (k := 40) (n := 296) (show cll4 + 0 ≤ 40 by omega) (show sll4 + 0 ≤ 296 by omega) ?_
        exact W.iret (v := iI x1) hx hb hr (fun tt_ ht_ hW_ => ⟨⟨iI x1, (), rfl, (congrArg iI hfin), by rw [ht_]; exact hP, hD⟩, hS.F ht_⟩) hS.2.2 dX3_directCircle_47
      · refine lv_iload_n hx hb dX3_directCircle_10 rfl (lv_at hl 0 rfl) ?_
        refine lv_aload_n hx hb dX3_directCircle_11 rfl (lv_at hl 2 rfl) ?_
        refine n_cuxrS (x := fun u_2 => u_2) (w2 := fun u_2 => (BW E o sc ar) ++ ([(u_2, .inl (E.2 (3000 + 2), 1, .inr (.inr (.inr (.inr (fun _ => some (o 1)))))))])) (va_runV (As := []) (rest := [iv x2]) ⟨hx, hb, hml, hown, hts⟩ (mt_X3_directWay l E o sc ar  _) (cwV 0 hts (lw_V q731 q732 q733 q96 q734) rfl rfl rfl (by decide +kernel) ⟨Nat.le_of_ble_eq_true rfl, Nat.le_of_ble_eq_true rfl⟩) (UX_V hP hK (hD) hE hS (va_A_in hD hS hA) (va_recv hK.1 hP (ci := 3) (q0 := 0) rfl rfl)) rfl rfl hl.1 rfl (lv_room (Nat.le_of_ble_eq_true rfl)) dX3_directCircle_12 ⟨(show cll4 + 1 ≤ 40 by omega), (show sll4 + 1 ≤ 296 by omega)⟩) hP hD hS hA [0, 1, 2, 3, 4, 5, 6, 7] [] [0, 1, 2, 3, 4, 5, 6, 7, 8] rfl rfl rfl rfl rfl (fun _ => rfl) (fun u_2 H locs hu_2 hP hD hS => ?_)
        have hu_2 : True := hu_2
        have hP : va_P E.1 CL ((BW E o sc ar) ++ ([(u_2, .inl (E.2 (3000 + 2), 1, .inr (.inr (.inr (.inr (fun _ => some (o 1)))))))])) H := hP
        have hD : va_D A ((BW E o sc ar) ++ ([(u_2, .inl (E.2 (3000 + 2), 1, .inr (.inr (.inr (.inr (fun _ => some (o 1)))))))])) := hD
        refine n_cuxrS (x := fun u_3 : Nat × (Int → Int) => u_3.1) (w2 := fun u_3 : Nat × (Int → Int) => (BW E o sc ar) ++ ([(u_2, .inl (E.2 (3000 + 2), 1, .inr (.inr (.inr (.inr (fun _ => some (o 1)))))))]) ++ ([(u_3.1, ia (E.2 0) 8 u_3.2)])) (va_runS (As := [iv x2, .ref u_2]) (rest := []) ⟨hx, hb, hml, hown, hts⟩ (mt_X3_steps2 l E o sc ar u_2 x2 g (by omega) (by assumption) (by assumption) (by assumption) (by assumption) _) (va_cwS 2 hts (lw_S q553 q554 q96 q555) rfl rfl rfl (by decide +kernel) ⟨Nat.le_of_ble_eq_true rfl, Nat.le_of_ble_eq_true rfl⟩) (UX_S hP hK (hD) hE hS (va_A_in hD hS hA)) rfl rfl hl.1 rfl (lv_room (Nat.le_of_ble_eq_true rfl)) dX3_directCircle_15 ⟨(show (cll4 + 1) + 4 ≤ 40 by omega), (show (sll4 + 1) + 36 ≤ 296 by omega)⟩) hP hD hS hA [0, 1, 2, 3, 4, 5, 6, 7, 8] [] [0, 1, 2, 3, 4, 5, 6, 7, 8, 9] rfl rfl rfl rfl rfl (fun _ => rfl) (fun u_3 H locs hu_3 hP hD hS => ?_)
        have hu_3 : BE g false x2 u_3.2 := hu_3
        have hP : va_P E.1 CL ((BW E o sc ar) ++ ([(u_2, .inl (E.2 (3000 + 2), 1, .inr (.inr (.inr (.inr (fun _ => some (o 1)))))))]) ++ ([(u_3.1, ia (E.2 0) 8 u_3.2)])) H := hP
        have hD : va_D A ((BW E o sc ar) ++ ([(u_2, .inl (E.2 (3000 + 2), 1, .inr (.inr (.inr (.inr (fun _ => some (o 1)))))))]) ++ ([(u_3.1, ia (E.2 0) 8 u_3.2)])) := hD
        refine lv_iload_n hx hb dX3_directCircle_18 rfl (lv_at hl 0 rfl) ?_
        refine n_iald (f := u_3.2) hx hb hK.1 hP 9 0 rfl rfl (by omega) (by decide) dX3_directCircle_19 ?_
        refine lv_istore_n (lv' := [(3, iv (u_3.2 x2)), (2, iv x2), (1, iv x1), (0, .ref (o 1))]) hx hb dX3_directCircle_20 rfl hl (by decide) rfl (fun ls hl => ?_)
        refine lv_iload_n hx hb dX3_directCircle_21 rfl (lv_at hl 0 rfl) ?_
        have b_4 := hu_3.r (y := x2) (by omega)
        refine n_if_le (tgt := 38) hx hb dX3_directCircle_22 (by decide) (by omega) (fun c_5 => ?_) (fun c_5 => ?_)
        · refine lv_iload_n hx hb dX3_directCircle_38 rfl (lv_at hl 2 rfl) ?_
          have hh := hu_3.hit
          have hcb : CB g x1 := il4_1
          have hhh : ∀ k n, 0 ≤ k → k < x2 + 1 → 1 ≤ n → n ≤ 8 → m_hit g n k = true → x1 ≠ 0 ∧ x1 ≤ n := by
            intro k n q1 q2 q3 q4 q5
            by_cases hk : k = x2
            · subst hk; have := hh.2 n q3 q5; omega
            · have := il4_2 k n q1 (by omega) q3 q4 q5; omega
          refine lv_istore_n (lv' := [(1, iv x1), (3, iv (u_3.2 x2)), (2, iv x2), (0, .ref (o 1))]) hx hb dX3_directCircle_39 rfl hl (by decide) rfl (fun ls hl => ?_)
          refine lv_iinc (v := iI (x2 + 1)) (lv' := [(2, iv (x2 + 1)), (1, iv x1), (3, iv (u_3.2 x2)), (0, .ref (o 1))]) hx hb dX3_directCircle_40 hl (k := 2) rfl (iI_add _ _) (by decide) rfl (fun ls hl => ?_)
          refine lv_goto (tgt := 4) hx hb dX3_directCircle_43 (by decide) ?_
          have hP := hP.sub (ws' := BW E o sc ar) [0, 1, 2, 3, 4, 5, 6, 7] rfl
          have hD := hD.sub (ws' := BW E o sc ar) [0, 1, 2, 3, 4, 5, 6, 7] (by decide) rfl
          exact ihl4 (cll4 + 5) (sll4 + 37) x1 (x2 + 1) (by omega) (by first | omega | rfl) (by exact hcb) (by exact hhh) (by omega) H locs hP hD hS ls (lv_sub hl [0, 1, 3] rfl)
        · refine lv_iload_n hx hb dX3_directCircle_25 rfl (lv_at hl 2 rfl) ?_
          refine n_if_eq (tgt := 34) hx hb dX3_directCircle_26 (by decide) (by omega) (fun c_6 => ?_) (fun c_6 => ?_)
          · refine lv_iload_n hx hb dX3_directCircle_34 rfl (lv_at hl 0 rfl) ?_
            refine lv_goto (tgt := 39) hx hb dX3_directCircle_35 (by decide) ?_
            have hh := hu_3.hit
            have hcb : CB g (u_3.2 x2) := Or.inr ⟨by omega, by omega, x2, by omega, by omega, hh.1 (by omega)⟩
            have hhh : ∀ k n, 0 ≤ k → k < x2 + 1 → 1 ≤ n → n ≤ 8 → m_hit g n k = true → u_3.2 x2 ≠ 0 ∧ u_3.2 x2 ≤ n := by
              intro k n q1 q2 q3 q4 q5
              by_cases hk : k = x2
              · subst hk; have := hh.2 n q3 q5; omega
              · have := il4_2 k n q1 (by omega) q3 q4 q5; omega
            refine lv_istore_n (lv' := [(1, iv (u_3.2 x2)), (3, iv (u_3.2 x2)), (2, iv x2), (0, .ref (o 1))]) hx hb dX3_directCircle_39 rfl hl (by decide) rfl (fun ls hl => ?_)
            refine lv_iinc (v := iI (x2 + 1)) (lv' := [(2, iv (x2 + 1)), (1, iv (u_3.2 x2)), (3, iv (u_3.2 x2)), (0, .ref (o 1))]) hx hb dX3_directCircle_40 hl (k := 2) rfl (iI_add _ _) (by decide) rfl (fun ls hl => ?_)
            refine lv_goto (tgt := 4) hx hb dX3_directCircle_43 (by decide) ?_
            have hP := hP.sub (ws' := BW E o sc ar) [0, 1, 2, 3, 4, 5, 6, 7] rfl
            have hD := hD.sub (ws' := BW E o sc ar) [0, 1, 2, 3, 4, 5, 6, 7] (by decide) rfl
            exact ihl4 (cll4 + 5) (sll4 + 37) (u_3.2 x2) (x2 + 1) (by omega) (by first | omega | rfl) (by exact hcb) (by exact hhh) (by omega) H locs hP hD hS ls (lv_sub hl [0, 1, 3] rfl)
          · refine lv_iload_n hx hb dX3_directCircle_29 rfl (lv_at hl 0 rfl) ?_
            refine lv_iload_n hx hb dX3_directCircle_30 rfl (lv_at hl 2 rfl) ?_
            refine n_icmp_ge (tgt := 38) hx hb dX3_directCircle_31 (by decide) (by omega) (by omega) (fun c_7 => ?_) (fun c_7 => ?_)
            · refine lv_iload_n hx hb dX3_directCircle_38 rfl (lv_at hl 2 rfl) ?_
              have hh := hu_3.hit
              have hcb : CB g x1 := il4_1
              have hhh : ∀ k n, 0 ≤ k → k < x2 + 1 → 1 ≤ n → n ≤ 8 → m_hit g n k = true → x1 ≠ 0 ∧ x1 ≤ n := by
                intro k n q1 q2 q3 q4 q5
                by_cases hk : k = x2
                · subst hk; have := hh.2 n q3 q5; omega
                · have := il4_2 k n q1 (by omega) q3 q4 q5; omega
              refine lv_istore_n (lv' := [(1, iv x1), (3, iv (u_3.2 x2)), (2, iv x2), (0, .ref (o 1))]) hx hb dX3_directCircle_39 rfl hl (by decide) rfl (fun ls hl => ?_)
              refine lv_iinc (v := iI (x2 + 1)) (lv' := [(2, iv (x2 + 1)), (1, iv x1), (3, iv (u_3.2 x2)), (0, .ref (o 1))]) hx hb dX3_directCircle_40 hl (k := 2) rfl (iI_add _ _) (by decide) rfl (fun ls hl => ?_)
              refine lv_goto (tgt := 4) hx hb dX3_directCircle_43 (by decide) ?_
              have hP := hP.sub (ws' := BW E o sc ar) [0, 1, 2, 3, 4, 5, 6, 7] rfl
              have hD := hD.sub (ws' := BW E o sc ar) [0, 1, 2, 3, 4, 5, 6, 7] (by decide) rfl
              exact ihl4 (cll4 + 5) (sll4 + 37) x1 (x2 + 1) (by omega) (by first | omega | rfl) (by exact hcb) (by exact hhh) (by omega) H locs hP hD hS ls (lv_sub hl [0, 1, 3] rfl)
            · refine lv_iload_n hx hb dX3_directCircle_34 rfl (lv_at hl 0 rfl) ?_
              refine lv_goto (tgt := 39) hx hb dX3_directCircle_35 (by decide) ?_
              have hh := hu_3.hit
              have hcb : CB g (u_3.2 x2) := Or.inr ⟨by omega, by omega, x2, by omega, by omega, hh.1 (by omega)⟩
              have hhh : ∀ k n, 0 ≤ k → k < x2 + 1 → 1 ≤ n → n ≤ 8 → m_hit g n k = true → u_3.2 x2 ≠ 0 ∧ u_3.2 x2 ≤ n := by
                intro k n q1 q2 q3 q4 q5
                by_cases hk : k = x2
                · subst hk; have := hh.2 n q3 q5; omega
                · have := il4_2 k n q1 (by omega) q3 q4 q5; omega
              refine lv_istore_n (lv' := [(1, iv (u_3.2 x2)), (3, iv (u_3.2 x2)), (2, iv x2), (0, .ref (o 1))]) hx hb dX3_directCircle_39 rfl hl (by decide) rfl (fun ls hl => ?_)
              refine lv_iinc (v := iI (x2 + 1)) (lv' := [(2, iv (x2 + 1)), (1, iv (u_3.2 x2)), (3, iv (u_3.2 x2)), (0, .ref (o 1))]) hx hb dX3_directCircle_40 hl (k := 2) rfl (iI_add _ _) (by decide) rfl (fun ls hl => ?_)
              refine lv_goto (tgt := 4) hx hb dX3_directCircle_43 (by decide) ?_
              have hP := hP.sub (ws' := BW E o sc ar) [0, 1, 2, 3, 4, 5, 6, 7] rfl
              have hD := hD.sub (ws' := BW E o sc ar) [0, 1, 2, 3, 4, 5, 6, 7] (by decide) rfl
              exact ihl4 (cll4 + 5) (sll4 + 37) (u_3.2 x2) (x2 + 1) (by omega) (by first | omega | rfl) (by exact hcb) (by exact hhh) (by omega) H locs hP hD hS ls (lv_sub hl [0, 1, 3] rfl)
  exact l4 9 0 0 0 0 (by omega) (by first | omega | rfl | trivial) (by exact Or.inl rfl) (by intro k n _ h; omega) (by omega) s.heap [] hP hD hS ls hl
set_option maxHeartbeats 1000000 in
set_option maxRecDepth 100000 in
theorem mt_X3_refuseCircle (l : Launch) (E : EE) (o : Nat → Nat) (sc : Nat → Int) (ar : Nat → Int → Int)  (g : Int → Int) (hst : l.stackTraces = false) (hbr : BR g ar) (hhn : HN g) (htw : TW g) (hsw : SwOK g) (sz : Nat) : vx_Met l yX3_refuseCircle (ws_ yX3_refuseCircle cX3_refuseCircle 2 none) { frames := 7, cells := 41, slots := 305, locals := 3116 } (va_Pc [.ref (o 1)] (UX E (BW E o sc ar) sz)) (UQxv E (fun u : Unit => m_circ g = 0) (fun u : Unit => BW E o sc ar) (va_A (BW E o sc ar) sz)) (UXx E (fun (En : String) (u : Unit) => En = "ClockworkTailor$Refusal" ∧ 0 < m_circ g) (fun u : Unit => BW E o sc ar) (fun u : Unit => some (5, [iv 3, iv (m_circ g), .null])) (va_A (BW E o sc ar) sz)) 41 305 (va_A (BW E o sc ar) sz) := by
  refine vx_ofW (cc := cX3_refuseCircle) (maxL := 2) (ret := none) (by decide) rfl ?_
  intro p e s m args below meth c s₁ B hml htb hv
  obtain ⟨rfl, hsz, hP, hK, hD0, hE⟩ := hv
  have hx := B.exec
  have hb := B.bytes
  have hr := B.returns
  have hts := atoms_spec (ws := (ws_ yX3_refuseCircle cX3_refuseCircle 2 none)) B.pre
  have hts : ∀ w ∈ lw_all, w.before _ s = true := fun w h => hts w (List.mem_cons_of_mem _ h)
  have hown : s.vm.findClass RX3 = some m.cls := findClass_of_methodNamed B.named
  have hlocks := B.notSynchronized
  subst hsz
  have hD := hD0.self (sz := s.heap.size)
  generalize hAe : va_A (BW E o sc ar) s.heap.size = A at hD hE ⊢
  have hA : ∀ q : Nat, s.heap.size ≤ q → A q := fun q h => by rw [← hAe]; exact Or.inr h
  have hS : va_S A s.heap s.heap [] := va_S.rf
  have hl := lv_entry ([.ref (o 1)]) (n := 2) (Nat.le_of_ble_eq_true rfl)
  rw [lg_entry_eq]
  generalize (lg_sl ([.ref (o 1)]) ++ List.replicate (2 - (lg_sl ([.ref (o 1)])).length) Slot.unset).toArray = ls at hl ⊢
  have hl : lv_has ls 2 [(0, .ref (o 1))] := hl
  refine lv_aload_n hx hb dX3_refuseCircle_0 rfl (lv_at hl 0 rfl) ?_
  refine n_cui (x := m_circ g) (va_runV (As := []) (rest := []) ⟨hx, hb, hml, hown, hts⟩ (mt_X3_directCircle l E o sc ar  g (by assumption) (by assumption) (by assumption) (by assumption) _) (cwV 0 hts (lw_V q1019 q1020 q1021 q96 q1022) rfl rfl rfl (by decide +kernel) ⟨Nat.le_of_ble_eq_true rfl, Nat.le_of_ble_eq_true rfl⟩) (UX_V hP hK (hD) hE hS (va_A_in hD hS hA) (va_recv hK.1 hP (ci := 3) (q0 := 0) rfl rfl)) rfl rfl hl.1 rfl (lv_room (Nat.le_of_ble_eq_true rfl)) dX3_refuseCircle_1 ⟨Nat.le_of_ble_eq_true rfl, Nat.le_of_ble_eq_true rfl⟩) hD hS hA (fun H locs hP hD hS => ?_)
  have hP : va_P E.1 CL (BW E o sc ar) H := hP
  have hD : va_D A (BW E o sc ar) := hD
  refine lv_istore_n (lv' := [(1, iv (m_circ g)), (0, .ref (o 1))]) hx hb dX3_refuseCircle_4 rfl hl (by decide) rfl (fun ls hl => ?_)
  have j_1 : W p l e (headSpec (ws_ yX3_refuseCircle cX3_refuseCircle 2 none) { frames := 7, cells := 41, slots := 305, locals := 3116 }).room s m ([.ref (o 1)] : List Value).toArray below meth c H locs 40 296 (vx_MQ below (UQxv E (fun u : Unit => m_circ g = 0) (fun u : Unit => BW E o sc ar) A) (UXx E (fun (En : String) (u : Unit) => En = "ClockworkTailor$Refusal" ∧ 0 < m_circ g) (fun u : Unit => BW E o sc ar) (fun u : Unit => some (5, [iv 3, iv (m_circ g), .null])) A) ([.ref (o 1)] : List Value).toArray s 41 305 A) (F0 m 14 ls [iv (b2 (decide (0 < m_circ g)))]) := by
    refine lv_iconst (v := iI 3) hx hb dX3_refuseCircle_14 rfl ?_
    refine lv_iload_n hx hb dX3_refuseCircle_15 rfl (lv_at hl 0 rfl) ?_
    have b_2 := m_circ_r g
    have hz_3 : s.heap.size ≤ H.size := hS.1
    refine n_txvS (w2 := fun u_4 => BW E o sc ar) (w3 := fun u_5 => BW E o sc ar) (vx_runSN (As := [iv (b2 (decide (0 < m_circ g))), iv 3, iv (m_circ g)]) (rest := []) ⟨hx, hb, hml, hown, hts⟩ (mt_X1_refuseIf l E (decide (0 < m_circ g)) 3 (m_circ g) (by exact hst) _) ⟨(va_cnB 3 hts (lw_meth q814) rfl rfl rfl (hK.nv q1023) (hts _ q94) (by decide +kernel) ⟨Nat.le_of_ble_eq_true rfl, Nat.le_of_ble_eq_true rfl⟩), hts _ q813, trivial⟩ (UX_S (hP.sub (ws' := []) [] rfl) hK (hD.sub (ws' := []) [] rfl rfl) hE hS (va_sub_free hD hS hA [] rfl)) rfl rfl hl.1 rfl (lv_room (Nat.le_of_ble_eq_true rfl)) dX3_refuseCircle_16 ⟨Nat.le_of_ble_eq_true rfl, Nat.le_of_ble_eq_true rfl⟩) hP hD hS hA [] [0, 1, 2, 3, 4, 5, 6, 7] [0, 1, 2, 3, 4, 5, 6, 7] [0, 1, 2, 3, 4, 5, 6, 7] rfl rfl rfl rfl rfl (fun _ => rfl) rfl (fun _ => rfl) ?_ ?_
    · intro En ce q9 u_5 H locs hCx hP hD hS hxf hq9 hce hcv hcl
      have hCx : En = "ClockworkTailor$Refusal" ∧ (decide (0 < m_circ g)) = true := hCx
      have hP : va_P E.1 CL (BW E o sc ar) H := hP
      have hD : va_D A (BW E o sc ar) := hD
      exact n_out () (by exact ⟨hCx.1, of_decide_eq_true hCx.2⟩) hP hD hS hxf (Nat.le_trans hz_3 hq9) hce hcv hcl (fun x hx9 => (htb x hx9).elim) hlocks (Nat.le_of_ble_eq_true rfl) (Nat.le_of_ble_eq_true rfl)
    · intro u_4 H locs hC hP hD hS
      have hu_4 : (decide (0 < m_circ g)) = false := hC
      have hP : va_P E.1 CL (BW E o sc ar) H := hP
      have hD : va_D A (BW E o sc ar) := hD
      have hcz : ¬ 0 < m_circ g := of_decide_eq_false hu_4
      have hcr := m_circ_r g
      refine vx_ret ?_
      refine W.widen (k := 41) (n := 305) (Nat.le_of_ble_eq_true rfl) (Nat.le_of_ble_eq_true rfl) ?_
      exact W.vret hx hb hr (fun tt_ ht_ hW_ => ⟨⟨(), rfl, by omega, by rw [ht_]; exact hP, hD⟩, hS.F ht_⟩) hS.2.2 dX3_refuseCircle_19
  refine lv_iload_n hx hb dX3_refuseCircle_5 rfl (lv_at hl 0 rfl) ?_
  have b_6 := m_circ_r g
  refine n_if_le (tgt := 13) hx hb dX3_refuseCircle_6 (by decide) (by omega) (fun c_7 => ?_) (fun c_7 => ?_)
  · refine lv_iconst (v := iI 0) hx hb dX3_refuseCircle_13 rfl ?_
    refine n_top (y := b2 (decide (0 < m_circ g))) (by first | exact (b2_pos (by omega)).symm | exact (b2_neg (by omega)).symm) ?_
    exact j_1
  · refine lv_iconst (v := iI 1) hx hb dX3_refuseCircle_9 rfl ?_
    refine lv_goto (tgt := 14) hx hb dX3_refuseCircle_10 (by decide) ?_
    refine n_top (y := b2 (decide (0 < m_circ g))) (by first | exact (b2_pos (by omega)).symm | exact (b2_neg (by omega)).symm) ?_
    exact j_1
set_option maxHeartbeats 2000000 in
set_option maxRecDepth 100000 in
theorem mt_X3_leadsToCount (l : Launch) (E : EE) (o : Nat → Nat) (sc : Nat → Int) (ar : Nat → Int → Int) (t : Int) (g : Int → Int) (ht : 0 ≤ t ∧ t < 8) (hbr : BR g ar) (hhn : HN g) (htw : TW g) (hsw : SwOK g) (sz : Nat) : Met l yX3_leadsToCount (ws_ yX3_leadsToCount cX3_leadsToCount 7 (some .int)) { frames := 5, cells := 5, slots := 37, locals := 3093 } (va_Pc [.ref (o 1), iv t] (UX E (BW E o sc ar) sz)) (UQi E (sumI (fun k => b2 (m_reach g true t k)) 8) (BW E o sc ar) (va_A (BW E o sc ar) sz)) 5 37 (va_A (BW E o sc ar) sz) := by
  refine Met.ofW (cc := cX3_leadsToCount) (maxL := 7) (ret := (some .int)) (by decide) rfl ?_
  intro p e s m args below meth c s₁ B hml hv
  obtain ⟨rfl, hsz, hP, hK, hD0, hE⟩ := hv
  have hx := B.exec
  have hb := B.bytes
  have hr := B.returns
  have hts := atoms_spec (ws := (ws_ yX3_leadsToCount cX3_leadsToCount 7 (some .int))) B.pre
  have hts : ∀ w ∈ lw_all, w.before _ s = true := fun w h => hts w (List.mem_cons_of_mem _ h)
  have hown : s.vm.findClass RX3 = some m.cls := findClass_of_methodNamed B.named
  have hlocks := B.notSynchronized
  subst hsz
  have hD := hD0.self (sz := s.heap.size)
  generalize hAe : va_A (BW E o sc ar) s.heap.size = A at hD hE ⊢
  have hA : ∀ q : Nat, s.heap.size ≤ q → A q := fun q h => by rw [← hAe]; exact Or.inr h
  have hS : va_S A s.heap s.heap [] := va_S.rf
  have hl := lv_entry ([.ref (o 1), iv t]) (n := 7) (Nat.le_of_ble_eq_true rfl)
  rw [lg_entry_eq]
  generalize (lg_sl ([.ref (o 1), iv t]) ++ List.replicate (7 - (lg_sl ([.ref (o 1), iv t])).length) Slot.unset).toArray = ls at hl ⊢
  have hl : lv_has ls 7 [(0, .ref (o 1)), (1, iv t)] := hl
  refine lv_iconst (v := iI 0) hx hb dX3_leadsToCount_0 rfl ?_
  refine lv_istore_n (lv' := [(2, iv 0), (0, .ref (o 1)), (1, iv t)]) hx hb dX3_leadsToCount_1 rfl hl (by decide) rfl (fun ls hl => ?_)
  refine lv_iload_n hx hb dX3_leadsToCount_2 rfl (lv_at hl 2 rfl) ?_
  refine lv_aload_n hx hb dX3_leadsToCount_3 rfl (lv_at hl 1 rfl) ?_
  refine n_cuxrS (x := fun u_1 => u_1) (w2 := fun u_1 => (BW E o sc ar) ++ ([(u_1, .inl (E.2 (3000 + 1), 1, .inr (.inr (.inr (.inr (fun _ => some (o 1)))))))])) (va_runV (As := []) (rest := [iv t]) ⟨hx, hb, hml, hown, hts⟩ (mt_X3_anyWay l E o sc ar  _) (cwV 0 hts (lw_V q526 q527 q528 q96 q529) rfl rfl rfl (by decide +kernel) ⟨Nat.le_of_ble_eq_true rfl, Nat.le_of_ble_eq_true rfl⟩) (UX_V hP hK (hD) hE hS (va_A_in hD hS hA) (va_recv hK.1 hP (ci := 3) (q0 := 0) rfl rfl)) rfl rfl hl.1 rfl (lv_room (Nat.le_of_ble_eq_true rfl)) dX3_leadsToCount_4 ⟨Nat.le_of_ble_eq_true rfl, Nat.le_of_ble_eq_true rfl⟩) hP hD hS hA [0, 1, 2, 3, 4, 5, 6, 7] [] [0, 1, 2, 3, 4, 5, 6, 7, 8] rfl rfl rfl rfl rfl (fun _ => rfl) (fun u_1 H locs hu_1 hP hD hS => ?_)
  have hu_1 : True := hu_1
  have hP : va_P E.1 CL ((BW E o sc ar) ++ ([(u_1, .inl (E.2 (3000 + 1), 1, .inr (.inr (.inr (.inr (fun _ => some (o 1)))))))])) H := hP
  have hD : va_D A ((BW E o sc ar) ++ ([(u_1, .inl (E.2 (3000 + 1), 1, .inr (.inr (.inr (.inr (fun _ => some (o 1)))))))])) := hD
  refine n_cuxrS (x := fun u_2 : Nat × (Int → Int) => u_2.1) (w2 := fun u_2 : Nat × (Int → Int) => (BW E o sc ar) ++ ([(u_1, .inl (E.2 (3000 + 1), 1, .inr (.inr (.inr (.inr (fun _ => some (o 1)))))))]) ++ ([(u_2.1, ia (E.2 0) 8 u_2.2)])) (va_runS (As := [iv t, .ref u_1]) (rest := []) ⟨hx, hb, hml, hown, hts⟩ (mt_X3_steps1 l E o sc ar u_1 t g (by omega) (by assumption) (by assumption) (by assumption) (by assumption) _) (va_cwS 2 hts (lw_S q553 q554 q96 q555) rfl rfl rfl (by decide +kernel) ⟨Nat.le_of_ble_eq_true rfl, Nat.le_of_ble_eq_true rfl⟩) (UX_S hP hK (hD) hE hS (va_A_in hD hS hA)) rfl rfl hl.1 rfl (lv_room (Nat.le_of_ble_eq_true rfl)) dX3_leadsToCount_7 ⟨Nat.le_of_ble_eq_true rfl, Nat.le_of_ble_eq_true rfl⟩) hP hD hS hA [0, 1, 2, 3, 4, 5, 6, 7, 8] [] [0, 1, 2, 3, 4, 5, 6, 7, 8, 9] rfl rfl rfl rfl rfl (fun _ => rfl) (fun u_2 H locs hu_2 hP hD hS => ?_)
  have hu_2 : BE g true t u_2.2 := hu_2
  have hP : va_P E.1 CL ((BW E o sc ar) ++ ([(u_1, .inl (E.2 (3000 + 1), 1, .inr (.inr (.inr (.inr (fun _ => some (o 1)))))))]) ++ ([(u_2.1, ia (E.2 0) 8 u_2.2)])) H := hP
  have hD : va_D A ((BW E o sc ar) ++ ([(u_1, .inl (E.2 (3000 + 1), 1, .inr (.inr (.inr (.inr (fun _ => some (o 1)))))))]) ++ ([(u_2.1, ia (E.2 0) 8 u_2.2)])) := hD
  refine lv_astore_n (lv' := [(3, .ref u_2.1), (2, iv 0), (0, .ref (o 1)), (1, iv t)]) hx hb dX3_leadsToCount_10 rfl hl (by decide) rfl (fun ls hl => ?_)
  refine lv_aload_n hx hb dX3_leadsToCount_11 rfl (lv_at hl 0 rfl) ?_
  refine va_alen (v := iI 8) hx hb hK.1 hP 9 0 rfl rfl rfl dX3_leadsToCount_12 ?_
  refine lv_istore (lv' := [(4, iv 8), (3, .ref u_2.1), (2, iv 0), (0, .ref (o 1)), (1, iv t)]) hx hb dX3_leadsToCount_13 hl (by decide) rfl (fun ls hl => ?_)
  refine lv_iconst (v := iI 0) hx hb dX3_leadsToCount_15 rfl ?_
  refine lv_istore (lv' := [(5, iv 0), (4, iv 8), (3, .ref u_2.1), (2, iv 0), (0, .ref (o 1)), (1, iv t)]) hx hb dX3_leadsToCount_16 hl (by decide) rfl (fun ls hl => ?_)
  have l18 : ∀ (fu : Nat) (x2 : Int) (x5 : Int), (0 ≤ x5 ∧ x5 ≤ 8) → (x2 = sumI (fun k => b2 (m_reach g true t k)) x5) → (8 - x5 < (fu : Int)) → ∀ ls : Array Slot, lv_has ls 7 [(5, iv x5), (4, iv 8), (3, .ref u_2.1), (2, iv x2), (0, .ref (o 1)), (1, iv t)] → W p l e (headSpec (ws_ yX3_leadsToCount cX3_leadsToCount 7 (some .int)) { frames := 5, cells := 5, slots := 37, locals := 3093 }).room s m ([.ref (o 1), iv t] : List Value).toArray below meth c H locs 5 37 (MQ below (UQi E (sumI (fun k => b2 (m_reach g true t k)) 8) (BW E o sc ar) A) ([.ref (o 1), iv t] : List Value).toArray s 5 37 A) (F0 m 18 ls []) := by
    intro fu
    induction fu with
    | zero =>
      intro x2 x5 il18_0 il18_1 hm
      exfalso; omega
    | succ fu ih =>
      intro x2 x5 il18_0 il18_1 hm ls hl
      have ihl18 := ih
      refine lv_iload hx hb dX3_leadsToCount_18 (lv_at hl 0 rfl) ?_
      refine lv_iload hx hb dX3_leadsToCount_20 (lv_at hl 1 rfl) ?_
      refine n_icmp_ge (tgt := 50) hx hb dX3_leadsToCount_22 (by decide) (by omega) (by omega) (fun c_3 => ?_) (fun c_3 => ?_)
      · refine lv_iload_n hx hb dX3_leadsToCount_50 rfl (lv_at hl 3 rfl) ?_
        have hfin : x2 = sumI (fun k => b2 (m_reach g true t k)) 8 := by
          obtain rfl : x5 = 8 := by omega
          exact il18_1
        have hP := hP.sub (ws' := BW E o sc ar) [0, 1, 2, 3, 4, 5, 6, 7] rfl
        have hD := hD.sub (ws' := BW E o sc ar) [0, 1, 2, 3, 4, 5, 6, 7] (by decide) rfl
        refine W.widen (k := 5) (n := 37) (Nat.le_of_ble_eq_true rfl) (Nat.le_of_ble_eq_true rfl) ?_
        exact W.iret (v := iI x2) hx hb hr (fun tt_ ht_ hW_ => ⟨⟨iI x2, (), rfl, (congrArg iI hfin), by rw [ht_]; exact hP, hD⟩, hS.F ht_⟩) hS.2.2 dX3_leadsToCount_51
      · refine lv_aload_n hx hb dX3_leadsToCount_25 rfl (lv_at hl 2 rfl) ?_
        refine lv_iload hx hb dX3_leadsToCount_26 (lv_at hl 0 rfl) ?_
        refine n_iald (f := u_2.2) hx hb hK.1 hP 9 0 rfl rfl (by omega) (by decide) dX3_leadsToCount_28 ?_
        refine lv_istore (lv' := [(6, iv (u_2.2 x5)), (5, iv x5), (4, iv 8), (3, .ref u_2.1), (2, iv x2), (0, .ref (o 1)), (1, iv t)]) hx hb dX3_leadsToCount_29 hl (by decide) rfl (fun ls hl => ?_)
        have hre := hu_2.reach (y := x5) (by omega)
        refine lv_iload_n hx hb dX3_leadsToCount_31 rfl (lv_at hl 4 rfl) ?_
        refine lv_iload hx hb dX3_leadsToCount_32 (lv_at hl 0 rfl) ?_
        have b_4 := hu_2.r (y := x5) (by omega)
        refine n_if_le (tgt := 41) hx hb dX3_leadsToCount_34 (by decide) (by omega) (fun c_5 => ?_) (fun c_5 => ?_)
        · refine lv_iconst (v := iI 0) hx hb dX3_leadsToCount_41 rfl ?_
          refine n_iadd hx hb dX3_leadsToCount_42 ?_
          refine lv_istore_n (lv' := [(2, iv (x2 + 0)), (6, iv (u_2.2 x5)), (5, iv x5), (4, iv 8), (3, .ref u_2.1), (0, .ref (o 1)), (1, iv t)]) hx hb dX3_leadsToCount_43 rfl hl (by decide) rfl (fun ls hl => ?_)
          refine lv_iinc (v := iI (x5 + 1)) (lv' := [(5, iv (x5 + 1)), (2, iv (x2 + 0)), (6, iv (u_2.2 x5)), (4, iv 8), (3, .ref u_2.1), (0, .ref (o 1)), (1, iv t)]) hx hb dX3_leadsToCount_44 hl (k := 2) rfl (iI_add _ _) (by decide) rfl (fun ls hl => ?_)
          refine lv_goto (tgt := 18) hx hb dX3_leadsToCount_47 (by decide) ?_
          exact ihl18 (x2 + 0) (x5 + 1) (by first | omega | rfl) (by rw [sumI_s (by omega), ← il18_1, hre]; first | rw [b2_pos (by omega)] | rw [b2_neg (by omega)]) (by omega) ls (lv_sub hl [0, 3, 4, 1, 5, 6] rfl)
        · refine lv_iconst (v := iI 1) hx hb dX3_leadsToCount_37 rfl ?_
          refine lv_goto (tgt := 42) hx hb dX3_leadsToCount_38 (by decide) ?_
          refine n_iadd hx hb dX3_leadsToCount_42 ?_
          refine lv_istore_n (lv' := [(2, iv (x2 + 1)), (6, iv (u_2.2 x5)), (5, iv x5), (4, iv 8), (3, .ref u_2.1), (0, .ref (o 1)), (1, iv t)]) hx hb dX3_leadsToCount_43 rfl hl (by decide) rfl (fun ls hl => ?_)
          refine lv_iinc (v := iI (x5 + 1)) (lv' := [(5, iv (x5 + 1)), (2, iv (x2 + 1)), (6, iv (u_2.2 x5)), (4, iv 8), (3, .ref u_2.1), (0, .ref (o 1)), (1, iv t)]) hx hb dX3_leadsToCount_44 hl (k := 2) rfl (iI_add _ _) (by decide) rfl (fun ls hl => ?_)
          refine lv_goto (tgt := 18) hx hb dX3_leadsToCount_47 (by decide) ?_
          exact ihl18 (x2 + 1) (x5 + 1) (by first | omega | rfl) (by rw [sumI_s (by omega), ← il18_1, hre]; first | rw [b2_pos (by omega)] | rw [b2_neg (by omega)]) (by omega) ls (lv_sub hl [0, 3, 4, 1, 5, 6] rfl)
  exact l18 9 0 0 (by first | omega | rfl | trivial) (by rfl) (by omega) ls hl
set_option maxHeartbeats 2000000 in
set_option maxRecDepth 100000 in
theorem mt_X3_inCircles (l : Launch) (E : EE) (o : Nat → Nat) (sc : Nat → Int) (ar : Nat → Int → Int)  (g : Int → Int) (hbr : BR g ar) (hhn : HN g) (htw : TW g) (hsw : SwOK g) (sz : Nat) : Met l yX3_inCircles (ws_ yX3_inCircles cX3_inCircles 3 (some .int)) { frames := 5, cells := 40, slots := 296, locals := 3093 } (va_Pc [.ref (o 1)] (UX E (BW E o sc ar) sz)) (UQi E (sumI (fun k => b2 (m_reach g true k k)) 8) (BW E o sc ar) (va_A (BW E o sc ar) sz)) 40 296 (va_A (BW E o sc ar) sz) := by
  refine Met.ofW (cc := cX3_inCircles) (maxL := 3) (ret := (some .int)) (by decide) rfl ?_
  intro p e s m args below meth c s₁ B hml hv
  obtain ⟨rfl, hsz, hP, hK, hD0, hE⟩ := hv
  have hx := B.exec
  have hb := B.bytes
  have hr := B.returns
  have hts := atoms_spec (ws := (ws_ yX3_inCircles cX3_inCircles 3 (some .int))) B.pre
  have hts : ∀ w ∈ lw_all, w.before _ s = true := fun w h => hts w (List.mem_cons_of_mem _ h)
  have hown : s.vm.findClass RX3 = some m.cls := findClass_of_methodNamed B.named
  have hlocks := B.notSynchronized
  subst hsz
  have hD := hD0.self (sz := s.heap.size)
  generalize hAe : va_A (BW E o sc ar) s.heap.size = A at hD hE ⊢
  have hA : ∀ q : Nat, s.heap.size ≤ q → A q := fun q h => by rw [← hAe]; exact Or.inr h
  have hS : va_S A s.heap s.heap [] := va_S.rf
  have hl := lv_entry ([.ref (o 1)]) (n := 3) (Nat.le_of_ble_eq_true rfl)
  rw [lg_entry_eq]
  generalize (lg_sl ([.ref (o 1)]) ++ List.replicate (3 - (lg_sl ([.ref (o 1)])).length) Slot.unset).toArray = ls at hl ⊢
  have hl : lv_has ls 3 [(0, .ref (o 1))] := hl
  refine lv_iconst (v := iI 0) hx hb dX3_inCircles_0 rfl ?_
  refine lv_istore_n (lv' := [(1, iv 0), (0, .ref (o 1))]) hx hb dX3_inCircles_1 rfl hl (by decide) rfl (fun ls hl => ?_)
  refine lv_iconst (v := iI 0) hx hb dX3_inCircles_2 rfl ?_
  refine lv_istore_n (lv' := [(2, iv 0), (1, iv 0), (0, .ref (o 1))]) hx hb dX3_inCircles_3 rfl hl (by decide) rfl (fun ls hl => ?_)
  have l4 : ∀ (fu : Nat) (cll4 sll4 : Nat) (x1 : Int) (x2 : Int), (cll4 + 5 * fu ≤ 45 ∧ sll4 + 37 * fu ≤ 333) → (0 ≤ x2 ∧ x2 ≤ 8) → (x1 = sumI (fun k => b2 (m_reach g true k k)) x2) → (8 - x2 < (fu : Int)) → ∀ (H : Heap) (locs : List Loc), va_P E.1 CL (BW E o sc ar) H → va_D A (BW E o sc ar) → va_S A s.heap H locs → ∀ ls : Array Slot, lv_has ls 3 [(2, iv x2), (1, iv x1), (0, .ref (o 1))] → W p l e (headSpec (ws_ yX3_inCircles cX3_inCircles 3 (some .int)) { frames := 5, cells := 40, slots := 296, locals := 3093 }).room s m ([.ref (o 1)] : List Value).toArray below meth c H locs cll4 sll4 (MQ below (UQi E (sumI (fun k => b2 (m_reach g true k k)) 8) (BW E o sc ar) A) ([.ref (o 1)] : List Value).toArray s 40 296 A) (F0 m 4 ls []) := by
    intro fu
    induction fu with
    | zero =>
      intro cll4 sll4 x1 x2 hgl4 il4_0 il4_1 hm
      exfalso; omega
    | succ fu ih =>
      intro cll4 sll4 x1 x2 hgl4 il4_0 il4_1 hm H locs hP hD hS ls hl
      have ihl4 := ih
      refine lv_iload_n hx hb dX3_inCircles_4 rfl (lv_at hl 0 rfl) ?_
      refine lv_bipush (v := iI 8) hx hb dX3_inCircles_5 (by decide) ?_
      refine n_icmp_ge (tgt := 37) hx hb dX3_inCircles_7 (by decide) (by omega) (by omega) (fun c_1 => ?_) (fun c_1 => ?_)
      · refine lv_iload_n hx hb dX3_inCircles_37 rfl (lv_at hl 1 rfl) ?_
        have hfin : x1 = sumI (fun k => b2 (m_reach g true k k)) 8 := by
          obtain rfl : x2 = 8 := by omega
          exact il4_1
        refine W.widen (k := 40) (n := 296) (show cll4 + 0 ≤ 40 by omega) (show sll4 + 0 ≤ 296 by omega) ?_
        exact W.iret (v := iI x1) hx hb hr (fun tt_ ht_ hW_ => ⟨⟨iI x1, (), rfl, (congrArg iI hfin), by rw [ht_]; exact hP, hD⟩, hS.F ht_⟩) hS.2.2 dX3_inCircles_38
      · refine lv_iload_n hx hb dX3_inCircles_10 rfl (lv_at hl 1 rfl) ?_
        refine lv_iload_n hx hb dX3_inCircles_11 rfl (lv_at hl 0 rfl) ?_
        refine lv_aload_n hx hb dX3_inCircles_12 rfl (lv_at hl 2 rfl) ?_
        refine n_cuxrS (x := fun u_2 => u_2) (w2 := fun u_2 => (BW E o sc ar) ++ ([(u_2, .inl (E.2 (3000 + 1), 1, .inr (.inr (.inr (.inr (fun _ => some (o 1)))))))])) (va_runV (As := []) (rest := [iv x2, iv x1]) ⟨hx, hb, hml, hown, hts⟩ (mt_X3_anyWay l E o sc ar  _) (cwV 0 hts (lw_V q526 q527 q528 q96 q529) rfl rfl rfl (by decide +kernel) ⟨Nat.le_of_ble_eq_true rfl, Nat.le_of_ble_eq_true rfl⟩) (UX_V hP hK (hD) hE hS (va_A_in hD hS hA) (va_recv hK.1 hP (ci := 3) (q0 := 0) rfl rfl)) rfl rfl hl.1 rfl (lv_room (Nat.le_of_ble_eq_true rfl)) dX3_inCircles_13 ⟨(show cll4 + 1 ≤ 40 by omega), (show sll4 + 1 ≤ 296 by omega)⟩) hP hD hS hA [0, 1, 2, 3, 4, 5, 6, 7] [] [0, 1, 2, 3, 4, 5, 6, 7, 8] rfl rfl rfl rfl rfl (fun _ => rfl) (fun u_2 H locs hu_2 hP hD hS => ?_)
        have hu_2 : True := hu_2
        have hP : va_P E.1 CL ((BW E o sc ar) ++ ([(u_2, .inl (E.2 (3000 + 1), 1, .inr (.inr (.inr (.inr (fun _ => some (o 1)))))))])) H := hP
        have hD : va_D A ((BW E o sc ar) ++ ([(u_2, .inl (E.2 (3000 + 1), 1, .inr (.inr (.inr (.inr (fun _ => some (o 1)))))))])) := hD
        refine n_cuxrS (x := fun u_3 : Nat × (Int → Int) => u_3.1) (w2 := fun u_3 : Nat × (Int → Int) => (BW E o sc ar) ++ ([(u_2, .inl (E.2 (3000 + 1), 1, .inr (.inr (.inr (.inr (fun _ => some (o 1)))))))]) ++ ([(u_3.1, ia (E.2 0) 8 u_3.2)])) (va_runS (As := [iv x2, .ref u_2]) (rest := [iv x1]) ⟨hx, hb, hml, hown, hts⟩ (mt_X3_steps1 l E o sc ar u_2 x2 g (by omega) (by assumption) (by assumption) (by assumption) (by assumption) _) (va_cwS 2 hts (lw_S q553 q554 q96 q555) rfl rfl rfl (by decide +kernel) ⟨Nat.le_of_ble_eq_true rfl, Nat.le_of_ble_eq_true rfl⟩) (UX_S hP hK (hD) hE hS (va_A_in hD hS hA)) rfl rfl hl.1 rfl (lv_room (Nat.le_of_ble_eq_true rfl)) dX3_inCircles_16 ⟨(show (cll4 + 1) + 4 ≤ 40 by omega), (show (sll4 + 1) + 36 ≤ 296 by omega)⟩) hP hD hS hA [0, 1, 2, 3, 4, 5, 6, 7, 8] [] [0, 1, 2, 3, 4, 5, 6, 7, 8, 9] rfl rfl rfl rfl rfl (fun _ => rfl) (fun u_3 H locs hu_3 hP hD hS => ?_)
        have hu_3 : BE g true x2 u_3.2 := hu_3
        have hP : va_P E.1 CL ((BW E o sc ar) ++ ([(u_2, .inl (E.2 (3000 + 1), 1, .inr (.inr (.inr (.inr (fun _ => some (o 1)))))))]) ++ ([(u_3.1, ia (E.2 0) 8 u_3.2)])) H := hP
        have hD : va_D A ((BW E o sc ar) ++ ([(u_2, .inl (E.2 (3000 + 1), 1, .inr (.inr (.inr (.inr (fun _ => some (o 1)))))))]) ++ ([(u_3.1, ia (E.2 0) 8 u_3.2)])) := hD
        refine lv_iload_n hx hb dX3_inCircles_19 rfl (lv_at hl 0 rfl) ?_
        refine n_iald (f := u_3.2) hx hb hK.1 hP 9 0 rfl rfl (by omega) (by decide) dX3_inCircles_20 ?_
        have hre := hu_3.reach (y := x2) (by omega)
        have b_4 := hu_3.r (y := x2) (by omega)
        refine n_if_le (tgt := 28) hx hb dX3_inCircles_21 (by decide) (by omega) (fun c_5 => ?_) (fun c_5 => ?_)
        · refine lv_iconst (v := iI 0) hx hb dX3_inCircles_28 rfl ?_
          refine n_iadd hx hb dX3_inCircles_29 ?_
          refine lv_istore_n (lv' := [(1, iv (x1 + 0)), (2, iv x2), (0, .ref (o 1))]) hx hb dX3_inCircles_30 rfl hl (by decide) rfl (fun ls hl => ?_)
          refine lv_iinc (v := iI (x2 + 1)) (lv' := [(2, iv (x2 + 1)), (1, iv (x1 + 0)), (0, .ref (o 1))]) hx hb dX3_inCircles_31 hl (k := 1) rfl (iI_add _ _) (by decide) rfl (fun ls hl => ?_)
          refine lv_goto (tgt := 4) hx hb dX3_inCircles_34 (by decide) ?_
          have hP := hP.sub (ws' := BW E o sc ar) [0, 1, 2, 3, 4, 5, 6, 7] rfl
          have hD := hD.sub (ws' := BW E o sc ar) [0, 1, 2, 3, 4, 5, 6, 7] (by decide) rfl
          exact ihl4 (cll4 + 5) (sll4 + 37) (x1 + 0) (x2 + 1) (by omega) (by first | omega | rfl) (by rw [sumI_s (by omega), ← il4_1, hre]; first | rw [b2_pos (by omega)] | rw [b2_neg (by omega)]) (by omega) H locs hP hD hS ls (lv_sub hl [0, 1, 2] rfl)
        · refine lv_iconst (v := iI 1) hx hb dX3_inCircles_24 rfl ?_
          refine lv_goto (tgt := 29) hx hb dX3_inCircles_25 (by decide) ?_
          refine n_iadd hx hb dX3_inCircles_29 ?_
          refine lv_istore_n (lv' := [(1, iv (x1 + 1)), (2, iv x2), (0, .ref (o 1))]) hx hb dX3_inCircles_30 rfl hl (by decide) rfl (fun ls hl => ?_)
          refine lv_iinc (v := iI (x2 + 1)) (lv' := [(2, iv (x2 + 1)), (1, iv (x1 + 1)), (0, .ref (o 1))]) hx hb dX3_inCircles_31 hl (k := 1) rfl (iI_add _ _) (by decide) rfl (fun ls hl => ?_)
          refine lv_goto (tgt := 4) hx hb dX3_inCircles_34 (by decide) ?_
          have hP := hP.sub (ws' := BW E o sc ar) [0, 1, 2, 3, 4, 5, 6, 7] rfl
          have hD := hD.sub (ws' := BW E o sc ar) [0, 1, 2, 3, 4, 5, 6, 7] (by decide) rfl
          exact ihl4 (cll4 + 5) (sll4 + 37) (x1 + 1) (x2 + 1) (by omega) (by first | omega | rfl) (by rw [sumI_s (by omega), ← il4_1, hre]; first | rw [b2_pos (by omega)] | rw [b2_neg (by omega)]) (by omega) H locs hP hD hS ls (lv_sub hl [0, 1, 2] rfl)
  exact l4 9 0 0 0 0 (by omega) (by first | omega | rfl | trivial) (by rfl) (by omega) s.heap [] hP hD hS ls hl
