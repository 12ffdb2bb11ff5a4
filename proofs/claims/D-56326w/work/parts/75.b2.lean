set_option maxHeartbeats 4000000 in
set_option maxRecDepth 100000 in
theorem mt_X3_add (l : Launch) (E : EE) (o : Nat → Nat) (sc : Nat → Int) (ar : Nat → Int → Int) (t : Int) (nd : Int) (z : Bool) (g : Int → Int) (ht : 0 ≤ t ∧ t < 8) (hn : -2147483648 ≤ nd ∧ nd < 2147483648) (hbr : BR g ar) (htw : TW g) (hh : m_has g t = true) (h3 : m_of g t 2 < 3) (sz : Nat) : Met l yX3_add (ws_ yX3_add cX3_add 4 none) { frames := 0, cells := 0, slots := 0, locals := 0 } (va_Pc [.ref (o 1), iv t, iv nd, iv (b2 z)] (UW E (BW E o sc ar) sz)) (UQv E (BW E o sc (ua (ua (ua ar 5 (ui (ar 5) t (m_of g t 2 + 1))) 6 (ui (ar 6) (3 * t + m_of g t 2) nd)) 7 (ui (ar 7) (3 * t + m_of g t 2) (b2 z)))) (va_A (BW E o sc ar) sz)) 0 0 (va_A (BW E o sc ar) sz) := by
  refine Met.ofW (cc := cX3_add) (maxL := 4) (ret := none) (by decide) rfl ?_
  intro p e s m args below meth c s₁ B hml hv
  obtain ⟨rfl, hsz, hP, hK, hD0⟩ := hv
  have hx := B.exec
  have hb := B.bytes
  have hr := B.returns
  have hts := atoms_spec (ws := (ws_ yX3_add cX3_add 4 none)) B.pre
  have hts : ∀ w ∈ lw_all, w.before _ s = true := fun w h => hts w (List.mem_cons_of_mem _ h)
  have hown : s.vm.findClass RX3 = some m.cls := findClass_of_methodNamed B.named
  have hlocks := B.notSynchronized
  subst hsz
  have hD := hD0.self (sz := s.heap.size)
  generalize hAe : va_A (BW E o sc ar) s.heap.size = A at hD ⊢
  have hA : ∀ q : Nat, s.heap.size ≤ q → A q := fun q h => by rw [← hAe]; exact Or.inr h
  have hS : va_S A s.heap s.heap [] := va_S.rf
  have hl := lv_entry ([.ref (o 1), iv t, iv nd, iv (b2 z)]) (n := 4) (Nat.le_of_ble_eq_true rfl)
  rw [lg_entry_eq]
  generalize (lg_sl ([.ref (o 1), iv t, iv nd, iv (b2 z)]) ++ List.replicate (4 - (lg_sl ([.ref (o 1), iv t, iv nd, iv (b2 z)])).length) Slot.unset).toArray = ls at hl ⊢
  have hl : lv_has ls 4 [(0, .ref (o 1)), (1, iv t), (2, iv nd), (3, iv (b2 z))] := hl
  have hq := htw t ht.1 ht.2
  refine lv_aload_n hx hb dX3_add_0 rfl (lv_at hl 0 rfl) ?_
  refine va_get (D := E.1) (ci := 3) (v := .ref (o 6)) (C := RX3) (T := TX3) (N := 7) hx hb hts in_X3 hown hK.1 hP 0 rfl rfl 4 (by decide) (hts _ q166) (fun _ h9 => h9) rfl dX3_add_1 ?_
  refine lv_iconst (v := iI 3) hx hb dX3_add_4 rfl ?_
  refine lv_iload_n hx hb dX3_add_5 rfl (lv_at hl 1 rfl) ?_
  refine n_imul hx hb dX3_add_6 ?_
  refine lv_aload_n hx hb dX3_add_7 rfl (lv_at hl 0 rfl) ?_
  refine va_get (D := E.1) (ci := 3) (v := .ref (o 5)) (C := RX3) (T := TX3) (N := 7) hx hb hts in_X3 hown hK.1 hP 0 rfl rfl 3 (by decide) (hts _ q162) (fun _ h9 => h9) rfl dX3_add_8 ?_
  refine lv_iload_n hx hb dX3_add_11 rfl (lv_at hl 1 rfl) ?_
  refine n_iald (f := ar 5) hx hb hK.1 hP 4 0 rfl rfl (by omega) (by decide) dX3_add_12 ?_
  rw [hbr.cnt (t := t) (by omega) (by first | assumption | exact HN_pos hhn (t := t) (by omega) (by omega))]
  refine n_iadd hx hb dX3_add_13 ?_
  refine lv_iload_n hx hb dX3_add_14 rfl (lv_at hl 2 rfl) ?_
  have b_1 := htw t (by omega) (by omega)
  refine n_iast (f := ar 6) hx hb hK.1 hP hD hS 5 0 rfl rfl (by omega) (by decide) dX3_add_15 (ws2 := BW E o sc (ua ar 6 (ui (ar 6) ((3 * t) + (m_of g t 2)) nd))) rfl (fun H locs hP hD hS => ?_)
  refine lv_aload_n hx hb dX3_add_16 rfl (lv_at hl 0 rfl) ?_
  refine va_get (D := E.1) (ci := 3) (v := .ref (o 7)) (C := RX3) (T := TX3) (N := 7) hx hb hts in_X3 hown hK.1 hP 0 rfl rfl 5 (by decide) (hts _ q167) (fun _ h9 => h9) rfl dX3_add_17 ?_
  refine lv_iconst (v := iI 3) hx hb dX3_add_20 rfl ?_
  refine lv_iload_n hx hb dX3_add_21 rfl (lv_at hl 1 rfl) ?_
  refine n_imul hx hb dX3_add_22 ?_
  refine lv_aload_n hx hb dX3_add_23 rfl (lv_at hl 0 rfl) ?_
  refine va_get (D := E.1) (ci := 3) (v := .ref (o 5)) (C := RX3) (T := TX3) (N := 7) hx hb hts in_X3 hown hK.1 hP 0 rfl rfl 3 (by decide) (hts _ q162) (fun _ h9 => h9) rfl dX3_add_24 ?_
  refine lv_iload_n hx hb dX3_add_27 rfl (lv_at hl 1 rfl) ?_
  refine n_iald (f := ar 5) hx hb hK.1 hP 4 0 rfl rfl (by omega) (by decide) dX3_add_28 ?_
  rw [hbr.cnt (t := t) (by omega) (by first | assumption | exact HN_pos hhn (t := t) (by omega) (by omega))]
  refine n_iadd hx hb dX3_add_29 ?_
  refine lv_iload_n hx hb dX3_add_30 rfl (lv_at hl 3 rfl) ?_
  refine n_zast (f := ar 7) hx hb hK.1 hP hD hS 6 1 rfl rfl (by omega) (by decide) (b2_r _) dX3_add_31 (ws2 := BW E o sc (ua (ua ar 6 (ui (ar 6) ((3 * t) + (m_of g t 2)) nd)) 7 (ui (ar 7) ((3 * t) + (m_of g t 2)) (b2 z)))) rfl (fun H locs hP hD hS => ?_)
  refine lv_aload_n hx hb dX3_add_32 rfl (lv_at hl 0 rfl) ?_
  refine va_get (D := E.1) (ci := 3) (v := .ref (o 5)) (C := RX3) (T := TX3) (N := 7) hx hb hts in_X3 hown hK.1 hP 0 rfl rfl 3 (by decide) (hts _ q162) (fun _ h9 => h9) rfl dX3_add_33 ?_
  refine lv_iload_n hx hb dX3_add_36 rfl (lv_at hl 1 rfl) ?_
  refine lv_dup2_11 hx hb dX3_add_37 rfl rfl ?_
  refine n_iald (f := ar 5) hx hb hK.1 hP 4 0 rfl rfl (by omega) (by decide) dX3_add_38 ?_
  rw [hbr.cnt (t := t) (by omega) (by first | assumption | exact HN_pos hhn (t := t) (by omega) (by omega))]
  refine lv_iconst (v := iI 1) hx hb dX3_add_39 rfl ?_
  refine n_iadd hx hb dX3_add_40 ?_
  refine n_iast (f := ar 5) hx hb hK.1 hP hD hS 4 0 rfl rfl (by omega) (by decide) dX3_add_41 (ws2 := BW E o sc (ua (ua (ua ar 5 (ui (ar 5) t ((m_of g t 2) + 1))) 6 (ui (ar 6) ((3 * t) + (m_of g t 2)) nd)) 7 (ui (ar 7) ((3 * t) + (m_of g t 2)) (b2 z)))) rfl (fun H locs hP hD hS => ?_)
  have w_2 : ui (ar 5) t ((m_of g t 2) + 1) = ui (ar 5) t (m_of g t 2 + 1) := by
    rfl
  rw [show (ua (ua (ua ar 5 (ui (ar 5) t ((m_of g t 2) + 1))) 6 (ui (ar 6) ((3 * t) + (m_of g t 2)) nd)) 7 (ui (ar 7) ((3 * t) + (m_of g t 2)) (b2 z))) = (ua (ua (ua ar 5 (ui (ar 5) t (m_of g t 2 + 1))) 6 (ui (ar 6) ((3 * t) + (m_of g t 2)) nd)) 7 (ui (ar 7) ((3 * t) + (m_of g t 2)) (b2 z))) from congrArg (fun z0 : Int → Int => (ua (ua (ua ar 5 z0) 6 (ui (ar 6) ((3 * t) + (m_of g t 2)) nd)) 7 (ui (ar 7) ((3 * t) + (m_of g t 2)) (b2 z)))) w_2] at hP hD
  have w_3 : ui (ar 6) ((3 * t) + (m_of g t 2)) nd = ui (ar 6) (3 * t + m_of g t 2) nd := by
    rfl
  rw [show (ua (ua (ua ar 5 (ui (ar 5) t (m_of g t 2 + 1))) 6 (ui (ar 6) ((3 * t) + (m_of g t 2)) nd)) 7 (ui (ar 7) ((3 * t) + (m_of g t 2)) (b2 z))) = (ua (ua (ua ar 5 (ui (ar 5) t (m_of g t 2 + 1))) 6 (ui (ar 6) (3 * t + m_of g t 2) nd)) 7 (ui (ar 7) ((3 * t) + (m_of g t 2)) (b2 z))) from congrArg (fun z0 : Int → Int => (ua (ua (ua ar 5 (ui (ar 5) t (m_of g t 2 + 1))) 6 z0) 7 (ui (ar 7) ((3 * t) + (m_of g t 2)) (b2 z)))) w_3] at hP hD
  have w_4 : ui (ar 7) ((3 * t) + (m_of g t 2)) (b2 z) = ui (ar 7) (3 * t + m_of g t 2) (b2 z) := by
    rfl
  rw [show (ua (ua (ua ar 5 (ui (ar 5) t (m_of g t 2 + 1))) 6 (ui (ar 6) (3 * t + m_of g t 2) nd)) 7 (ui (ar 7) ((3 * t) + (m_of g t 2)) (b2 z))) = (ua (ua (ua ar 5 (ui (ar 5) t (m_of g t 2 + 1))) 6 (ui (ar 6) (3 * t + m_of g t 2) nd)) 7 (ui (ar 7) (3 * t + m_of g t 2) (b2 z))) from congrArg (fun z0 : Int → Int => (ua (ua (ua ar 5 (ui (ar 5) t (m_of g t 2 + 1))) 6 (ui (ar 6) (3 * t + m_of g t 2) nd)) 7 z0)) w_4] at hP hD
  exact W.vret hx hb hr (fun tt_ ht_ hW_ => ⟨⟨(), rfl, trivial, by rw [ht_]; exact hP, hD⟩, hS.F ht_⟩) hS.2.2 dX3_add_42
set_option maxHeartbeats 4000000 in
set_option maxRecDepth 100000 in
theorem mt_X3_remove (l : Launch) (E : EE) (o : Nat → Nat) (sc : Nat → Int) (ar : Nat → Int → Int) (t : Int) (q : Int) (g : Int → Int) (ht : 0 ≤ t ∧ t < 8) (hbr : BR g ar) (htw : TW g) (hh : m_has g t = true) (hk : 0 ≤ q ∧ q < m_of g t 2) (hlz : ∀ x, 0 ≤ x → x < 24 → 0 ≤ ar 7 x ∧ ar 7 x ≤ 1) (sz : Nat) : Met l yX3_remove (ws_ yX3_remove cX3_remove 4 none) { frames := 0, cells := 0, slots := 0, locals := 0 } (va_Pc [.ref (o 1), iv t, iv q] (UW E (BW E o sc ar) sz)) (UQv E (BW E o sc (ua (ua (ua ar 5 (ui (ar 5) t (m_of g t 2 - 1))) 6 (rm3 (ar 6) t q (m_of g t 2))) 7 (rm3 (ar 7) t q (m_of g t 2)))) (va_A (BW E o sc ar) sz)) 0 0 (va_A (BW E o sc ar) sz) := by
  refine Met.ofW (cc := cX3_remove) (maxL := 4) (ret := none) (by decide) rfl ?_
  intro p e s m args below meth c s₁ B hml hv
  obtain ⟨rfl, hsz, hP, hK, hD0⟩ := hv
  have hx := B.exec
  have hb := B.bytes
  have hr := B.returns
  have hts := atoms_spec (ws := (ws_ yX3_remove cX3_remove 4 none)) B.pre
  have hts : ∀ w ∈ lw_all, w.before _ s = true := fun w h => hts w (List.mem_cons_of_mem _ h)
  have hown : s.vm.findClass RX3 = some m.cls := findClass_of_methodNamed B.named
  have hlocks := B.notSynchronized
  subst hsz
  have hD := hD0.self (sz := s.heap.size)
  generalize hAe : va_A (BW E o sc ar) s.heap.size = A at hD ⊢
  have hA : ∀ q : Nat, s.heap.size ≤ q → A q := fun q h => by rw [← hAe]; exact Or.inr h
  have hS : va_S A s.heap s.heap [] := va_S.rf
  have hl := lv_entry ([.ref (o 1), iv t, iv q]) (n := 4) (Nat.le_of_ble_eq_true rfl)
  rw [lg_entry_eq]
  generalize (lg_sl ([.ref (o 1), iv t, iv q]) ++ List.replicate (4 - (lg_sl ([.ref (o 1), iv t, iv q])).length) Slot.unset).toArray = ls at hl ⊢
  have hl : lv_has ls 4 [(0, .ref (o 1)), (1, iv t), (2, iv q)] := hl
  have hq := htw t ht.1 ht.2
  refine lv_aload_n hx hb dX3_remove_0 rfl (lv_at hl 0 rfl) ?_
  refine va_get (D := E.1) (ci := 3) (v := .ref (o 5)) (C := RX3) (T := TX3) (N := 7) hx hb hts in_X3 hown hK.1 hP 0 rfl rfl 3 (by decide) (hts _ q162) (fun _ h9 => h9) rfl dX3_remove_1 ?_
  refine lv_iload_n hx hb dX3_remove_4 rfl (lv_at hl 1 rfl) ?_
  refine lv_dup2_11 hx hb dX3_remove_5 rfl rfl ?_
  refine n_iald (f := ar 5) hx hb hK.1 hP 4 0 rfl rfl (by omega) (by decide) dX3_remove_6 ?_
  rw [hbr.cnt (t := t) (by omega) (by first | assumption | exact HN_pos hhn (t := t) (by omega) (by omega))]
  refine lv_iconst (v := iI 1) hx hb dX3_remove_7 rfl ?_
  refine n_isub hx hb dX3_remove_8 ?_
  have b_1 := htw t (by omega) (by omega)
  refine n_iast (f := ar 5) hx hb hK.1 hP hD hS 4 0 rfl rfl (by omega) (by decide) dX3_remove_9 (ws2 := BW E o sc (ua ar 5 (ui (ar 5) t ((m_of g t 2) - 1)))) rfl (fun H locs hP hD hS => ?_)
  obtain ⟨a_2, ea_2⟩ : ∃ zz : Int → Int, zz = ui (ar 5) t ((m_of g t 2) - 1) := ⟨_, rfl⟩
  rw [← ea_2] at hP hD
  refine lv_iload_n hx hb dX3_remove_10 rfl (lv_at hl 2 rfl) ?_
  refine lv_istore_n (lv' := [(3, iv q), (0, .ref (o 1)), (1, iv t), (2, iv q)]) hx hb dX3_remove_11 rfl hl (by decide) rfl (fun ls hl => ?_)
  have l12 : ∀ (fu : Nat) (x3 : Int) (nv : Int → Int) (lv : Int → Int), (q ≤ x3 ∧ x3 ≤ m_of g t 2 - 1) → (∀ x, nv x = if 3 * t + q ≤ x ∧ x < 3 * t + x3 then ar 6 (x + 1) else ar 6 x) → (∀ x, lv x = if 3 * t + q ≤ x ∧ x < 3 * t + x3 then ar 7 (x + 1) else ar 7 x) → (∀ x, 0 ≤ x → x < 24 → 0 ≤ lv x ∧ lv x ≤ 1) → (m_of g t 2 - x3 < (fu : Int)) → ∀ (H : Heap) (locs : List Loc), va_P E.1 CL (BW E o sc (ua (ua (ua ar 5 a_2) 6 nv) 7 lv)) H → va_D A (BW E o sc (ua (ua (ua ar 5 a_2) 6 nv) 7 lv)) → va_S A s.heap H locs → ∀ ls : Array Slot, lv_has ls 4 [(3, iv x3), (0, .ref (o 1)), (1, iv t), (2, iv q)] → W p l e (headSpec (ws_ yX3_remove cX3_remove 4 none) { frames := 0, cells := 0, slots := 0, locals := 0 }).room s m ([.ref (o 1), iv t, iv q] : List Value).toArray below meth c H locs 0 0 (MQ below (UQv E (BW E o sc (ua (ua (ua ar 5 (ui (ar 5) t (m_of g t 2 - 1))) 6 (rm3 (ar 6) t q (m_of g t 2))) 7 (rm3 (ar 7) t q (m_of g t 2)))) A) ([.ref (o 1), iv t, iv q] : List Value).toArray s 0 0 A) (F0 m 12 ls []) := by
    intro fu
    induction fu with
    | zero =>
      intro x3 nv lv il12_0 il12_1 il12_2 il12_3 hm
      exfalso; omega
    | succ fu ih =>
      intro x3 nv lv il12_0 il12_1 il12_2 il12_3 hm H locs hP hD hS ls hl
      have ihl12 := ih
      refine lv_iload_n hx hb dX3_remove_12 rfl (lv_at hl 0 rfl) ?_
      refine lv_aload_n hx hb dX3_remove_13 rfl (lv_at hl 1 rfl) ?_
      refine va_get (D := E.1) (ci := 3) (v := .ref (o 5)) (C := RX3) (T := TX3) (N := 7) hx hb hts in_X3 hown hK.1 hP 0 rfl rfl 3 (by decide) (hts _ q162) (fun _ h9 => h9) rfl dX3_remove_14 ?_
      refine lv_iload_n hx hb dX3_remove_17 rfl (lv_at hl 2 rfl) ?_
      refine n_iald (f := a_2) hx hb hK.1 hP 4 0 rfl rfl (by omega) (by decide) dX3_remove_18 ?_
      rw [show a_2 t = m_of g t 2 - 1 from by rw [ea_2]; exact ui_s]
      refine n_icmp_ge (tgt := 72) hx hb dX3_remove_19 (by decide) (by omega) (by omega) (fun c_3 => ?_) (fun c_3 => ?_)
      · have hfin6 : nv = rm3 (ar 6) t q (m_of g t 2) := by
          funext x
          rw [il12_1 x, show x3 = m_of g t 2 - 1 by omega]
          unfold rm3
          rw [show 3 * t + (m_of g t 2 - 1) = 3 * t + m_of g t 2 - 1 by omega]
        have hfin7 : lv = rm3 (ar 7) t q (m_of g t 2) := by
          funext x
          rw [il12_2 x, show x3 = m_of g t 2 - 1 by omega]
          unfold rm3
          rw [show 3 * t + (m_of g t 2 - 1) = 3 * t + m_of g t 2 - 1 by omega]
        have w_4 : a_2 = ui (ar 5) t (m_of g t 2 - 1) := by
          first | rfl | exact ea_2
        rw [show (ua (ua (ua ar 5 a_2) 6 nv) 7 lv) = (ua (ua (ua ar 5 (ui (ar 5) t (m_of g t 2 - 1))) 6 nv) 7 lv) from congrArg (fun z0 : Int → Int => (ua (ua (ua ar 5 z0) 6 nv) 7 lv)) w_4] at hP hD
        have w_5 : nv = rm3 (ar 6) t q (m_of g t 2) := by
          exact hfin6
        rw [show (ua (ua (ua ar 5 (ui (ar 5) t (m_of g t 2 - 1))) 6 nv) 7 lv) = (ua (ua (ua ar 5 (ui (ar 5) t (m_of g t 2 - 1))) 6 (rm3 (ar 6) t q (m_of g t 2))) 7 lv) from congrArg (fun z0 : Int → Int => (ua (ua (ua ar 5 (ui (ar 5) t (m_of g t 2 - 1))) 6 z0) 7 lv)) w_5] at hP hD
        have w_6 : lv = rm3 (ar 7) t q (m_of g t 2) := by
          exact hfin7
        rw [show (ua (ua (ua ar 5 (ui (ar 5) t (m_of g t 2 - 1))) 6 (rm3 (ar 6) t q (m_of g t 2))) 7 lv) = (ua (ua (ua ar 5 (ui (ar 5) t (m_of g t 2 - 1))) 6 (rm3 (ar 6) t q (m_of g t 2))) 7 (rm3 (ar 7) t q (m_of g t 2))) from congrArg (fun z0 : Int → Int => (ua (ua (ua ar 5 (ui (ar 5) t (m_of g t 2 - 1))) 6 (rm3 (ar 6) t q (m_of g t 2))) 7 z0)) w_6] at hP hD
        exact W.vret hx hb hr (fun tt_ ht_ hW_ => ⟨⟨(), rfl, trivial, by rw [ht_]; exact hP, hD⟩, hS.F ht_⟩) hS.2.2 dX3_remove_72
      · refine lv_aload_n hx hb dX3_remove_22 rfl (lv_at hl 1 rfl) ?_
        refine va_get (D := E.1) (ci := 3) (v := .ref (o 6)) (C := RX3) (T := TX3) (N := 7) hx hb hts in_X3 hown hK.1 hP 0 rfl rfl 4 (by decide) (hts _ q166) (fun _ h9 => h9) rfl dX3_remove_23 ?_
        refine lv_iconst (v := iI 3) hx hb dX3_remove_26 rfl ?_
        refine lv_iload_n hx hb dX3_remove_27 rfl (lv_at hl 2 rfl) ?_
        refine n_imul hx hb dX3_remove_28 ?_
        refine lv_iload_n hx hb dX3_remove_29 rfl (lv_at hl 0 rfl) ?_
        refine n_iadd hx hb dX3_remove_30 ?_
        refine lv_aload_n hx hb dX3_remove_31 rfl (lv_at hl 1 rfl) ?_
        refine va_get (D := E.1) (ci := 3) (v := .ref (o 6)) (C := RX3) (T := TX3) (N := 7) hx hb hts in_X3 hown hK.1 hP 0 rfl rfl 4 (by decide) (hts _ q166) (fun _ h9 => h9) rfl dX3_remove_32 ?_
        refine lv_iconst (v := iI 3) hx hb dX3_remove_35 rfl ?_
        refine lv_iload_n hx hb dX3_remove_36 rfl (lv_at hl 2 rfl) ?_
        refine n_imul hx hb dX3_remove_37 ?_
        refine lv_iload_n hx hb dX3_remove_38 rfl (lv_at hl 0 rfl) ?_
        refine n_iadd hx hb dX3_remove_39 ?_
        refine lv_iconst (v := iI 1) hx hb dX3_remove_40 rfl ?_
        refine n_iadd hx hb dX3_remove_41 ?_
        refine n_iald (f := nv) hx hb hK.1 hP 5 0 rfl rfl (by omega) (by decide) dX3_remove_42 ?_
        refine n_iast (f := nv) hx hb hK.1 hP hD hS 5 0 rfl rfl (by omega) (by decide) dX3_remove_43 (ws2 := BW E o sc (ua (ua (ua ar 5 a_2) 6 (ui nv ((3 * t) + x3) (nv (((3 * t) + x3) + 1)))) 7 lv)) rfl (fun H locs hP hD hS => ?_)
        obtain ⟨a_7, ea_7⟩ : ∃ zz : Int → Int, zz = ui nv ((3 * t) + x3) (nv (((3 * t) + x3) + 1)) := ⟨_, rfl⟩
        rw [← ea_7] at hP hD
        refine lv_aload_n hx hb dX3_remove_44 rfl (lv_at hl 1 rfl) ?_
        refine va_get (D := E.1) (ci := 3) (v := .ref (o 7)) (C := RX3) (T := TX3) (N := 7) hx hb hts in_X3 hown hK.1 hP 0 rfl rfl 5 (by decide) (hts _ q167) (fun _ h9 => h9) rfl dX3_remove_45 ?_
        refine lv_iconst (v := iI 3) hx hb dX3_remove_48 rfl ?_
        refine lv_iload_n hx hb dX3_remove_49 rfl (lv_at hl 2 rfl) ?_
        refine n_imul hx hb dX3_remove_50 ?_
        refine lv_iload_n hx hb dX3_remove_51 rfl (lv_at hl 0 rfl) ?_
        refine n_iadd hx hb dX3_remove_52 ?_
        refine lv_aload_n hx hb dX3_remove_53 rfl (lv_at hl 1 rfl) ?_
        refine va_get (D := E.1) (ci := 3) (v := .ref (o 7)) (C := RX3) (T := TX3) (N := 7) hx hb hts in_X3 hown hK.1 hP 0 rfl rfl 5 (by decide) (hts _ q167) (fun _ h9 => h9) rfl dX3_remove_54 ?_
        refine lv_iconst (v := iI 3) hx hb dX3_remove_57 rfl ?_
        refine lv_iload_n hx hb dX3_remove_58 rfl (lv_at hl 2 rfl) ?_
        refine n_imul hx hb dX3_remove_59 ?_
        refine lv_iload_n hx hb dX3_remove_60 rfl (lv_at hl 0 rfl) ?_
        refine n_iadd hx hb dX3_remove_61 ?_
        refine lv_iconst (v := iI 1) hx hb dX3_remove_62 rfl ?_
        refine n_iadd hx hb dX3_remove_63 ?_
        refine n_zald (f := lv) hx hb hK.1 hP 6 1 rfl rfl (by omega) (by decide) dX3_remove_64 ?_
        have b_8 := il12_3 (((3 * t) + x3) + 1) (by omega) (by omega)
        refine n_zast (f := lv) hx hb hK.1 hP hD hS 6 1 rfl rfl (by omega) (by decide) (by omega) dX3_remove_65 (ws2 := BW E o sc (ua (ua (ua ar 5 a_2) 6 a_7) 7 (ui lv ((3 * t) + x3) (lv (((3 * t) + x3) + 1))))) rfl (fun H locs hP hD hS => ?_)
        obtain ⟨a_9, ea_9⟩ : ∃ zz : Int → Int, zz = ui lv ((3 * t) + x3) (lv (((3 * t) + x3) + 1)) := ⟨_, rfl⟩
        rw [← ea_9] at hP hD
        refine lv_iinc (v := iI (x3 + 1)) (lv' := [(3, iv (x3 + 1)), (0, .ref (o 1)), (1, iv t), (2, iv q)]) hx hb dX3_remove_66 hl (k := 0) rfl (iI_add _ _) (by decide) rfl (fun ls hl => ?_)
        refine lv_goto (tgt := 12) hx hb dX3_remove_69 (by decide) ?_
        exact ihl12 (x3 + 1) a_7 a_9 (by first | omega | rfl) (by intro x; rw [ea_7]; unfold ui; have q1 := il12_1 x; have q2 := il12_1 (3 * t + x3 + 1); rw [if_neg (by omega)] at q2; by_cases hx : x = 3 * t + x3; (rw [if_pos hx, if_pos (by omega), hx]; exact q2); (rw [if_neg hx, q1]; by_cases hy : 3 * t + q ≤ x ∧ x < 3 * t + x3; (rw [if_pos hy, if_pos (by omega)]); (rw [if_neg hy, if_neg (by omega)]))) (by intro x; rw [ea_9]; unfold ui; have q1 := il12_2 x; have q2 := il12_2 (3 * t + x3 + 1); rw [if_neg (by omega)] at q2; by_cases hx : x = 3 * t + x3; (rw [if_pos hx, if_pos (by omega), hx]; exact q2); (rw [if_neg hx, q1]; by_cases hy : 3 * t + q ≤ x ∧ x < 3 * t + x3; (rw [if_pos hy, if_pos (by omega)]); (rw [if_neg hy, if_neg (by omega)]))) (by intro x y1 y2; rw [ea_9]; unfold ui; have q1 := il12_3 x y1 y2; have q2 := il12_3 (3 * t + x3 + 1) (by omega) (by omega); split <;> assumption) (by omega) H locs hP hD hS ls (lv_sub hl [0, 1, 2, 3] rfl)
  exact l12 4 q (ar 6) (ar 7) (by first | omega | rfl | trivial) (by intro x; rw [if_neg (by omega)]) (by intro x; rw [if_neg (by omega)]) (by exact hlz) (by omega) H locs hP hD hS ls hl
set_option maxHeartbeats 4000000 in
set_option maxRecDepth 100000 in
theorem mt_X3_longest (l : Launch) (E : EE) (d : Nat) : ∀ (o : Nat → Nat) (sc : Nat → Int) (ar : Nat → Int → Int) (t : Int) (g : Int → Int) (r : Int → Nat) (ht : 0 ≤ t ∧ t < 8) (hbr : BR g ar) (htw : TW g) (hsw : SwOK g) (htm : TM g) (hhn : HN g) (hrk : RK g r) (hd : r t < d) (hd9 : d ≤ 8), Met l yX3_longest (ws_ yX3_longest cX3_longest 5 (some .int)) { frames := 1 + d, cells := 0, slots := 0, locals := 22 + 24 * d } (va_Pc [.ref (o 1), iv t] (PW E (BW E o sc ar))) (NP (k_lng g d t)) 0 0 (fun _ => False) := by
  induction d with
  | zero => intro o sc ar t g r ht hbr htw hsw htm hhn hrk hd hd9; exfalso; omega
  | succ d ihd =>
    intro o sc ar t g r ht hbr htw hsw htm hhn hrk hd hd9
    refine Met.ofW (cc := cX3_longest) (maxL := 5) (ret := (some .int)) (by decide) rfl ?_
    intro p e s m args below meth c s₁ B hml hv
    obtain ⟨rfl, hP, hK⟩ := hv
    have hx := B.exec
    have hb := B.bytes
    have hr := B.returns
    have hts := atoms_spec (ws := (ws_ yX3_longest cX3_longest 5 (some .int))) B.pre
    have hts : ∀ w ∈ lw_all, w.before _ s = true := fun w h => hts w (List.mem_cons_of_mem _ h)
    have hown : s.vm.findClass RX3 = some m.cls := findClass_of_methodNamed B.named
    have hlocks := B.notSynchronized
    have hl := lv_entry ([.ref (o 1), iv t]) (n := 5) (Nat.le_of_ble_eq_true rfl)
    rw [lg_entry_eq]
    generalize (lg_sl ([.ref (o 1), iv t]) ++ List.replicate (5 - (lg_sl ([.ref (o 1), iv t])).length) Slot.unset).toArray = ls at hl ⊢
    have hl : lv_has ls 5 [(0, .ref (o 1)), (1, iv t)] := hl
    have hnn := htw t ht.1 ht.2
    have hmm := htm t ht.1 ht.2
    refine lv_aload_n hx hb dX3_longest_0 rfl (lv_at hl 0 rfl) ?_
    refine va_get (D := E.1) (ci := 3) (v := .ref (o 2)) (C := RX3) (T := TX3) (N := 7) hx hb hts in_X3 hown hK.1 hP 0 rfl rfl 0 (by decide) (hts _ q152) (fun _ h9 => h9) rfl dX3_longest_1 ?_
    refine lv_iload_n hx hb dX3_longest_4 rfl (lv_at hl 1 rfl) ?_
    refine n_zald (f := ar 2) hx hb hK.1 hP 1 1 rfl rfl (by omega) (by decide) dX3_longest_5 ?_
    rw [hbr.has (t := t) (by omega)]
    refine n_ifb_ne (tgt := 11) hx hb dX3_longest_6 (by decide) (fun c_1 => ?_) (fun c_1 => ?_)
    · refine lv_iconst (v := iI 0) hx hb dX3_longest_11 rfl ?_
      refine lv_istore_n (lv' := [(2, iv 0), (0, .ref (o 1)), (1, iv t)]) hx hb dX3_longest_12 rfl hl (by decide) rfl (fun ls hl => ?_)
      refine lv_iconst (v := iI 0) hx hb dX3_longest_13 rfl ?_
      refine lv_istore_n (lv' := [(3, iv 0), (2, iv 0), (0, .ref (o 1)), (1, iv t)]) hx hb dX3_longest_14 rfl hl (by decide) rfl (fun ls hl => ?_)
      have l15 : ∀ (fu : Nat) (x2 : Int) (x3 : Int), (0 ≤ x3 ∧ x3 ≤ m_of g t 2) → (x2 = maxI (fun k => if m_dir g t k = true then k_lng g d (m_stands g (m_need g t k)) else 0) x3) → (0 ≤ x2 ∧ x2 ≤ 20 * (d : Int)) → (exB (fun k => m_dir g t k && decide (k_lng g d (m_stands g (m_need g t k)) = -1)) x3 = false) → (m_of g t 2 - x3 < (fu : Int)) → ∀ ls : Array Slot, lv_has ls 5 [(3, iv x3), (2, iv x2), (0, .ref (o 1)), (1, iv t)] → W p l e (headSpec (ws_ yX3_longest cX3_longest 5 (some .int)) { frames := 1 + (d + 1), cells := 0, slots := 0, locals := 22 + 24 * (d + 1) }).room s m ([.ref (o 1), iv t] : List Value).toArray below meth c s.heap [] 0 0 (MQ below (NP (k_lng g (d + 1) t)) ([.ref (o 1), iv t] : List Value).toArray s 0 0 (fun _ => False)) (F0 m 15 ls []) := by
        intro fu
        induction fu with
        | zero =>
          intro x2 x3 il15_0 il15_1 il15_2 il15_3 hm
          exfalso; omega
        | succ fu ih =>
          intro x2 x3 il15_0 il15_1 il15_2 il15_3 hm ls hl
          have ihl15 := ih
          refine lv_iload_n hx hb dX3_longest_15 rfl (lv_at hl 0 rfl) ?_
          refine lv_aload_n hx hb dX3_longest_16 rfl (lv_at hl 2 rfl) ?_
          refine va_get (D := E.1) (ci := 3) (v := .ref (o 5)) (C := RX3) (T := TX3) (N := 7) hx hb hts in_X3 hown hK.1 hP 0 rfl rfl 3 (by decide) (hts _ q162) (fun _ h9 => h9) rfl dX3_longest_17 ?_
          refine lv_iload_n hx hb dX3_longest_20 rfl (lv_at hl 3 rfl) ?_
          refine n_iald (f := ar 5) hx hb hK.1 hP 4 0 rfl rfl (by omega) (by decide) dX3_longest_21 ?_
          rw [hbr.cnt (t := t) (by omega) (by first | assumption | exact HN_pos hhn (t := t) (by omega) (by omega))]
          have b_2 := htw t (by omega) (by omega)
          refine n_icmp_ge (tgt := 71) hx hb dX3_longest_22 (by decide) (by omega) (by omega) (fun c_3 => ?_) (fun c_3 => ?_)
          · refine lv_aload_n hx hb dX3_longest_71 rfl (lv_at hl 2 rfl) ?_
            refine va_get (D := E.1) (ci := 3) (v := .ref (o 4)) (C := RX3) (T := TX3) (N := 7) hx hb hts in_X3 hown hK.1 hP 0 rfl rfl 2 (by decide) (hts _ q160) (fun _ h9 => h9) rfl dX3_longest_72 ?_
            refine lv_iload_n hx hb dX3_longest_75 rfl (lv_at hl 3 rfl) ?_
            refine n_iald (f := ar 4) hx hb hK.1 hP 3 0 rfl rfl (by omega) (by decide) dX3_longest_76 ?_
            rw [hbr.mns (t := t) (by omega) (by first | assumption | exact HN_pos hhn (t := t) (by omega) (by omega))]
            refine lv_iload_n hx hb dX3_longest_77 rfl (lv_at hl 1 rfl) ?_
            refine n_iadd hx hb dX3_longest_78 ?_
            have hfin : (m_of g t 1) + x2 = k_lng g (d + 1) t := by
              obtain rfl : x3 = m_of g t 2 := by omega
              simp only [k_lng]
              rw [if_pos (by assumption), if_neg (by rw [il15_3]; decide), ← il15_1]
            exact W.iret (v := iI ((m_of g t 1) + x2)) hx hb hr (fun tt_ ht_ hW_ => ⟨iI ((m_of g t 1) + x2), rfl, (congrArg iI hfin), ht_⟩) (fun q h => by cases h) dX3_longest_79
          · refine lv_aload_n hx hb dX3_longest_25 rfl (lv_at hl 2 rfl) ?_
            refine lv_iload_n hx hb dX3_longest_26 rfl (lv_at hl 3 rfl) ?_
            refine lv_iload_n hx hb dX3_longest_27 rfl (lv_at hl 0 rfl) ?_
            refine n_csi (x := b2 (!(m_dir g t x3))) (va_runV (As := [iv t, iv x3]) (rest := []) ⟨hx, hb, hml, hown, hts⟩ (mt_X3_isLazy l E o sc ar t x3 g (by omega) (by assumption) (by first | assumption | exact HN_pos hhn (t := t) (by omega) (by omega)) (by omega) (by assumption)) (cwV 2 hts (lw_V q549 q550 q551 q96 q552) rfl rfl rfl (by decide +kernel) ⟨(show 0 + 1 ≤ 1 + (d + 1) by omega), (show 8 + (3 + 11) + 0 ≤ 22 + 24 * (d + 1) by omega)⟩) (PW_V hP hK (va_recv hK.1 hP (ci := 3) (q0 := 0) rfl rfl)) rfl rfl hl.1 rfl (lv_room (Nat.le_of_ble_eq_true rfl)) dX3_longest_28 ⟨Nat.le_of_ble_eq_true rfl, Nat.le_of_ble_eq_true rfl⟩) ?_
            refine n_ifb_ne (tgt := 65) hx hb dX3_longest_31 (by decide) (fun c_4 => ?_) (fun c_4 => ?_)
            · have hdir : m_dir g t x3 = false := by simpa using c_4
              refine lv_iinc (v := iI (x3 + 1)) (lv' := [(3, iv (x3 + 1)), (2, iv x2), (0, .ref (o 1)), (1, iv t)]) hx hb dX3_longest_65 hl (k := 0) rfl (iI_add _ _) (by decide) rfl (fun ls hl => ?_)
              refine lv_goto (tgt := 15) hx hb dX3_longest_68 (by decide) ?_
              exact ihl15 x2 (x3 + 1) (by first | omega | rfl) (by rw [maxI_s (by omega), ← il15_1]; first | (rw [if_pos hdir]; done) | (rw [if_neg (by rw [hdir]; decide)]; omega)) (by first | omega | rfl) (by rw [exB_s (by omega), il15_3]; simp_all) (by omega) ls (lv_sub hl [0, 1, 2, 3] rfl)
            · have hdir : m_dir g t x3 = true := by simpa using c_4
              refine lv_aload_n hx hb dX3_longest_34 rfl (lv_at hl 2 rfl) ?_
              refine lv_aload_n hx hb dX3_longest_35 rfl (lv_at hl 2 rfl) ?_
              refine lv_aload_n hx hb dX3_longest_36 rfl (lv_at hl 2 rfl) ?_
              refine lv_iload_n hx hb dX3_longest_37 rfl (lv_at hl 3 rfl) ?_
              refine lv_iload_n hx hb dX3_longest_38 rfl (lv_at hl 0 rfl) ?_
              refine n_csi (x := m_need g t x3) (va_runV (As := [iv t, iv x3]) (rest := [.ref (o 1), .ref (o 1)]) ⟨hx, hb, hml, hown, hts⟩ (mt_X3_need l E o sc ar t x3 g (by omega) (by assumption) (by first | assumption | exact HN_pos hhn (t := t) (by omega) (by omega)) (by omega) (by assumption)) (cwV 2 hts (lw_V q541 q542 q543 q96 q544) rfl rfl rfl (by decide +kernel) ⟨(show 0 + 1 ≤ 1 + (d + 1) by omega), (show 8 + (3 + 11) + 0 ≤ 22 + 24 * (d + 1) by omega)⟩) (PW_V hP hK (va_recv hK.1 hP (ci := 3) (q0 := 0) rfl rfl)) rfl rfl hl.1 rfl (lv_room (Nat.le_of_ble_eq_true rfl)) dX3_longest_39 ⟨Nat.le_of_ble_eq_true rfl, Nat.le_of_ble_eq_true rfl⟩) ?_
              have b_5 := m_need_r g t x3
              refine n_csi (x := m_stands g (m_need g t x3)) (va_runV (As := [iv (m_need g t x3)]) (rest := [.ref (o 1)]) ⟨hx, hb, hml, hown, hts⟩ (mt_X3_standIn l E o sc ar (m_need g t x3) g (by omega) (by assumption) (by assumption)) (cwV 1 hts (lw_V q545 q546 q547 q96 q548) rfl rfl rfl (by decide +kernel) ⟨(show 0 + 1 ≤ 1 + (d + 1) by omega), (show 8 + (3 + 11) + 0 ≤ 22 + 24 * (d + 1) by omega)⟩) (PW_V hP hK (va_recv hK.1 hP (ci := 3) (q0 := 0) rfl rfl)) rfl rfl hl.1 rfl (lv_room (Nat.le_of_ble_eq_true rfl)) dX3_longest_42 ⟨Nat.le_of_ble_eq_true rfl, Nat.le_of_ble_eq_true rfl⟩) ?_
              have hq := hrk t x3 ht.1 ht.2 (by omega) (by omega) hdir
              have b_6 := m_stands_r (g := g) (by assumption) (t := (m_need g t x3)) (by omega)
              refine n_csi (x := k_lng g d (m_stands g (m_need g t x3))) (va_runV (As := [iv (m_stands g (m_need g t x3))]) (rest := []) ⟨hx, hb, hml, hown, hts⟩ (ihd o sc ar (m_stands g (m_need g t x3)) g r (by omega) (by assumption) (by assumption) (by assumption) (by assumption) (by assumption) (by assumption) (by omega) (by omega)) (cwV 1 hts (lw_V q723 q720 q721 q96 q722) rfl rfl rfl (by decide +kernel) ⟨(show 1 + d + 1 ≤ 1 + (d + 1) by omega), (show 8 + (5 + 11) + (22 + 24 * d) ≤ 22 + 24 * (d + 1) by omega)⟩) (PW_V hP hK (va_recv hK.1 hP (ci := 3) (q0 := 0) rfl rfl)) rfl rfl hl.1 rfl (lv_room (Nat.le_of_ble_eq_true rfl)) dX3_longest_45 ⟨Nat.le_of_ble_eq_true rfl, Nat.le_of_ble_eq_true rfl⟩) ?_
              refine lv_istore (lv' := [(4, iv (k_lng g d (m_stands g (m_need g t x3)))), (3, iv x3), (2, iv x2), (0, .ref (o 1)), (1, iv t)]) hx hb dX3_longest_48 hl (by decide) rfl (fun ls hl => ?_)
              refine lv_iload hx hb dX3_longest_50 (lv_at hl 0 rfl) ?_
              refine lv_iconst (v := iI (-1)) hx hb dX3_longest_52 rfl ?_
              have b_7 := k_lng_r (g := g) (by assumption) (by assumption) (by assumption) d (m_stands g (m_need g t x3)) (by omega) (by omega)
              refine n_icmp_ne (tgt := 58) hx hb dX3_longest_53 (by decide) (by omega) (by omega) (fun c_8 => ?_) (fun c_8 => ?_)
              · refine lv_iload_n hx hb dX3_longest_58 rfl (lv_at hl 2 rfl) ?_
                refine lv_iload hx hb dX3_longest_59 (lv_at hl 0 rfl) ?_
                refine n_mmax hx hb (hml.trans hl.1.symm) hown (hts _ q724) (hts _ q725) (hts _ q111) (hts _ q726) (Nat.le_of_ble_eq_true rfl) (Nat.le_of_ble_eq_true rfl) (Nat.le_of_ble_eq_true rfl) (Nat.le_of_ble_eq_true rfl) (x := x2) (y := k_lng g d (m_stands g (m_need g t x3))) (by omega) (by omega) dX3_longest_61 ?_
                refine lv_istore_n (lv' := [(2, iv (max x2 (k_lng g d (m_stands g (m_need g t x3))))), (4, iv (k_lng g d (m_stands g (m_need g t x3)))), (3, iv x3), (0, .ref (o 1)), (1, iv t)]) hx hb dX3_longest_64 rfl hl (by decide) rfl (fun ls hl => ?_)
                refine lv_iinc (v := iI (x3 + 1)) (lv' := [(3, iv (x3 + 1)), (2, iv (max x2 (k_lng g d (m_stands g (m_need g t x3))))), (4, iv (k_lng g d (m_stands g (m_need g t x3)))), (0, .ref (o 1)), (1, iv t)]) hx hb dX3_longest_65 hl (k := 2) rfl (iI_add _ _) (by decide) rfl (fun ls hl => ?_)
                refine lv_goto (tgt := 15) hx hb dX3_longest_68 (by decide) ?_
                exact ihl15 (max x2 (k_lng g d (m_stands g (m_need g t x3)))) (x3 + 1) (by first | omega | rfl) (by rw [maxI_s (by omega), ← il15_1]; first | (rw [if_pos hdir]; done) | (rw [if_neg (by rw [hdir]; decide)]; omega)) (by first | omega | rfl) (by rw [exB_s (by omega), il15_3]; simp_all) (by omega) ls (lv_sub hl [0, 1, 3, 4] rfl)
              · refine lv_iconst (v := iI (-1)) hx hb dX3_longest_56 rfl ?_
                have hfin : (-1) = k_lng g (d + 1) t := by
                  simp only [k_lng]
                  rw [if_pos (by assumption), if_pos (exB_iff.mpr ⟨x3, by omega, by omega, by simp_all⟩)]
                exact W.iret (v := iI (-1)) hx hb hr (fun tt_ ht_ hW_ => ⟨iI (-1), rfl, (congrArg iI hfin), ht_⟩) (fun q h => by cases h) dX3_longest_57
      exact l15 4 0 0 (by first | omega | rfl | trivial) (by rfl) (by first | omega | rfl | trivial) (by rfl) (by omega) ls hl
    · refine lv_iconst (v := iI (-1)) hx hb dX3_longest_9 rfl ?_
      have hfin : (-1) = k_lng g (d + 1) t := by
        simp only [k_lng]; rw [if_neg (by simp [*])]
      exact W.iret (v := iI (-1)) hx hb hr (fun tt_ ht_ hW_ => ⟨iI (-1), rfl, (congrArg iI hfin), ht_⟩) (fun q h => by cases h) dX3_longest_10
set_option maxHeartbeats 4000000 in
set_option maxRecDepth 100000 in
theorem mt_X3_captives (l : Launch) (E : EE) (o : Nat → Nat) (sc : Nat → Int) (ar : Nat → Int → Int)  (g : Int → Int) (hbr : BR g ar) (htw : TW g) (hsw : SwOK g) (hhn : HN g) (hsc : SC g) : Met l yX3_captives (ws_ yX3_captives cX3_captives 5 (some .int)) { frames := 1, cells := 0, slots := 0, locals := 22 } (va_Pc [.ref (o 1)] (PW E (BW E o sc ar))) (NP (m_capt g)) 0 0 (fun _ => False) := by
  refine Met.ofW (cc := cX3_captives) (maxL := 5) (ret := (some .int)) (by decide) rfl ?_
  intro p e s m args below meth c s₁ B hml hv
  obtain ⟨rfl, hP, hK⟩ := hv
  have hx := B.exec
  have hb := B.bytes
  have hr := B.returns
  have hts := atoms_spec (ws := (ws_ yX3_captives cX3_captives 5 (some .int))) B.pre
  have hts : ∀ w ∈ lw_all, w.before _ s = true := fun w h => hts w (List.mem_cons_of_mem _ h)
  have hown : s.vm.findClass RX3 = some m.cls := findClass_of_methodNamed B.named
  have hlocks := B.notSynchronized
  have hl := lv_entry ([.ref (o 1)]) (n := 5) (Nat.le_of_ble_eq_true rfl)
  rw [lg_entry_eq]
  generalize (lg_sl ([.ref (o 1)]) ++ List.replicate (5 - (lg_sl ([.ref (o 1)])).length) Slot.unset).toArray = ls at hl ⊢
  have hl : lv_has ls 5 [(0, .ref (o 1))] := hl
  refine lv_iconst (v := iI 0) hx hb dX3_captives_0 rfl ?_
  refine lv_istore_n (lv' := [(1, iv 0), (0, .ref (o 1))]) hx hb dX3_captives_1 rfl hl (by decide) rfl (fun ls hl => ?_)
  refine lv_iconst (v := iI 0) hx hb dX3_captives_2 rfl ?_
  refine lv_istore_n (lv' := [(2, iv 0), (1, iv 0), (0, .ref (o 1))]) hx hb dX3_captives_3 rfl hl (by decide) rfl (fun ls hl => ?_)
  have la : ∀ (fu : Nat) (x1 : Int) (x2 : Int), (0 ≤ x2 ∧ x2 ≤ 8) → (x1 = sumI (fun t => if m_of g t 0 = 115 then sumI (fun k => b2 (m_dir g t k && decide (m_of g (m_stands g (m_need g t k)) 0 = 116))) (m_of g t 2) else 0) x2) → (8 - x2 < (fu : Int)) → ∀ ls : Array Slot, lv_has ls 5 [(2, iv x2), (1, iv x1), (0, .ref (o 1))] → W p l e (headSpec (ws_ yX3_captives cX3_captives 5 (some .int)) { frames := 1, cells := 0, slots := 0, locals := 22 }).room s m ([.ref (o 1)] : List Value).toArray below meth c s.heap [] 0 0 (MQ below (NP (m_capt g)) ([.ref (o 1)] : List Value).toArray s 0 0 (fun _ => False)) (F0 m 4 ls []) := by
    intro fu
    induction fu with
    | zero =>
      intro x1 x2 ila_0 ila_1 hm
      exfalso; omega
    | succ fu ih =>
      intro x1 x2 ila_0 ila_1 hm ls hl
      have ihla := ih
      refine lv_iload_n hx hb dX3_captives_4 rfl (lv_at hl 0 rfl) ?_
      refine lv_bipush (v := iI 8) hx hb dX3_captives_5 (by decide) ?_
      refine n_icmp_ge (tgt := 95) hx hb dX3_captives_7 (by decide) (by omega) (by omega) (fun c_1 => ?_) (fun c_1 => ?_)
      · refine lv_iload_n hx hb dX3_captives_95 rfl (lv_at hl 1 rfl) ?_
        have hfin : x1 = m_capt g := by
          obtain rfl : x2 = 8 := by omega
          exact ila_1
        exact W.iret (v := iI x1) hx hb hr (fun tt_ ht_ hW_ => ⟨iI x1, rfl, (congrArg iI hfin), ht_⟩) (fun q h => by cases h) dX3_captives_96
      · refine lv_iconst (v := iI 0) hx hb dX3_captives_10 rfl ?_
        refine lv_istore_n (lv' := [(3, iv 0), (2, iv x2), (1, iv x1), (0, .ref (o 1))]) hx hb dX3_captives_11 rfl hl (by decide) rfl (fun ls hl => ?_)
        have lb : ∀ (fu : Nat) (y1 : Int) (y3 : Int), (0 ≤ y3 ∧ y3 ≤ m_of g x2 2) → (y1 = x1 + (if m_of g x2 0 = 115 then sumI (fun k => b2 (m_dir g x2 k && decide (m_of g (m_stands g (m_need g x2 k)) 0 = 116))) y3 else 0)) → (m_of g x2 2 - y3 < (fu : Int)) → ∀ ls : Array Slot, lv_has ls 5 [(3, iv y3), (2, iv x2), (1, iv y1), (0, .ref (o 1))] → W p l e (headSpec (ws_ yX3_captives cX3_captives 5 (some .int)) { frames := 1, cells := 0, slots := 0, locals := 22 }).room s m ([.ref (o 1)] : List Value).toArray below meth c s.heap [] 0 0 (MQ below (NP (m_capt g)) ([.ref (o 1)] : List Value).toArray s 0 0 (fun _ => False)) (F0 m 12 ls []) := by
          intro fu
          induction fu with
          | zero =>
            intro y1 y3 ilb_0 ilb_1 hm
            exfalso; omega
          | succ fu ih =>
            intro y1 y3 ilb_0 ilb_1 hm ls hl
            have ihlb := ih
            have hnn := htw x2 (by omega) (by omega)
            refine lv_iload_n hx hb dX3_captives_12 rfl (lv_at hl 0 rfl) ?_
            refine lv_aload_n hx hb dX3_captives_13 rfl (lv_at hl 3 rfl) ?_
            refine lv_iload_n hx hb dX3_captives_14 rfl (lv_at hl 1 rfl) ?_
            refine n_csi (x := m_of g x2 2) (va_runV (As := [iv x2]) (rest := [iv y3]) ⟨hx, hb, hml, hown, hts⟩ (mt_X3_needCount l E o sc ar x2 g (by omega) (by assumption) (by assumption) (by assumption)) (cwV 1 hts (lw_V q537 q538 q539 q96 q540) rfl rfl rfl (by decide +kernel) ⟨Nat.le_of_ble_eq_true rfl, Nat.le_of_ble_eq_true rfl⟩) (PW_V hP hK (va_recv hK.1 hP (ci := 3) (q0 := 0) rfl rfl)) rfl rfl hl.1 rfl (lv_room (Nat.le_of_ble_eq_true rfl)) dX3_captives_15 ⟨Nat.le_of_ble_eq_true rfl, Nat.le_of_ble_eq_true rfl⟩) ?_
            have b_2 := htw x2 (by omega) (by omega)
            refine n_icmp_ge (tgt := 89) hx hb dX3_captives_18 (by decide) (by omega) (by omega) (fun c_3 => ?_) (fun c_3 => ?_)
            · refine lv_iinc (v := iI (x2 + 1)) (lv' := [(2, iv (x2 + 1)), (3, iv y3), (1, iv y1), (0, .ref (o 1))]) hx hb dX3_captives_89 hl (k := 1) rfl (iI_add _ _) (by decide) rfl (fun ls hl => ?_)
              refine lv_goto (tgt := 4) hx hb dX3_captives_92 (by decide) ?_
              exact ihla y1 (x2 + 1) (by first | omega | rfl) (by rw [sumI_s (by omega), ← ila_1, ilb_1, show y3 = m_of g x2 2 by omega]) (by omega) ls (lv_sub hl [0, 2, 3] rfl)
            · refine lv_aload_n hx hb dX3_captives_21 rfl (lv_at hl 3 rfl) ?_
              refine lv_aload_n hx hb dX3_captives_22 rfl (lv_at hl 3 rfl) ?_
              refine lv_iload_n hx hb dX3_captives_23 rfl (lv_at hl 1 rfl) ?_
              refine lv_iload_n hx hb dX3_captives_24 rfl (lv_at hl 0 rfl) ?_
              refine n_csi (x := m_need g x2 y3) (va_runV (As := [iv x2, iv y3]) (rest := [.ref (o 1)]) ⟨hx, hb, hml, hown, hts⟩ (mt_X3_need l E o sc ar x2 y3 g (by omega) (by assumption) (by first | assumption | exact HN_pos hhn (t := x2) (by omega) (by omega)) (by omega) (by assumption)) (cwV 2 hts (lw_V q541 q542 q543 q96 q544) rfl rfl rfl (by decide +kernel) ⟨Nat.le_of_ble_eq_true rfl, Nat.le_of_ble_eq_true rfl⟩) (PW_V hP hK (va_recv hK.1 hP (ci := 3) (q0 := 0) rfl rfl)) rfl rfl hl.1 rfl (lv_room (Nat.le_of_ble_eq_true rfl)) dX3_captives_25 ⟨Nat.le_of_ble_eq_true rfl, Nat.le_of_ble_eq_true rfl⟩) ?_
              have b_4 := m_need_r g x2 y3
              refine n_csi (x := m_stands g (m_need g x2 y3)) (va_runV (As := [iv (m_need g x2 y3)]) (rest := []) ⟨hx, hb, hml, hown, hts⟩ (mt_X3_standIn l E o sc ar (m_need g x2 y3) g (by omega) (by assumption) (by assumption)) (cwV 1 hts (lw_V q545 q546 q547 q96 q548) rfl rfl rfl (by decide +kernel) ⟨Nat.le_of_ble_eq_true rfl, Nat.le_of_ble_eq_true rfl⟩) (PW_V hP hK (va_recv hK.1 hP (ci := 3) (q0 := 0) rfl rfl)) rfl rfl hl.1 rfl (lv_room (Nat.le_of_ble_eq_true rfl)) dX3_captives_28 ⟨Nat.le_of_ble_eq_true rfl, Nat.le_of_ble_eq_true rfl⟩) ?_
              refine lv_istore (lv' := [(4, iv (m_stands g (m_need g x2 y3))), (3, iv y3), (2, iv x2), (1, iv y1), (0, .ref (o 1))]) hx hb dX3_captives_31 hl (by decide) rfl (fun ls hl => ?_)
              refine lv_iload_n hx hb dX3_captives_33 rfl (lv_at hl 3 rfl) ?_
              have j_5 : W p l e (headSpec (ws_ yX3_captives cX3_captives 5 (some .int)) { frames := 1, cells := 0, slots := 0, locals := 22 }).room s m ([.ref (o 1)] : List Value).toArray below meth c s.heap [] 0 0 (MQ below (NP (m_capt g)) ([.ref (o 1)] : List Value).toArray s 0 0 (fun _ => False)) (F0 m 81 ls [iv (b2 (decide (m_of g x2 0 = 115) && (m_dir g x2 y3 && decide (m_of g (m_stands g (m_need g x2 y3)) 0 = 116)))), iv y1]) := by
                refine n_iadd hx hb dX3_captives_81 ?_
                refine lv_istore_n (lv' := [(1, iv (y1 + (b2 (decide (m_of g x2 0 = 115) && (m_dir g x2 y3 && decide (m_of g (m_stands g (m_need g x2 y3)) 0 = 116)))))), (4, iv (m_stands g (m_need g x2 y3))), (3, iv y3), (2, iv x2), (0, .ref (o 1))]) hx hb dX3_captives_82 rfl hl (by decide) rfl (fun ls hl => ?_)
                refine lv_iinc (v := iI (y3 + 1)) (lv' := [(3, iv (y3 + 1)), (1, iv (y1 + (b2 (decide (m_of g x2 0 = 115) && (m_dir g x2 y3 && decide (m_of g (m_stands g (m_need g x2 y3)) 0 = 116)))))), (4, iv (m_stands g (m_need g x2 y3))), (2, iv x2), (0, .ref (o 1))]) hx hb dX3_captives_83 hl (k := 2) rfl (iI_add _ _) (by decide) rfl (fun ls hl => ?_)
                refine lv_goto (tgt := 12) hx hb dX3_captives_86 (by decide) ?_
                exact ihlb (y1 + (b2 (decide (m_of g x2 0 = 115) && (m_dir g x2 y3 && decide (m_of g (m_stands g (m_need g x2 y3)) 0 = 116))))) (y3 + 1) (by first | omega | rfl) (by rw [sumI_s (by omega), ilb_1]; (repeat' split) <;> simp_all [b2] <;> omega) (by omega) ls (lv_sub hl [0, 3, 1, 4] rfl)
              refine lv_aload_n hx hb dX3_captives_34 rfl (lv_at hl 4 rfl) ?_
              refine va_get (D := E.1) (ci := 3) (v := .ref (o 3)) (C := RX3) (T := TX3) (N := 7) hx hb hts in_X3 hown hK.1 hP 0 rfl rfl 1 (by decide) (hts _ q156) (fun _ h9 => h9) rfl dX3_captives_35 ?_
              refine lv_iload_n hx hb dX3_captives_38 rfl (lv_at hl 2 rfl) ?_
              refine n_cald (f := ar 3) hx hb hK.1 hP 2 2 rfl rfl (by omega) (by decide) dX3_captives_39 ?_
              rw [hbr.sco (t := x2) (by omega) (by first | assumption | exact HN_pos hhn (t := x2) (by omega) (by omega))]
              refine lv_bipush (v := iI 115) hx hb dX3_captives_40 (by decide) ?_
              have b_6 := hsc x2 (by omega) (by omega)
              refine n_icmp_ne (tgt := 80) hx hb dX3_captives_42 (by decide) (by omega) (by omega) (fun c_7 => ?_) (fun c_7 => ?_)
              · refine lv_iconst (v := iI 0) hx hb dX3_captives_80 rfl ?_
                refine n_top (y := b2 (decide (m_of g x2 0 = 115) && (m_dir g x2 y3 && decide (m_of g (m_stands g (m_need g x2 y3)) 0 = 116)))) (by have hz9 := m_has_0 (g := g) (t := m_stands g (m_need g x2 y3)); cases hmd : m_dir g x2 y3 <;> simp_all [b2]) ?_
                exact j_5
              · refine lv_aload_n hx hb dX3_captives_45 rfl (lv_at hl 4 rfl) ?_
                refine lv_iload_n hx hb dX3_captives_46 rfl (lv_at hl 2 rfl) ?_
                refine lv_iload_n hx hb dX3_captives_47 rfl (lv_at hl 1 rfl) ?_
                refine n_csi (x := b2 (!(m_dir g x2 y3))) (va_runV (As := [iv x2, iv y3]) (rest := [iv y1]) ⟨hx, hb, hml, hown, hts⟩ (mt_X3_isLazy l E o sc ar x2 y3 g (by omega) (by assumption) (by first | assumption | exact HN_pos hhn (t := x2) (by omega) (by omega)) (by omega) (by assumption)) (cwV 2 hts (lw_V q549 q550 q551 q96 q552) rfl rfl rfl (by decide +kernel) ⟨Nat.le_of_ble_eq_true rfl, Nat.le_of_ble_eq_true rfl⟩) (PW_V hP hK (va_recv hK.1 hP (ci := 3) (q0 := 0) rfl rfl)) rfl rfl hl.1 rfl (lv_room (Nat.le_of_ble_eq_true rfl)) dX3_captives_48 ⟨Nat.le_of_ble_eq_true rfl, Nat.le_of_ble_eq_true rfl⟩) ?_
                refine n_ifb_ne (tgt := 80) hx hb dX3_captives_51 (by decide) (fun c_8 => ?_) (fun c_8 => ?_)
                · refine lv_iconst (v := iI 0) hx hb dX3_captives_80 rfl ?_
                  refine n_top (y := b2 (decide (m_of g x2 0 = 115) && (m_dir g x2 y3 && decide (m_of g (m_stands g (m_need g x2 y3)) 0 = 116)))) (by have hz9 := m_has_0 (g := g) (t := m_stands g (m_need g x2 y3)); cases hmd : m_dir g x2 y3 <;> simp_all [b2]) ?_
                  exact j_5
                · refine lv_aload_n hx hb dX3_captives_54 rfl (lv_at hl 4 rfl) ?_
                  refine va_get (D := E.1) (ci := 3) (v := .ref (o 2)) (C := RX3) (T := TX3) (N := 7) hx hb hts in_X3 hown hK.1 hP 0 rfl rfl 0 (by decide) (hts _ q152) (fun _ h9 => h9) rfl dX3_captives_55 ?_
                  refine lv_iload hx hb dX3_captives_58 (lv_at hl 0 rfl) ?_
                  have b_9 := m_stands_r (g := g) (by assumption) (t := (m_need g x2 y3)) (by omega)
                  refine n_zald (f := ar 2) hx hb hK.1 hP 1 1 rfl rfl (by omega) (by decide) dX3_captives_60 ?_
                  rw [hbr.has (t := m_stands g (m_need g x2 y3)) (by omega)]
                  refine n_ifb_eq (tgt := 80) hx hb dX3_captives_61 (by decide) (fun c_10 => ?_) (fun c_10 => ?_)
                  · refine lv_iconst (v := iI 0) hx hb dX3_captives_80 rfl ?_
                    refine n_top (y := b2 (decide (m_of g x2 0 = 115) && (m_dir g x2 y3 && decide (m_of g (m_stands g (m_need g x2 y3)) 0 = 116)))) (by have hz9 := m_has_0 (g := g) (t := m_stands g (m_need g x2 y3)); cases hmd : m_dir g x2 y3 <;> simp_all [b2]) ?_
                    exact j_5
                  · refine lv_aload_n hx hb dX3_captives_64 rfl (lv_at hl 4 rfl) ?_
                    refine va_get (D := E.1) (ci := 3) (v := .ref (o 3)) (C := RX3) (T := TX3) (N := 7) hx hb hts in_X3 hown hK.1 hP 0 rfl rfl 1 (by decide) (hts _ q156) (fun _ h9 => h9) rfl dX3_captives_65 ?_
                    refine lv_iload hx hb dX3_captives_68 (lv_at hl 0 rfl) ?_
                    refine n_cald (f := ar 3) hx hb hK.1 hP 2 2 rfl rfl (by omega) (by decide) dX3_captives_70 ?_
                    rw [hbr.sco (t := m_stands g (m_need g x2 y3)) (by omega) (by first | assumption | exact HN_pos hhn (t := m_stands g (m_need g x2 y3)) (by omega) (by omega))]
                    refine lv_bipush (v := iI 116) hx hb dX3_captives_71 (by decide) ?_
                    have b_11 := hsc (m_stands g (m_need g x2 y3)) (by omega) (by omega)
                    refine n_icmp_ne (tgt := 80) hx hb dX3_captives_73 (by decide) (by omega) (by omega) (fun c_12 => ?_) (fun c_12 => ?_)
                    · refine lv_iconst (v := iI 0) hx hb dX3_captives_80 rfl ?_
                      refine n_top (y := b2 (decide (m_of g x2 0 = 115) && (m_dir g x2 y3 && decide (m_of g (m_stands g (m_need g x2 y3)) 0 = 116)))) (by have hz9 := m_has_0 (g := g) (t := m_stands g (m_need g x2 y3)); cases hmd : m_dir g x2 y3 <;> simp_all [b2]) ?_
                      exact j_5
                    · refine lv_iconst (v := iI 1) hx hb dX3_captives_76 rfl ?_
                      refine lv_goto (tgt := 81) hx hb dX3_captives_77 (by decide) ?_
                      refine n_top (y := b2 (decide (m_of g x2 0 = 115) && (m_dir g x2 y3 && decide (m_of g (m_stands g (m_need g x2 y3)) 0 = 116)))) (by have hz9 := m_has_0 (g := g) (t := m_stands g (m_need g x2 y3)); cases hmd : m_dir g x2 y3 <;> simp_all [b2]) ?_
                      exact j_5
        have hnn := htw x2 (by omega) (by omega)
        exact lb 4 x1 0 (by first | omega | rfl | trivial) (by show x1 = x1 + (if m_of g x2 0 = 115 then (0 : Int) else 0); split <;> omega) (by omega) ls hl
  exact la 9 0 0 (by first | omega | rfl | trivial) (by rfl) (by omega) ls hl
