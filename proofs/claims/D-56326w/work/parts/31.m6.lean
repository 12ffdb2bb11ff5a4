set_option maxHeartbeats 4000000 in
set_option maxRecDepth 100000 in
theorem mt_X5_dropRecipe (l : Launch) (E : EE) (o : Nat → Nat) (sc : Nat → Int) (ar : Nat → Int → Int) (t : Int) (hB : ∀ k x, 0 ≤ ar k x ∧ ar k x < 2147483648) (ht : 0 ≤ t ∧ t < 65536) (how : OW (ar 1)) (hch : 0 ≤ sc 5 ∧ sc 5 ≤ 8) (hwi : 0 ≤ sc 6 ∧ sc 6 ≤ 1) (sz : Nat) : Met l yX5_dropRecipe (ws_ yX5_dropRecipe cX5_dropRecipe 3 (some .int)) { frames := 3, cells := 0, slots := 0, locals := 65 } (va_Pc [.ref (o 0), iv t] (UW E (MW E o sc ar) sz)) (UQi E (rs_val 0 (A_drop (ar 1) t)) (MW E o (us (us (us (us (us (us sc 5 (rs_cw (sc 6) (sc 5) (A_drop (ar 1) t))) 7 (rs_ref (A_drop (ar 1) t))) 8 (rs_code 3 (A_drop (ar 1) t))) 9 (rs_why (sc 9) (A_drop (ar 1) t))) 10 (rs_det (sc 10) (A_drop (ar 1) t))) 11 (rs_cau (sc 11) (A_drop (ar 1) t))) (ua (ua ar 1 (rs_g (ar 1) (A_drop (ar 1) t))) 2 (rs_kw (sc 6) (ar 2) (ar 1) (sc 5) (A_drop (ar 1) t)))) (va_A (MW E o sc ar) sz)) 0 0 (va_A (MW E o sc ar) sz) := by
  refine Met.ofW (cc := cX5_dropRecipe) (maxL := 3) (ret := (some .int)) (by decide) rfl ?_
  intro p e s m args below meth c s₁ B hml hv
  obtain ⟨rfl, hsz, hP, hK, hD0⟩ := hv
  have hx := B.exec
  have hb := B.bytes
  have hr := B.returns
  have hts := atoms_spec (ws := (ws_ yX5_dropRecipe cX5_dropRecipe 3 (some .int))) B.pre
  have hts : ∀ w ∈ lw_all, w.before _ s = true := fun w h => hts w (List.mem_cons_of_mem _ h)
  have hown : s.vm.findClass RX5 = some m.cls := findClass_of_methodNamed B.named
  have hlocks := B.notSynchronized
  subst hsz
  have hD := hD0.self (sz := s.heap.size)
  generalize hAe : va_A (MW E o sc ar) s.heap.size = A at hD ⊢
  have hA : ∀ q : Nat, s.heap.size ≤ q → A q := fun q h => by rw [← hAe]; exact Or.inr h
  have hS : va_S A s.heap s.heap [] := va_S.rf
  have hl := lv_entry ([.ref (o 0), iv t]) (n := 3) (Nat.le_of_ble_eq_true rfl)
  rw [lg_entry_eq]
  generalize (lg_sl ([.ref (o 0), iv t]) ++ List.replicate (3 - (lg_sl ([.ref (o 0), iv t])).length) Slot.unset).toArray = ls at hl ⊢
  have hl : lv_has ls 3 [(0, .ref (o 0)), (1, iv t)] := hl
  have ho1 := how.1
  have ho2 := how.2.1
  refine lv_aload_n hx hb dX5_dropRecipe_0 rfl (lv_at hl 0 rfl) ?_
  refine lv_iload_n hx hb dX5_dropRecipe_1 rfl (lv_at hl 1 rfl) ?_
  refine n_cui (x := b2 (decide (0 < c_none (ar 1) t))) (va_runV (As := [iv t]) (rest := []) ⟨hx, hb, hml, hown, hts⟩ (mt_X5_isNone l E o sc ar t hB (by omega) _) (cwV 1 hts (lw_V q2147 q2149 qs54 q113 q2150) rfl rfl rfl (by decide +kernel) ⟨Nat.le_of_ble_eq_true rfl, Nat.le_of_ble_eq_true rfl⟩) (UW_V hP hK (hD) (va_recv hK.1 hP (ci := 0) (q0 := 0) rfl rfl)) rfl rfl hl.1 rfl (lv_room (Nat.le_of_ble_eq_true rfl)) dX5_dropRecipe_2 ⟨Nat.le_of_ble_eq_true rfl, Nat.le_of_ble_eq_true rfl⟩) hD hS hA (fun H locs hP hD hS => ?_)
  have hP : va_P E.1 CL (MW E o (us (us sc 7 0) 8 (c_none (ar 1) t)) ar) H := hP
  have hD : va_D A (MW E o (us (us sc 7 0) 8 (c_none (ar 1) t)) ar) := hD
  refine n_ifd_eq (tgt := 10) hx hb dX5_dropRecipe_5 (by decide) (fun c_1 => ?_) (fun c_1 => ?_)
  · have hnz : ¬ 0 < c_none (ar 1) t := by assumption
    have hz := c_none_ok hnz
    refine lv_iconst (v := iI 0) hx hb dX5_dropRecipe_10 rfl ?_
    refine lv_istore_n (lv' := [(2, iv 0), (0, .ref (o 0)), (1, iv t)]) hx hb dX5_dropRecipe_11 rfl hl (by decide) rfl (fun ls hl => ?_)
    have l12 : ∀ (fu : Nat) (x2 : Int) (v8 : Int) (v7 : Int), (0 ≤ x2 ∧ x2 ≤ ar 1 1) → (exB (fun k => m_here (ar 1) k && decide (m_thing (ar 1) k 0 = t - 97)) x2 = false) → (v8 = 0 ∧ v7 = 0) → (ar 1 1 - x2 < (fu : Int)) → ∀ (H : Heap) (locs : List Loc), va_P E.1 CL (MW E o (us (us sc 7 v7) 8 v8) ar) H → va_D A (MW E o (us (us sc 7 v7) 8 v8) ar) → va_S A s.heap H locs → ∀ ls : Array Slot, lv_has ls 3 [(2, iv x2), (0, .ref (o 0)), (1, iv t)] → W p l e (headSpec (ws_ yX5_dropRecipe cX5_dropRecipe 3 (some .int)) { frames := 3, cells := 0, slots := 0, locals := 65 }).room s m ([.ref (o 0), iv t] : List Value).toArray below meth c H locs 0 0 (MQ below (UQi E (rs_val 0 (A_drop (ar 1) t)) (MW E o (us (us (us (us (us (us sc 5 (rs_cw (sc 6) (sc 5) (A_drop (ar 1) t))) 7 (rs_ref (A_drop (ar 1) t))) 8 (rs_code 3 (A_drop (ar 1) t))) 9 (rs_why (sc 9) (A_drop (ar 1) t))) 10 (rs_det (sc 10) (A_drop (ar 1) t))) 11 (rs_cau (sc 11) (A_drop (ar 1) t))) (ua (ua ar 1 (rs_g (ar 1) (A_drop (ar 1) t))) 2 (rs_kw (sc 6) (ar 2) (ar 1) (sc 5) (A_drop (ar 1) t)))) A) ([.ref (o 0), iv t] : List Value).toArray s 0 0 A) (F0 m 12 ls []) := by
      intro fu
      induction fu with
      | zero =>
        intro x2 v8 v7 il12_0 il12_1 il12_2 hm
        exfalso; omega
      | succ fu ih =>
        intro x2 v8 v7 il12_0 il12_1 il12_2 hm H locs hP hD hS ls hl
        have ihl12 := ih
        refine lv_iload_n hx hb dX5_dropRecipe_12 rfl (lv_at hl 0 rfl) ?_
        refine lv_aload_n hx hb dX5_dropRecipe_13 rfl (lv_at hl 1 rfl) ?_
        refine va_get (D := E.1) (ci := 0) (v := .ref (o 1)) (C := RX5) (T := TX5) (N := 23) hx hb hts in_X5 hown hK.1 hP 0 rfl rfl 0 (by decide) (hts _ q2029) (fun _ h9 => h9) rfl dX5_dropRecipe_14 ?_
        refine lv_iconst (v := iI 1) hx hb dX5_dropRecipe_17 rfl ?_
        refine n_iald (f := ar 1) hx hb hK.1 hP 1 0 rfl rfl (by omega) (by decide) dX5_dropRecipe_18 ?_
        have b_2 := (hB 1) 1
        refine n_icmp_ge (tgt := 63) hx hb dX5_dropRecipe_19 (by decide) (by omega) (by omega) (fun c_3 => ?_) (fun c_3 => ?_)
        · have hx8 : x2 = ar 1 1 := by omega
          have hho : m_hasobj (ar 1) (t - 97) = false := by rw [hx8] at il12_1; exact il12_1
          refine lv_aload_n hx hb dX5_dropRecipe_63 rfl (lv_at hl 1 rfl) ?_
          refine lv_aload_n hx hb dX5_dropRecipe_64 rfl (lv_at hl 1 rfl) ?_
          refine va_get (D := E.1) (ci := 0) (v := .ref (o 1)) (C := RX5) (T := TX5) (N := 23) hx hb hts in_X5 hown hK.1 hP 0 rfl rfl 0 (by decide) (hts _ q2029) (fun _ h9 => h9) rfl dX5_dropRecipe_65 ?_
          refine n_cuv (va_runV (As := [.ref (o 1)]) (rest := []) ⟨hx, hb, hml, hown, hts⟩ (mt_X5_keeps1 l E o (us (us sc 7 v7) 8 v8) ar  (by first | omega | exact hch) (by first | omega | exact hwi) _) (cwV 1 hts (lw_V q2128 q2130 qs51 q113 q2131) rfl rfl rfl (by decide +kernel) ⟨Nat.le_of_ble_eq_true rfl, Nat.le_of_ble_eq_true rfl⟩) (UW_V hP hK (hD) (va_recv hK.1 hP (ci := 0) (q0 := 0) rfl rfl)) rfl rfl hl.1 rfl (lv_room (Nat.le_of_ble_eq_true rfl)) dX5_dropRecipe_68 ⟨Nat.le_of_ble_eq_true rfl, Nat.le_of_ble_eq_true rfl⟩) hD hS hA (fun H locs hP hD hS => ?_)
          have hP : va_P E.1 CL (MW E o (us (us (us sc 5 (k_cw (sc 6) (sc 5))) 7 v7) 8 0) (ua ar 2 (k_kw (sc 6) (ar 2) (ar 1) (sc 5)))) H := hP
          have hD : va_D A (MW E o (us (us (us sc 5 (k_cw (sc 6) (sc 5))) 7 v7) 8 0) (ua ar 2 (k_kw (sc 6) (ar 2) (ar 1) (sc 5)))) := hD
          obtain ⟨a_4, ea_4⟩ : ∃ zz : Int → Int, zz = k_kw (sc 6) (ar 2) (ar 1) (sc 5) := ⟨_, rfl⟩
          rw [← ea_4] at hP hD
          have hBa_4 := k_kw_b (w := (sc 6)) (c := (sc 5)) (hB 2) (hB 1)
          rw [← ea_4] at hBa_4
          refine lv_iconst (v := iI 0) hx hb dX5_dropRecipe_71 rfl ?_
          refine lv_istore_n (lv' := [(2, iv 0), (0, .ref (o 0)), (1, iv t)]) hx hb dX5_dropRecipe_72 rfl hl (by decide) rfl (fun ls hl => ?_)
          have l73 : ∀ (fu : Nat) (y2 : Int) (gv : Int → Int), (0 ≤ y2 ∧ y2 ≤ 6) → (∀ x, gv x = if 5 + 7 * (t - 97) ≤ x ∧ x < 5 + 7 * (t - 97) + y2 then 0 else ar 1 x) → (∀ x, 0 ≤ gv x ∧ gv x < 2147483648) → (6 - y2 < (fu : Int)) → ∀ (H : Heap) (locs : List Loc), va_P E.1 CL (MW E o (us (us (us sc 5 (k_cw (sc 6) (sc 5))) 7 v7) 8 0) (ua (ua ar 1 gv) 2 a_4)) H → va_D A (MW E o (us (us (us sc 5 (k_cw (sc 6) (sc 5))) 7 v7) 8 0) (ua (ua ar 1 gv) 2 a_4)) → va_S A s.heap H locs → ∀ ls : Array Slot, lv_has ls 3 [(2, iv y2), (0, .ref (o 0)), (1, iv t)] → W p l e (headSpec (ws_ yX5_dropRecipe cX5_dropRecipe 3 (some .int)) { frames := 3, cells := 0, slots := 0, locals := 65 }).room s m ([.ref (o 0), iv t] : List Value).toArray below meth c H locs 0 0 (MQ below (UQi E (rs_val 0 (A_drop (ar 1) t)) (MW E o (us (us (us (us (us (us sc 5 (rs_cw (sc 6) (sc 5) (A_drop (ar 1) t))) 7 (rs_ref (A_drop (ar 1) t))) 8 (rs_code 3 (A_drop (ar 1) t))) 9 (rs_why (sc 9) (A_drop (ar 1) t))) 10 (rs_det (sc 10) (A_drop (ar 1) t))) 11 (rs_cau (sc 11) (A_drop (ar 1) t))) (ua (ua ar 1 (rs_g (ar 1) (A_drop (ar 1) t))) 2 (rs_kw (sc 6) (ar 2) (ar 1) (sc 5) (A_drop (ar 1) t)))) A) ([.ref (o 0), iv t] : List Value).toArray s 0 0 A) (F0 m 73 ls []) := by
            intro fu
            induction fu with
            | zero =>
              intro y2 gv il73_0 il73_1 il73_2 hm
              exfalso; omega
            | succ fu ih =>
              intro y2 gv il73_0 il73_1 il73_2 hm H locs hP hD hS ls hl
              have ihl73 := ih
              refine lv_iload_n hx hb dX5_dropRecipe_73 rfl (lv_at hl 0 rfl) ?_
              refine lv_bipush (v := iI 6) hx hb dX5_dropRecipe_74 (by decide) ?_
              refine n_icmp_ge (tgt := 95) hx hb dX5_dropRecipe_76 (by decide) (by omega) (by omega) (fun c_5 => ?_) (fun c_5 => ?_)
              · have egv : gv = s_drop (ar 1) (t - 97) := by
                  funext x
                  obtain rfl : y2 = 6 := by omega
                  exact il73_1 x
                refine lv_aload_n hx hb dX5_dropRecipe_95 rfl (lv_at hl 1 rfl) ?_
                refine n_csi (x := m_recipes gv) (va_runV (As := []) (rest := []) ⟨hx, hb, hml, hown, hts⟩ (mt_X5_recipes l E o (us (us (us sc 5 (k_cw (sc 6) (sc 5))) 7 v7) 8 0) (ua (ua ar 1 gv) 2 a_4)  (ua_b 2 (ua_b 1 hB il73_2) hBa_4)) (cwV 0 hts (lw_V q2139 q2141 qs53 q113 q2142) rfl rfl rfl (by decide +kernel) ⟨Nat.le_of_ble_eq_true rfl, Nat.le_of_ble_eq_true rfl⟩) (PW_V hP hK (va_recv hK.1 hP (ci := 0) (q0 := 0) rfl rfl)) rfl rfl hl.1 rfl (lv_room (Nat.le_of_ble_eq_true rfl)) dX5_dropRecipe_96 ⟨Nat.le_of_ble_eq_true rfl, Nat.le_of_ble_eq_true rfl⟩) ?_
                have hA : A_drop (ar 1) t = .inr (.inr (m_recipes gv, gv)) := by
                  rw [egv]
                  unfold A_drop
                  rw [if_neg hnz, if_neg (by rw [hho]; decide)]
                  try rfl
                have hfin : m_recipes gv = rs_val 0 (A_drop (ar 1) t) := by
                  first | (rw [hA]; done) | (rw [hA]; rfl)
                have w_6 : k_cw (sc 6) (sc 5) = rs_cw (sc 6) (sc 5) (A_drop (ar 1) t) := by
                  first | (rw [hA]; done) | (rw [hA]; rfl) | (rw [hA]; exact if_pos hden) | (rw [hA]; exact if_neg hden) | (rw [hA]; exact rfl) | (rw [hA]; exact rfl)
                rw [show (us (us (us sc 5 (k_cw (sc 6) (sc 5))) 7 v7) 8 0) = (us (us (us sc 5 (rs_cw (sc 6) (sc 5) (A_drop (ar 1) t))) 7 v7) 8 0) from congrArg (fun z0 : Int => (us (us (us sc 5 z0) 7 v7) 8 0)) w_6] at hP hD
                have w_7 : v7 = rs_ref (A_drop (ar 1) t) := by
                  rw [hA]
                  exact il12_2.2
                rw [show (us (us (us sc 5 (rs_cw (sc 6) (sc 5) (A_drop (ar 1) t))) 7 v7) 8 0) = (us (us (us sc 5 (rs_cw (sc 6) (sc 5) (A_drop (ar 1) t))) 7 (rs_ref (A_drop (ar 1) t))) 8 0) from congrArg (fun z0 : Int => (us (us (us sc 5 (rs_cw (sc 6) (sc 5) (A_drop (ar 1) t))) 7 z0) 8 0)) w_7] at hP hD
                have w_8 : 0 = rs_code 3 (A_drop (ar 1) t) := by
                  first | (rw [hA]; done) | (rw [hA]; rfl) | (rw [hA]; exact if_pos hden) | (rw [hA]; exact if_neg hden) | (rw [hA]; exact rfl) | (rw [hA]; exact rfl)
                rw [show (us (us (us sc 5 (rs_cw (sc 6) (sc 5) (A_drop (ar 1) t))) 7 (rs_ref (A_drop (ar 1) t))) 8 0) = (us (us (us sc 5 (rs_cw (sc 6) (sc 5) (A_drop (ar 1) t))) 7 (rs_ref (A_drop (ar 1) t))) 8 (rs_code 3 (A_drop (ar 1) t))) from congrArg (fun z0 : Int => (us (us (us sc 5 (rs_cw (sc 6) (sc 5) (A_drop (ar 1) t))) 7 (rs_ref (A_drop (ar 1) t))) 8 z0)) w_8] at hP hD
                have hP : va_P E.1 CL (MW E o (us (us (us (us sc 5 (rs_cw (sc 6) (sc 5) (A_drop (ar 1) t))) 7 (rs_ref (A_drop (ar 1) t))) 8 (rs_code 3 (A_drop (ar 1) t))) 9 (sc 9)) (ua (ua ar 1 gv) 2 a_4)) H := hP
                have hD : va_D A (MW E o (us (us (us (us sc 5 (rs_cw (sc 6) (sc 5) (A_drop (ar 1) t))) 7 (rs_ref (A_drop (ar 1) t))) 8 (rs_code 3 (A_drop (ar 1) t))) 9 (sc 9)) (ua (ua ar 1 gv) 2 a_4)) := hD
                have w_9 : sc 9 = rs_why (sc 9) (A_drop (ar 1) t) := by
                  first | (rw [hA]; done) | (rw [hA]; rfl) | (rw [hA]; exact if_pos hden) | (rw [hA]; exact if_neg hden) | (rw [hA]; exact rfl) | (rw [hA]; exact rfl)
                rw [show (us (us (us (us sc 5 (rs_cw (sc 6) (sc 5) (A_drop (ar 1) t))) 7 (rs_ref (A_drop (ar 1) t))) 8 (rs_code 3 (A_drop (ar 1) t))) 9 (sc 9)) = (us (us (us (us sc 5 (rs_cw (sc 6) (sc 5) (A_drop (ar 1) t))) 7 (rs_ref (A_drop (ar 1) t))) 8 (rs_code 3 (A_drop (ar 1) t))) 9 (rs_why (sc 9) (A_drop (ar 1) t))) from congrArg (fun z0 : Int => (us (us (us (us sc 5 (rs_cw (sc 6) (sc 5) (A_drop (ar 1) t))) 7 (rs_ref (A_drop (ar 1) t))) 8 (rs_code 3 (A_drop (ar 1) t))) 9 z0)) w_9] at hP hD
                have hP : va_P E.1 CL (MW E o (us (us (us (us (us sc 5 (rs_cw (sc 6) (sc 5) (A_drop (ar 1) t))) 7 (rs_ref (A_drop (ar 1) t))) 8 (rs_code 3 (A_drop (ar 1) t))) 9 (rs_why (sc 9) (A_drop (ar 1) t))) 10 (sc 10)) (ua (ua ar 1 gv) 2 a_4)) H := hP
                have hD : va_D A (MW E o (us (us (us (us (us sc 5 (rs_cw (sc 6) (sc 5) (A_drop (ar 1) t))) 7 (rs_ref (A_drop (ar 1) t))) 8 (rs_code 3 (A_drop (ar 1) t))) 9 (rs_why (sc 9) (A_drop (ar 1) t))) 10 (sc 10)) (ua (ua ar 1 gv) 2 a_4)) := hD
                have w_10 : sc 10 = rs_det (sc 10) (A_drop (ar 1) t) := by
                  first | (rw [hA]; done) | (rw [hA]; rfl) | (rw [hA]; exact if_pos hden) | (rw [hA]; exact if_neg hden) | (rw [hA]; exact rfl) | (rw [hA]; exact rfl)
                rw [show (us (us (us (us (us sc 5 (rs_cw (sc 6) (sc 5) (A_drop (ar 1) t))) 7 (rs_ref (A_drop (ar 1) t))) 8 (rs_code 3 (A_drop (ar 1) t))) 9 (rs_why (sc 9) (A_drop (ar 1) t))) 10 (sc 10)) = (us (us (us (us (us sc 5 (rs_cw (sc 6) (sc 5) (A_drop (ar 1) t))) 7 (rs_ref (A_drop (ar 1) t))) 8 (rs_code 3 (A_drop (ar 1) t))) 9 (rs_why (sc 9) (A_drop (ar 1) t))) 10 (rs_det (sc 10) (A_drop (ar 1) t))) from congrArg (fun z0 : Int => (us (us (us (us (us sc 5 (rs_cw (sc 6) (sc 5) (A_drop (ar 1) t))) 7 (rs_ref (A_drop (ar 1) t))) 8 (rs_code 3 (A_drop (ar 1) t))) 9 (rs_why (sc 9) (A_drop (ar 1) t))) 10 z0)) w_10] at hP hD
                have hP : va_P E.1 CL (MW E o (us (us (us (us (us (us sc 5 (rs_cw (sc 6) (sc 5) (A_drop (ar 1) t))) 7 (rs_ref (A_drop (ar 1) t))) 8 (rs_code 3 (A_drop (ar 1) t))) 9 (rs_why (sc 9) (A_drop (ar 1) t))) 10 (rs_det (sc 10) (A_drop (ar 1) t))) 11 (sc 11)) (ua (ua ar 1 gv) 2 a_4)) H := hP
                have hD : va_D A (MW E o (us (us (us (us (us (us sc 5 (rs_cw (sc 6) (sc 5) (A_drop (ar 1) t))) 7 (rs_ref (A_drop (ar 1) t))) 8 (rs_code 3 (A_drop (ar 1) t))) 9 (rs_why (sc 9) (A_drop (ar 1) t))) 10 (rs_det (sc 10) (A_drop (ar 1) t))) 11 (sc 11)) (ua (ua ar 1 gv) 2 a_4)) := hD
                have w_11 : sc 11 = rs_cau (sc 11) (A_drop (ar 1) t) := by
                  first | (rw [hA]; done) | (rw [hA]; rfl) | (rw [hA]; exact if_pos hden) | (rw [hA]; exact if_neg hden) | (rw [hA]; exact rfl) | (rw [hA]; exact rfl)
                rw [show (us (us (us (us (us (us sc 5 (rs_cw (sc 6) (sc 5) (A_drop (ar 1) t))) 7 (rs_ref (A_drop (ar 1) t))) 8 (rs_code 3 (A_drop (ar 1) t))) 9 (rs_why (sc 9) (A_drop (ar 1) t))) 10 (rs_det (sc 10) (A_drop (ar 1) t))) 11 (sc 11)) = (us (us (us (us (us (us sc 5 (rs_cw (sc 6) (sc 5) (A_drop (ar 1) t))) 7 (rs_ref (A_drop (ar 1) t))) 8 (rs_code 3 (A_drop (ar 1) t))) 9 (rs_why (sc 9) (A_drop (ar 1) t))) 10 (rs_det (sc 10) (A_drop (ar 1) t))) 11 (rs_cau (sc 11) (A_drop (ar 1) t))) from congrArg (fun z0 : Int => (us (us (us (us (us (us sc 5 (rs_cw (sc 6) (sc 5) (A_drop (ar 1) t))) 7 (rs_ref (A_drop (ar 1) t))) 8 (rs_code 3 (A_drop (ar 1) t))) 9 (rs_why (sc 9) (A_drop (ar 1) t))) 10 (rs_det (sc 10) (A_drop (ar 1) t))) 11 z0)) w_11] at hP hD
                have w_12 : gv = rs_g (ar 1) (A_drop (ar 1) t) := by
                  first | (rw [hA]; done) | (rw [hA]; rfl) | (rw [hA]; exact if_pos hden) | (rw [hA]; exact if_neg hden) | (rw [hA]; exact rfl) | (rw [hA]; exact rfl)
                rw [show (ua (ua ar 1 gv) 2 a_4) = (ua (ua ar 1 (rs_g (ar 1) (A_drop (ar 1) t))) 2 a_4) from congrArg (fun z0 : Int → Int => (ua (ua ar 1 z0) 2 a_4)) w_12] at hP hD
                have w_13 : a_4 = rs_kw (sc 6) (ar 2) (ar 1) (sc 5) (A_drop (ar 1) t) := by
                  rw [hA]
                  first | rfl | exact ea_4
                rw [show (ua (ua ar 1 (rs_g (ar 1) (A_drop (ar 1) t))) 2 a_4) = (ua (ua ar 1 (rs_g (ar 1) (A_drop (ar 1) t))) 2 (rs_kw (sc 6) (ar 2) (ar 1) (sc 5) (A_drop (ar 1) t))) from congrArg (fun z0 : Int → Int => (ua (ua ar 1 (rs_g (ar 1) (A_drop (ar 1) t))) 2 z0)) w_13] at hP hD
                exact W.iret (v := iI (m_recipes gv)) hx hb hr (fun tt_ ht_ hW_ => ⟨⟨iI (m_recipes gv), (), rfl, (congrArg iI hfin), by rw [ht_]; exact hP, hD⟩, hS.F ht_⟩) hS.2.2 dX5_dropRecipe_99
              · refine lv_aload_n hx hb dX5_dropRecipe_79 rfl (lv_at hl 1 rfl) ?_
                refine lv_iload_n hx hb dX5_dropRecipe_80 rfl (lv_at hl 2 rfl) ?_
                refine lv_bipush (v := iI 97) hx hb dX5_dropRecipe_81 (by decide) ?_
                refine n_isub hx hb dX5_dropRecipe_83 ?_
                refine lv_iload_n hx hb dX5_dropRecipe_84 rfl (lv_at hl 0 rfl) ?_
                refine lv_iconst (v := iI 0) hx hb dX5_dropRecipe_85 rfl ?_
                refine n_cuv (va_runV (As := [iv (t - 97), iv y2, iv 0]) (rest := []) ⟨hx, hb, hml, hown, hts⟩ (mt_X5_lays l E o (us (us (us sc 5 (k_cw (sc 6) (sc 5))) 7 v7) 8 0) (ua (ua ar 1 gv) 2 a_4) (t - 97) y2 0 (by omega) _) (cwV 3 hts (lw_V q2135 q2137 qs52 q113 q2138) rfl rfl rfl (by decide +kernel) ⟨Nat.le_of_ble_eq_true rfl, Nat.le_of_ble_eq_true rfl⟩) (UW_V hP hK (hD) (va_recv hK.1 hP (ci := 0) (q0 := 0) rfl rfl)) rfl rfl hl.1 rfl (lv_room (Nat.le_of_ble_eq_true rfl)) dX5_dropRecipe_86 ⟨Nat.le_of_ble_eq_true rfl, Nat.le_of_ble_eq_true rfl⟩) hD hS hA (fun H locs hP hD hS => ?_)
                have hP : va_P E.1 CL (MW E o (us (us (us sc 5 (k_cw (sc 6) (sc 5))) 7 v7) 8 0) (ua (ua ar 1 (ui gv (5 + 7 * (t - 97) + y2) 0)) 2 a_4)) H := hP
                have hD : va_D A (MW E o (us (us (us sc 5 (k_cw (sc 6) (sc 5))) 7 v7) 8 0) (ua (ua ar 1 (ui gv (5 + 7 * (t - 97) + y2) 0)) 2 a_4)) := hD
                obtain ⟨a_14, ea_14⟩ : ∃ zz : Int → Int, zz = ui gv (5 + 7 * (t - 97) + y2) 0 := ⟨_, rfl⟩
                rw [← ea_14] at hP hD
                have hBa_14 := ui_b (i := (5 + 7 * (t - 97) + y2)) (v := 0) il73_2 (by omega)
                rw [← ea_14] at hBa_14
                refine lv_iinc (v := iI (y2 + 1)) (lv' := [(2, iv (y2 + 1)), (0, .ref (o 0)), (1, iv t)]) hx hb dX5_dropRecipe_89 hl (k := 0) rfl (iI_add _ _) (by decide) rfl (fun ls hl => ?_)
                refine lv_goto (tgt := 73) hx hb dX5_dropRecipe_92 (by decide) ?_
                exact ihl73 (y2 + 1) a_14 (by first | omega | rfl) (by intro x; rw [ea_14]; unfold ui; have := il73_1 x; (repeat' split) <;> first | rfl | omega | (rw [this]; (repeat' split) <;> first | rfl | omega)) (by exact hBa_14) (by omega) H locs hP hD hS ls (lv_sub hl [0, 1, 2] rfl)
          exact l73 7 0 (ar 1) (by first | omega | rfl | trivial) (by intro x; rw [if_neg (by omega)]) (by exact hB 1) (by omega) H locs hP hD hS ls hl
        · refine lv_aload_n hx hb dX5_dropRecipe_22 rfl (lv_at hl 1 rfl) ?_
          have j_15 : W p l e (headSpec (ws_ yX5_dropRecipe cX5_dropRecipe 3 (some .int)) { frames := 3, cells := 0, slots := 0, locals := 65 }).room s m ([.ref (o 0), iv t] : List Value).toArray below meth c H locs 0 0 (MQ below (UQi E (rs_val 0 (A_drop (ar 1) t)) (MW E o (us (us (us (us (us (us sc 5 (rs_cw (sc 6) (sc 5) (A_drop (ar 1) t))) 7 (rs_ref (A_drop (ar 1) t))) 8 (rs_code 3 (A_drop (ar 1) t))) 9 (rs_why (sc 9) (A_drop (ar 1) t))) 10 (rs_det (sc 10) (A_drop (ar 1) t))) 11 (rs_cau (sc 11) (A_drop (ar 1) t))) (ua (ua ar 1 (rs_g (ar 1) (A_drop (ar 1) t))) 2 (rs_kw (sc 6) (ar 2) (ar 1) (sc 5) (A_drop (ar 1) t)))) A) ([.ref (o 0), iv t] : List Value).toArray s 0 0 A) (F0 m 49 ls [iv (c_if 3 (m_here (ar 1) x2 && decide (m_thing (ar 1) x2 0 = t - 97))), .ref (o 0)]) := by
            have b_16 := c_if_r (k := 3) (by decide) (m_here (ar 1) x2 && decide (m_thing (ar 1) x2 0 = t - 97))
            refine n_cui (x := b2 (decide (0 < (c_if 3 (m_here (ar 1) x2 && decide (m_thing (ar 1) x2 0 = t - 97)))))) (va_runV (As := [iv (c_if 3 (m_here (ar 1) x2 && decide (m_thing (ar 1) x2 0 = t - 97)))]) (rest := []) ⟨hx, hb, hml, hown, hts⟩ (mt_X5_fails l E o (us (us sc 7 v7) 8 v8) ar (c_if 3 (m_here (ar 1) x2 && decide (m_thing (ar 1) x2 0 = t - 97))) (by omega) _) (cwV 1 hts (lw_V q2124 q2126 qs50 q113 q2127) rfl rfl rfl (by decide +kernel) ⟨Nat.le_of_ble_eq_true rfl, Nat.le_of_ble_eq_true rfl⟩) (UW_V hP hK (hD) (va_recv hK.1 hP (ci := 0) (q0 := 0) rfl rfl)) rfl rfl hl.1 rfl (lv_room (Nat.le_of_ble_eq_true rfl)) dX5_dropRecipe_49 ⟨Nat.le_of_ble_eq_true rfl, Nat.le_of_ble_eq_true rfl⟩) hD hS hA (fun H locs hP hD hS => ?_)
            have hP : va_P E.1 CL (MW E o (us (us sc 7 0) 8 (c_if 3 (m_here (ar 1) x2 && decide (m_thing (ar 1) x2 0 = t - 97)))) ar) H := hP
            have hD : va_D A (MW E o (us (us sc 7 0) 8 (c_if 3 (m_here (ar 1) x2 && decide (m_thing (ar 1) x2 0 = t - 97)))) ar) := hD
            refine n_ifd_eq (tgt := 57) hx hb dX5_dropRecipe_52 (by decide) (fun c_17 => ?_) (fun c_17 => ?_)
            · have hm2 := c_if_no (k := 3) (by decide) (by assumption)
              refine lv_iinc (v := iI (x2 + 1)) (lv' := [(2, iv (x2 + 1)), (0, .ref (o 0)), (1, iv t)]) hx hb dX5_dropRecipe_57 hl (k := 0) rfl (iI_add _ _) (by decide) rfl (fun ls hl => ?_)
              refine lv_goto (tgt := 12) hx hb dX5_dropRecipe_60 (by decide) ?_
              exact ihl12 (x2 + 1) (c_if 3 (m_here (ar 1) x2 && decide (m_thing (ar 1) x2 0 = t - 97))) 0 (by first | omega | rfl) (by rw [exB_s (by omega), il12_1, hm2.1]; rfl) (by exact ⟨hm2.2, rfl⟩) (by omega) H locs hP hD hS ls (lv_sub hl [0, 1, 2] rfl)
            · have hm2 := c_if_yes (by assumption)
              have hho : m_hasobj (ar 1) (t - 97) = true := exB_iff.mpr ⟨x2, by omega, by omega, hm2.1⟩
              refine lv_iconst (v := iI 0) hx hb dX5_dropRecipe_55 rfl ?_
              have hA : A_drop (ar 1) t = .inl (c_if 3 (m_here (ar 1) x2 && decide (m_thing (ar 1) x2 0 = t - 97))) := by
                unfold A_drop
                rw [if_neg hnz, if_pos hho, hm2.2]
              have hfin : 0 = rs_val 0 (A_drop (ar 1) t) := by
                first | (rw [hA]; done) | (rw [hA]; rfl)
              have hP : va_P E.1 CL (MW E o (us (us (us sc 5 (sc 5)) 7 0) 8 (c_if 3 (m_here (ar 1) x2 && decide (m_thing (ar 1) x2 0 = t - 97)))) ar) H := hP
              have hD : va_D A (MW E o (us (us (us sc 5 (sc 5)) 7 0) 8 (c_if 3 (m_here (ar 1) x2 && decide (m_thing (ar 1) x2 0 = t - 97)))) ar) := hD
              have w_18 : sc 5 = rs_cw (sc 6) (sc 5) (A_drop (ar 1) t) := by
                first | (rw [hA]; done) | (rw [hA]; rfl) | (rw [hA]; exact if_pos hden) | (rw [hA]; exact if_neg hden) | (rw [hA]; exact rfl) | (rw [hA]; exact rfl)
              rw [show (us (us (us sc 5 (sc 5)) 7 0) 8 (c_if 3 (m_here (ar 1) x2 && decide (m_thing (ar 1) x2 0 = t - 97)))) = (us (us (us sc 5 (rs_cw (sc 6) (sc 5) (A_drop (ar 1) t))) 7 0) 8 (c_if 3 (m_here (ar 1) x2 && decide (m_thing (ar 1) x2 0 = t - 97)))) from congrArg (fun z0 : Int => (us (us (us sc 5 z0) 7 0) 8 (c_if 3 (m_here (ar 1) x2 && decide (m_thing (ar 1) x2 0 = t - 97))))) w_18] at hP hD
              have w_19 : 0 = rs_ref (A_drop (ar 1) t) := by
                first | (rw [hA]; done) | (rw [hA]; rfl) | (rw [hA]; exact if_pos hden) | (rw [hA]; exact if_neg hden) | (rw [hA]; exact rfl) | (rw [hA]; exact rfl)
              rw [show (us (us (us sc 5 (rs_cw (sc 6) (sc 5) (A_drop (ar 1) t))) 7 0) 8 (c_if 3 (m_here (ar 1) x2 && decide (m_thing (ar 1) x2 0 = t - 97)))) = (us (us (us sc 5 (rs_cw (sc 6) (sc 5) (A_drop (ar 1) t))) 7 (rs_ref (A_drop (ar 1) t))) 8 (c_if 3 (m_here (ar 1) x2 && decide (m_thing (ar 1) x2 0 = t - 97)))) from congrArg (fun z0 : Int => (us (us (us sc 5 (rs_cw (sc 6) (sc 5) (A_drop (ar 1) t))) 7 z0) 8 (c_if 3 (m_here (ar 1) x2 && decide (m_thing (ar 1) x2 0 = t - 97))))) w_19] at hP hD
              have w_20 : (c_if 3 (m_here (ar 1) x2 && decide (m_thing (ar 1) x2 0 = t - 97))) = rs_code 3 (A_drop (ar 1) t) := by
                first | (rw [hA]; done) | (rw [hA]; rfl) | (rw [hA]; exact if_pos hden) | (rw [hA]; exact if_neg hden) | (rw [hA]; exact rfl) | (rw [hA]; exact rfl)
              rw [show (us (us (us sc 5 (rs_cw (sc 6) (sc 5) (A_drop (ar 1) t))) 7 (rs_ref (A_drop (ar 1) t))) 8 (c_if 3 (m_here (ar 1) x2 && decide (m_thing (ar 1) x2 0 = t - 97)))) = (us (us (us sc 5 (rs_cw (sc 6) (sc 5) (A_drop (ar 1) t))) 7 (rs_ref (A_drop (ar 1) t))) 8 (rs_code 3 (A_drop (ar 1) t))) from congrArg (fun z0 : Int => (us (us (us sc 5 (rs_cw (sc 6) (sc 5) (A_drop (ar 1) t))) 7 (rs_ref (A_drop (ar 1) t))) 8 z0)) w_20] at hP hD
              have hP : va_P E.1 CL (MW E o (us (us (us (us sc 5 (rs_cw (sc 6) (sc 5) (A_drop (ar 1) t))) 7 (rs_ref (A_drop (ar 1) t))) 8 (rs_code 3 (A_drop (ar 1) t))) 9 (sc 9)) ar) H := hP
              have hD : va_D A (MW E o (us (us (us (us sc 5 (rs_cw (sc 6) (sc 5) (A_drop (ar 1) t))) 7 (rs_ref (A_drop (ar 1) t))) 8 (rs_code 3 (A_drop (ar 1) t))) 9 (sc 9)) ar) := hD
              have w_21 : sc 9 = rs_why (sc 9) (A_drop (ar 1) t) := by
                first | (rw [hA]; done) | (rw [hA]; rfl) | (rw [hA]; exact if_pos hden) | (rw [hA]; exact if_neg hden) | (rw [hA]; exact rfl) | (rw [hA]; exact rfl)
              rw [show (us (us (us (us sc 5 (rs_cw (sc 6) (sc 5) (A_drop (ar 1) t))) 7 (rs_ref (A_drop (ar 1) t))) 8 (rs_code 3 (A_drop (ar 1) t))) 9 (sc 9)) = (us (us (us (us sc 5 (rs_cw (sc 6) (sc 5) (A_drop (ar 1) t))) 7 (rs_ref (A_drop (ar 1) t))) 8 (rs_code 3 (A_drop (ar 1) t))) 9 (rs_why (sc 9) (A_drop (ar 1) t))) from congrArg (fun z0 : Int => (us (us (us (us sc 5 (rs_cw (sc 6) (sc 5) (A_drop (ar 1) t))) 7 (rs_ref (A_drop (ar 1) t))) 8 (rs_code 3 (A_drop (ar 1) t))) 9 z0)) w_21] at hP hD
              have hP : va_P E.1 CL (MW E o (us (us (us (us (us sc 5 (rs_cw (sc 6) (sc 5) (A_drop (ar 1) t))) 7 (rs_ref (A_drop (ar 1) t))) 8 (rs_code 3 (A_drop (ar 1) t))) 9 (rs_why (sc 9) (A_drop (ar 1) t))) 10 (sc 10)) ar) H := hP
              have hD : va_D A (MW E o (us (us (us (us (us sc 5 (rs_cw (sc 6) (sc 5) (A_drop (ar 1) t))) 7 (rs_ref (A_drop (ar 1) t))) 8 (rs_code 3 (A_drop (ar 1) t))) 9 (rs_why (sc 9) (A_drop (ar 1) t))) 10 (sc 10)) ar) := hD
              have w_22 : sc 10 = rs_det (sc 10) (A_drop (ar 1) t) := by
                first | (rw [hA]; done) | (rw [hA]; rfl) | (rw [hA]; exact if_pos hden) | (rw [hA]; exact if_neg hden) | (rw [hA]; exact rfl) | (rw [hA]; exact rfl)
              rw [show (us (us (us (us (us sc 5 (rs_cw (sc 6) (sc 5) (A_drop (ar 1) t))) 7 (rs_ref (A_drop (ar 1) t))) 8 (rs_code 3 (A_drop (ar 1) t))) 9 (rs_why (sc 9) (A_drop (ar 1) t))) 10 (sc 10)) = (us (us (us (us (us sc 5 (rs_cw (sc 6) (sc 5) (A_drop (ar 1) t))) 7 (rs_ref (A_drop (ar 1) t))) 8 (rs_code 3 (A_drop (ar 1) t))) 9 (rs_why (sc 9) (A_drop (ar 1) t))) 10 (rs_det (sc 10) (A_drop (ar 1) t))) from congrArg (fun z0 : Int => (us (us (us (us (us sc 5 (rs_cw (sc 6) (sc 5) (A_drop (ar 1) t))) 7 (rs_ref (A_drop (ar 1) t))) 8 (rs_code 3 (A_drop (ar 1) t))) 9 (rs_why (sc 9) (A_drop (ar 1) t))) 10 z0)) w_22] at hP hD
              have hP : va_P E.1 CL (MW E o (us (us (us (us (us (us sc 5 (rs_cw (sc 6) (sc 5) (A_drop (ar 1) t))) 7 (rs_ref (A_drop (ar 1) t))) 8 (rs_code 3 (A_drop (ar 1) t))) 9 (rs_why (sc 9) (A_drop (ar 1) t))) 10 (rs_det (sc 10) (A_drop (ar 1) t))) 11 (sc 11)) ar) H := hP
              have hD : va_D A (MW E o (us (us (us (us (us (us sc 5 (rs_cw (sc 6) (sc 5) (A_drop (ar 1) t))) 7 (rs_ref (A_drop (ar 1) t))) 8 (rs_code 3 (A_drop (ar 1) t))) 9 (rs_why (sc 9) (A_drop (ar 1) t))) 10 (rs_det (sc 10) (A_drop (ar 1) t))) 11 (sc 11)) ar) := hD
              have w_23 : sc 11 = rs_cau (sc 11) (A_drop (ar 1) t) := by
                first | (rw [hA]; done) | (rw [hA]; rfl) | (rw [hA]; exact if_pos hden) | (rw [hA]; exact if_neg hden) | (rw [hA]; exact rfl) | (rw [hA]; exact rfl)
              rw [show (us (us (us (us (us (us sc 5 (rs_cw (sc 6) (sc 5) (A_drop (ar 1) t))) 7 (rs_ref (A_drop (ar 1) t))) 8 (rs_code 3 (A_drop (ar 1) t))) 9 (rs_why (sc 9) (A_drop (ar 1) t))) 10 (rs_det (sc 10) (A_drop (ar 1) t))) 11 (sc 11)) = (us (us (us (us (us (us sc 5 (rs_cw (sc 6) (sc 5) (A_drop (ar 1) t))) 7 (rs_ref (A_drop (ar 1) t))) 8 (rs_code 3 (A_drop (ar 1) t))) 9 (rs_why (sc 9) (A_drop (ar 1) t))) 10 (rs_det (sc 10) (A_drop (ar 1) t))) 11 (rs_cau (sc 11) (A_drop (ar 1) t))) from congrArg (fun z0 : Int => (us (us (us (us (us (us sc 5 (rs_cw (sc 6) (sc 5) (A_drop (ar 1) t))) 7 (rs_ref (A_drop (ar 1) t))) 8 (rs_code 3 (A_drop (ar 1) t))) 9 (rs_why (sc 9) (A_drop (ar 1) t))) 10 (rs_det (sc 10) (A_drop (ar 1) t))) 11 z0)) w_23] at hP hD
              have hP : va_P E.1 CL (MW E o (us (us (us (us (us (us sc 5 (rs_cw (sc 6) (sc 5) (A_drop (ar 1) t))) 7 (rs_ref (A_drop (ar 1) t))) 8 (rs_code 3 (A_drop (ar 1) t))) 9 (rs_why (sc 9) (A_drop (ar 1) t))) 10 (rs_det (sc 10) (A_drop (ar 1) t))) 11 (rs_cau (sc 11) (A_drop (ar 1) t))) (ua ar 1 (ar 1))) H := hP
              have hD : va_D A (MW E o (us (us (us (us (us (us sc 5 (rs_cw (sc 6) (sc 5) (A_drop (ar 1) t))) 7 (rs_ref (A_drop (ar 1) t))) 8 (rs_code 3 (A_drop (ar 1) t))) 9 (rs_why (sc 9) (A_drop (ar 1) t))) 10 (rs_det (sc 10) (A_drop (ar 1) t))) 11 (rs_cau (sc 11) (A_drop (ar 1) t))) (ua ar 1 (ar 1))) := hD
              have w_24 : ar 1 = rs_g (ar 1) (A_drop (ar 1) t) := by
                first | (rw [hA]; done) | (rw [hA]; rfl) | (rw [hA]; exact if_pos hden) | (rw [hA]; exact if_neg hden) | (rw [hA]; exact rfl) | (rw [hA]; exact rfl)
              rw [show (ua ar 1 (ar 1)) = (ua ar 1 (rs_g (ar 1) (A_drop (ar 1) t))) from congrArg (fun z0 : Int → Int => (ua ar 1 z0)) w_24] at hP hD
              have hP : va_P E.1 CL (MW E o (us (us (us (us (us (us sc 5 (rs_cw (sc 6) (sc 5) (A_drop (ar 1) t))) 7 (rs_ref (A_drop (ar 1) t))) 8 (rs_code 3 (A_drop (ar 1) t))) 9 (rs_why (sc 9) (A_drop (ar 1) t))) 10 (rs_det (sc 10) (A_drop (ar 1) t))) 11 (rs_cau (sc 11) (A_drop (ar 1) t))) (ua (ua ar 1 (rs_g (ar 1) (A_drop (ar 1) t))) 2 (ar 2))) H := hP
              have hD : va_D A (MW E o (us (us (us (us (us (us sc 5 (rs_cw (sc 6) (sc 5) (A_drop (ar 1) t))) 7 (rs_ref (A_drop (ar 1) t))) 8 (rs_code 3 (A_drop (ar 1) t))) 9 (rs_why (sc 9) (A_drop (ar 1) t))) 10 (rs_det (sc 10) (A_drop (ar 1) t))) 11 (rs_cau (sc 11) (A_drop (ar 1) t))) (ua (ua ar 1 (rs_g (ar 1) (A_drop (ar 1) t))) 2 (ar 2))) := hD
              have w_25 : ar 2 = rs_kw (sc 6) (ar 2) (ar 1) (sc 5) (A_drop (ar 1) t) := by
                rw [hA]
                first | rfl | exact ear 2
              rw [show (ua (ua ar 1 (rs_g (ar 1) (A_drop (ar 1) t))) 2 (ar 2)) = (ua (ua ar 1 (rs_g (ar 1) (A_drop (ar 1) t))) 2 (rs_kw (sc 6) (ar 2) (ar 1) (sc 5) (A_drop (ar 1) t))) from congrArg (fun z0 : Int → Int => (ua (ua ar 1 (rs_g (ar 1) (A_drop (ar 1) t))) 2 z0)) w_25] at hP hD
              exact W.iret (v := iI 0) hx hb hr (fun tt_ ht_ hW_ => ⟨⟨iI 0, (), rfl, (congrArg iI hfin), by rw [ht_]; exact hP, hD⟩, hS.F ht_⟩) hS.2.2 dX5_dropRecipe_56
          refine lv_aload_n hx hb dX5_dropRecipe_23 rfl (lv_at hl 1 rfl) ?_
          refine lv_iload_n hx hb dX5_dropRecipe_24 rfl (lv_at hl 0 rfl) ?_
          refine n_csi (x := b2 (m_here (ar 1) x2)) (va_runV (As := [iv x2]) (rest := [.ref (o 0)]) ⟨hx, hb, hml, hown, hts⟩ (mt_X5_isHere l E o (us (us sc 7 v7) 8 v8) ar x2 hB (by omega)) (cwV 1 hts (lw_V q2151 q2153 qs55 q113 q2154) rfl rfl rfl (by decide +kernel) ⟨Nat.le_of_ble_eq_true rfl, Nat.le_of_ble_eq_true rfl⟩) (PW_V hP hK (va_recv hK.1 hP (ci := 0) (q0 := 0) rfl rfl)) rfl rfl hl.1 rfl (lv_room (Nat.le_of_ble_eq_true rfl)) dX5_dropRecipe_25 ⟨Nat.le_of_ble_eq_true rfl, Nat.le_of_ble_eq_true rfl⟩) ?_
          refine n_ifb_eq (tgt := 48) hx hb dX5_dropRecipe_28 (by decide) (fun c_26 => ?_) (fun c_26 => ?_)
          · refine lv_iconst (v := iI 0) hx hb dX5_dropRecipe_48 rfl ?_
            refine n_top (y := c_if 3 (m_here (ar 1) x2 && decide (m_thing (ar 1) x2 0 = t - 97))) (by simp [c_1, c_3, c_26, b2_t, c_if]) ?_
            exact j_15
          · refine lv_aload_n hx hb dX5_dropRecipe_31 rfl (lv_at hl 1 rfl) ?_
            refine lv_iload_n hx hb dX5_dropRecipe_32 rfl (lv_at hl 0 rfl) ?_
            refine lv_iconst (v := iI 0) hx hb dX5_dropRecipe_33 rfl ?_
            refine n_csi (x := m_thing (ar 1) x2 0) (va_runV (As := [iv x2, iv 0]) (rest := [.ref (o 0)]) ⟨hx, hb, hml, hown, hts⟩ (mt_X5_thing l E o (us (us sc 7 v7) 8 v8) ar x2 0 (by omega)) (cwV 2 hts (lw_V q2155 q2157 qs56 q113 q2158) rfl rfl rfl (by decide +kernel) ⟨Nat.le_of_ble_eq_true rfl, Nat.le_of_ble_eq_true rfl⟩) (PW_V hP hK (va_recv hK.1 hP (ci := 0) (q0 := 0) rfl rfl)) rfl rfl hl.1 rfl (lv_room (Nat.le_of_ble_eq_true rfl)) dX5_dropRecipe_34 ⟨Nat.le_of_ble_eq_true rfl, Nat.le_of_ble_eq_true rfl⟩) ?_
            refine lv_iload_n hx hb dX5_dropRecipe_37 rfl (lv_at hl 2 rfl) ?_
            refine lv_bipush (v := iI 97) hx hb dX5_dropRecipe_38 (by decide) ?_
            refine n_isub hx hb dX5_dropRecipe_40 ?_
            have b_27 := (show 0 ≤ m_thing (ar 1) x2 0 ∧ m_thing (ar 1) x2 0 < 2147483648 from (hB 1) _)
            refine n_icmp_ne (tgt := 48) hx hb dX5_dropRecipe_41 (by decide) (by omega) (by omega) (fun c_28 => ?_) (fun c_28 => ?_)
            · refine lv_iconst (v := iI 0) hx hb dX5_dropRecipe_48 rfl ?_
              refine n_top (y := c_if 3 (m_here (ar 1) x2 && decide (m_thing (ar 1) x2 0 = t - 97))) (by simp [c_1, c_3, c_26, c_28, b2_t, c_if]) ?_
              exact j_15
            · refine lv_iconst (v := iI 3) hx hb dX5_dropRecipe_44 rfl ?_
              refine lv_goto (tgt := 49) hx hb dX5_dropRecipe_45 (by decide) ?_
              refine n_top (y := c_if 3 (m_here (ar 1) x2 && decide (m_thing (ar 1) x2 0 = t - 97))) (by simp [c_1, c_3, c_26, c_28, b2_t, c_if]) ?_
              exact j_15
    exact l12 61 0 (c_none (ar 1) t) 0 (by first | omega | rfl | trivial) (by rfl) (by have := c_none_r (ar 1) t; omega) (by omega) H locs hP hD hS ls hl
  · refine lv_iconst (v := iI 0) hx hb dX5_dropRecipe_8 rfl ?_
    have hA : A_drop (ar 1) t = .inl (c_none (ar 1) t) := by
      unfold A_drop
      rw [if_pos (by assumption)]
    have hfin : 0 = rs_val 0 (A_drop (ar 1) t) := by
      first | (rw [hA]; done) | (rw [hA]; rfl)
    have hP : va_P E.1 CL (MW E o (us (us (us sc 5 (sc 5)) 7 0) 8 (c_none (ar 1) t)) ar) H := hP
    have hD : va_D A (MW E o (us (us (us sc 5 (sc 5)) 7 0) 8 (c_none (ar 1) t)) ar) := hD
    have w_29 : sc 5 = rs_cw (sc 6) (sc 5) (A_drop (ar 1) t) := by
      first | (rw [hA]; done) | (rw [hA]; rfl) | (rw [hA]; exact if_pos hden) | (rw [hA]; exact if_neg hden) | (rw [hA]; exact rfl) | (rw [hA]; exact rfl)
    rw [show (us (us (us sc 5 (sc 5)) 7 0) 8 (c_none (ar 1) t)) = (us (us (us sc 5 (rs_cw (sc 6) (sc 5) (A_drop (ar 1) t))) 7 0) 8 (c_none (ar 1) t)) from congrArg (fun z0 : Int => (us (us (us sc 5 z0) 7 0) 8 (c_none (ar 1) t))) w_29] at hP hD
    have w_30 : 0 = rs_ref (A_drop (ar 1) t) := by
      first | (rw [hA]; done) | (rw [hA]; rfl) | (rw [hA]; exact if_pos hden) | (rw [hA]; exact if_neg hden) | (rw [hA]; exact rfl) | (rw [hA]; exact rfl)
    rw [show (us (us (us sc 5 (rs_cw (sc 6) (sc 5) (A_drop (ar 1) t))) 7 0) 8 (c_none (ar 1) t)) = (us (us (us sc 5 (rs_cw (sc 6) (sc 5) (A_drop (ar 1) t))) 7 (rs_ref (A_drop (ar 1) t))) 8 (c_none (ar 1) t)) from congrArg (fun z0 : Int => (us (us (us sc 5 (rs_cw (sc 6) (sc 5) (A_drop (ar 1) t))) 7 z0) 8 (c_none (ar 1) t))) w_30] at hP hD
    have w_31 : c_none (ar 1) t = rs_code 3 (A_drop (ar 1) t) := by
      first | (rw [hA]; done) | (rw [hA]; rfl) | (rw [hA]; exact if_pos hden) | (rw [hA]; exact if_neg hden) | (rw [hA]; exact rfl) | (rw [hA]; exact rfl)
    rw [show (us (us (us sc 5 (rs_cw (sc 6) (sc 5) (A_drop (ar 1) t))) 7 (rs_ref (A_drop (ar 1) t))) 8 (c_none (ar 1) t)) = (us (us (us sc 5 (rs_cw (sc 6) (sc 5) (A_drop (ar 1) t))) 7 (rs_ref (A_drop (ar 1) t))) 8 (rs_code 3 (A_drop (ar 1) t))) from congrArg (fun z0 : Int => (us (us (us sc 5 (rs_cw (sc 6) (sc 5) (A_drop (ar 1) t))) 7 (rs_ref (A_drop (ar 1) t))) 8 z0)) w_31] at hP hD
    have hP : va_P E.1 CL (MW E o (us (us (us (us sc 5 (rs_cw (sc 6) (sc 5) (A_drop (ar 1) t))) 7 (rs_ref (A_drop (ar 1) t))) 8 (rs_code 3 (A_drop (ar 1) t))) 9 (sc 9)) ar) H := hP
    have hD : va_D A (MW E o (us (us (us (us sc 5 (rs_cw (sc 6) (sc 5) (A_drop (ar 1) t))) 7 (rs_ref (A_drop (ar 1) t))) 8 (rs_code 3 (A_drop (ar 1) t))) 9 (sc 9)) ar) := hD
    have w_32 : sc 9 = rs_why (sc 9) (A_drop (ar 1) t) := by
      first | (rw [hA]; done) | (rw [hA]; rfl) | (rw [hA]; exact if_pos hden) | (rw [hA]; exact if_neg hden) | (rw [hA]; exact rfl) | (rw [hA]; exact rfl)
    rw [show (us (us (us (us sc 5 (rs_cw (sc 6) (sc 5) (A_drop (ar 1) t))) 7 (rs_ref (A_drop (ar 1) t))) 8 (rs_code 3 (A_drop (ar 1) t))) 9 (sc 9)) = (us (us (us (us sc 5 (rs_cw (sc 6) (sc 5) (A_drop (ar 1) t))) 7 (rs_ref (A_drop (ar 1) t))) 8 (rs_code 3 (A_drop (ar 1) t))) 9 (rs_why (sc 9) (A_drop (ar 1) t))) from congrArg (fun z0 : Int => (us (us (us (us sc 5 (rs_cw (sc 6) (sc 5) (A_drop (ar 1) t))) 7 (rs_ref (A_drop (ar 1) t))) 8 (rs_code 3 (A_drop (ar 1) t))) 9 z0)) w_32] at hP hD
    have hP : va_P E.1 CL (MW E o (us (us (us (us (us sc 5 (rs_cw (sc 6) (sc 5) (A_drop (ar 1) t))) 7 (rs_ref (A_drop (ar 1) t))) 8 (rs_code 3 (A_drop (ar 1) t))) 9 (rs_why (sc 9) (A_drop (ar 1) t))) 10 (sc 10)) ar) H := hP
    have hD : va_D A (MW E o (us (us (us (us (us sc 5 (rs_cw (sc 6) (sc 5) (A_drop (ar 1) t))) 7 (rs_ref (A_drop (ar 1) t))) 8 (rs_code 3 (A_drop (ar 1) t))) 9 (rs_why (sc 9) (A_drop (ar 1) t))) 10 (sc 10)) ar) := hD
    have w_33 : sc 10 = rs_det (sc 10) (A_drop (ar 1) t) := by
      first | (rw [hA]; done) | (rw [hA]; rfl) | (rw [hA]; exact if_pos hden) | (rw [hA]; exact if_neg hden) | (rw [hA]; exact rfl) | (rw [hA]; exact rfl)
    rw [show (us (us (us (us (us sc 5 (rs_cw (sc 6) (sc 5) (A_drop (ar 1) t))) 7 (rs_ref (A_drop (ar 1) t))) 8 (rs_code 3 (A_drop (ar 1) t))) 9 (rs_why (sc 9) (A_drop (ar 1) t))) 10 (sc 10)) = (us (us (us (us (us sc 5 (rs_cw (sc 6) (sc 5) (A_drop (ar 1) t))) 7 (rs_ref (A_drop (ar 1) t))) 8 (rs_code 3 (A_drop (ar 1) t))) 9 (rs_why (sc 9) (A_drop (ar 1) t))) 10 (rs_det (sc 10) (A_drop (ar 1) t))) from congrArg (fun z0 : Int => (us (us (us (us (us sc 5 (rs_cw (sc 6) (sc 5) (A_drop (ar 1) t))) 7 (rs_ref (A_drop (ar 1) t))) 8 (rs_code 3 (A_drop (ar 1) t))) 9 (rs_why (sc 9) (A_drop (ar 1) t))) 10 z0)) w_33] at hP hD
    have hP : va_P E.1 CL (MW E o (us (us (us (us (us (us sc 5 (rs_cw (sc 6) (sc 5) (A_drop (ar 1) t))) 7 (rs_ref (A_drop (ar 1) t))) 8 (rs_code 3 (A_drop (ar 1) t))) 9 (rs_why (sc 9) (A_drop (ar 1) t))) 10 (rs_det (sc 10) (A_drop (ar 1) t))) 11 (sc 11)) ar) H := hP
    have hD : va_D A (MW E o (us (us (us (us (us (us sc 5 (rs_cw (sc 6) (sc 5) (A_drop (ar 1) t))) 7 (rs_ref (A_drop (ar 1) t))) 8 (rs_code 3 (A_drop (ar 1) t))) 9 (rs_why (sc 9) (A_drop (ar 1) t))) 10 (rs_det (sc 10) (A_drop (ar 1) t))) 11 (sc 11)) ar) := hD
    have w_34 : sc 11 = rs_cau (sc 11) (A_drop (ar 1) t) := by
      first | (rw [hA]; done) | (rw [hA]; rfl) | (rw [hA]; exact if_pos hden) | (rw [hA]; exact if_neg hden) | (rw [hA]; exact rfl) | (rw [hA]; exact rfl)
    rw [show (us (us (us (us (us (us sc 5 (rs_cw (sc 6) (sc 5) (A_drop (ar 1) t))) 7 (rs_ref (A_drop (ar 1) t))) 8 (rs_code 3 (A_drop (ar 1) t))) 9 (rs_why (sc 9) (A_drop (ar 1) t))) 10 (rs_det (sc 10) (A_drop (ar 1) t))) 11 (sc 11)) = (us (us (us (us (us (us sc 5 (rs_cw (sc 6) (sc 5) (A_drop (ar 1) t))) 7 (rs_ref (A_drop (ar 1) t))) 8 (rs_code 3 (A_drop (ar 1) t))) 9 (rs_why (sc 9) (A_drop (ar 1) t))) 10 (rs_det (sc 10) (A_drop (ar 1) t))) 11 (rs_cau (sc 11) (A_drop (ar 1) t))) from congrArg (fun z0 : Int => (us (us (us (us (us (us sc 5 (rs_cw (sc 6) (sc 5) (A_drop (ar 1) t))) 7 (rs_ref (A_drop (ar 1) t))) 8 (rs_code 3 (A_drop (ar 1) t))) 9 (rs_why (sc 9) (A_drop (ar 1) t))) 10 (rs_det (sc 10) (A_drop (ar 1) t))) 11 z0)) w_34] at hP hD
    have hP : va_P E.1 CL (MW E o (us (us (us (us (us (us sc 5 (rs_cw (sc 6) (sc 5) (A_drop (ar 1) t))) 7 (rs_ref (A_drop (ar 1) t))) 8 (rs_code 3 (A_drop (ar 1) t))) 9 (rs_why (sc 9) (A_drop (ar 1) t))) 10 (rs_det (sc 10) (A_drop (ar 1) t))) 11 (rs_cau (sc 11) (A_drop (ar 1) t))) (ua ar 1 (ar 1))) H := hP
    have hD : va_D A (MW E o (us (us (us (us (us (us sc 5 (rs_cw (sc 6) (sc 5) (A_drop (ar 1) t))) 7 (rs_ref (A_drop (ar 1) t))) 8 (rs_code 3 (A_drop (ar 1) t))) 9 (rs_why (sc 9) (A_drop (ar 1) t))) 10 (rs_det (sc 10) (A_drop (ar 1) t))) 11 (rs_cau (sc 11) (A_drop (ar 1) t))) (ua ar 1 (ar 1))) := hD
    have w_35 : ar 1 = rs_g (ar 1) (A_drop (ar 1) t) := by
      first | (rw [hA]; done) | (rw [hA]; rfl) | (rw [hA]; exact if_pos hden) | (rw [hA]; exact if_neg hden) | (rw [hA]; exact rfl) | (rw [hA]; exact rfl)
    rw [show (ua ar 1 (ar 1)) = (ua ar 1 (rs_g (ar 1) (A_drop (ar 1) t))) from congrArg (fun z0 : Int → Int => (ua ar 1 z0)) w_35] at hP hD
    have hP : va_P E.1 CL (MW E o (us (us (us (us (us (us sc 5 (rs_cw (sc 6) (sc 5) (A_drop (ar 1) t))) 7 (rs_ref (A_drop (ar 1) t))) 8 (rs_code 3 (A_drop (ar 1) t))) 9 (rs_why (sc 9) (A_drop (ar 1) t))) 10 (rs_det (sc 10) (A_drop (ar 1) t))) 11 (rs_cau (sc 11) (A_drop (ar 1) t))) (ua (ua ar 1 (rs_g (ar 1) (A_drop (ar 1) t))) 2 (ar 2))) H := hP
    have hD : va_D A (MW E o (us (us (us (us (us (us sc 5 (rs_cw (sc 6) (sc 5) (A_drop (ar 1) t))) 7 (rs_ref (A_drop (ar 1) t))) 8 (rs_code 3 (A_drop (ar 1) t))) 9 (rs_why (sc 9) (A_drop (ar 1) t))) 10 (rs_det (sc 10) (A_drop (ar 1) t))) 11 (rs_cau (sc 11) (A_drop (ar 1) t))) (ua (ua ar 1 (rs_g (ar 1) (A_drop (ar 1) t))) 2 (ar 2))) := hD
    have w_36 : ar 2 = rs_kw (sc 6) (ar 2) (ar 1) (sc 5) (A_drop (ar 1) t) := by
      rw [hA]
      first | rfl | exact ear 2
    rw [show (ua (ua ar 1 (rs_g (ar 1) (A_drop (ar 1) t))) 2 (ar 2)) = (ua (ua ar 1 (rs_g (ar 1) (A_drop (ar 1) t))) 2 (rs_kw (sc 6) (ar 2) (ar 1) (sc 5) (A_drop (ar 1) t))) from congrArg (fun z0 : Int → Int => (ua (ua ar 1 (rs_g (ar 1) (A_drop (ar 1) t))) 2 z0)) w_36] at hP hD
    exact W.iret (v := iI 0) hx hb hr (fun tt_ ht_ hW_ => ⟨⟨iI 0, (), rfl, (congrArg iI hfin), by rw [ht_]; exact hP, hD⟩, hS.F ht_⟩) hS.2.2 dX5_dropRecipe_9
set_option maxHeartbeats 4000000 in
set_option maxRecDepth 100000 in
theorem mt_X5_addNeed (l : Launch) (E : EE) (o : Nat → Nat) (sc : Nat → Int) (ar : Nat → Int → Int) (t : Int) (nd : Int) (z : Bool) (hB : ∀ k x, 0 ≤ ar k x ∧ ar k x < 2147483648) (ht : 0 ≤ t ∧ t < 65536) (hs : 0 ≤ nd ∧ nd < 65536) (htw : TW (ar 1)) (hsw : SwOK (ar 1)) (hzn : ZN (ar 1)) (hch : 0 ≤ sc 5 ∧ sc 5 ≤ 8) (hwi : 0 ≤ sc 6 ∧ sc 6 ≤ 1) (sz : Nat) : Met l yX5_addNeed (ws_ yX5_addNeed cX5_addNeed 9 (some .int)) { frames := 5, cells := 0, slots := 0, locals := 116 } (va_Pc [.ref (o 0), iv t, iv nd, iv (b2 z)] (UW E (MW E o sc ar) sz)) (UQi E (rs_val 0 (A_add (ar 1) t nd z)) (MW E o (us (us (us (us (us (us sc 5 (rs_cw (sc 6) (sc 5) (A_add (ar 1) t nd z))) 7 (rs_ref (A_add (ar 1) t nd z))) 8 (rs_code 3 (A_add (ar 1) t nd z))) 9 (rs_why (sc 9) (A_add (ar 1) t nd z))) 10 (rs_det (sc 10) (A_add (ar 1) t nd z))) 11 (rs_cau (sc 11) (A_add (ar 1) t nd z))) (ua (ua ar 1 (rs_g (ar 1) (A_add (ar 1) t nd z))) 2 (rs_kw (sc 6) (ar 2) (ar 1) (sc 5) (A_add (ar 1) t nd z)))) (va_A (MW E o sc ar) sz)) 0 0 (va_A (MW E o sc ar) sz) := by
  refine Met.ofW (cc := cX5_addNeed) (maxL := 9) (ret := (some .int)) (by decide) rfl ?_
  intro p e s m args below meth c s₁ B hml hv
  obtain ⟨rfl, hsz, hP, hK, hD0⟩ := hv
  have hx := B.exec
  have hb := B.bytes
  have hr := B.returns
  have hts := atoms_spec (ws := (ws_ yX5_addNeed cX5_addNeed 9 (some .int))) B.pre
  have hts : ∀ w ∈ lw_all, w.before _ s = true := fun w h => hts w (List.mem_cons_of_mem _ h)
  have hown : s.vm.findClass RX5 = some m.cls := findClass_of_methodNamed B.named
  have hlocks := B.notSynchronized
  subst hsz
  have hD := hD0.self (sz := s.heap.size)
  generalize hAe : va_A (MW E o sc ar) s.heap.size = A at hD ⊢
  have hA : ∀ q : Nat, s.heap.size ≤ q → A q := fun q h => by rw [← hAe]; exact Or.inr h
  have hS : va_S A s.heap s.heap [] := va_S.rf
  have hl := lv_entry ([.ref (o 0), iv t, iv nd, iv (b2 z)]) (n := 9) (Nat.le_of_ble_eq_true rfl)
  rw [lg_entry_eq]
  generalize (lg_sl ([.ref (o 0), iv t, iv nd, iv (b2 z)]) ++ List.replicate (9 - (lg_sl ([.ref (o 0), iv t, iv nd, iv (b2 z)])).length) Slot.unset).toArray = ls at hl ⊢
  have hl : lv_has ls 9 [(0, .ref (o 0)), (1, iv t), (2, iv nd), (3, iv (b2 z))] := hl
  refine lv_aload_n hx hb dX5_addNeed_0 rfl (lv_at hl 0 rfl) ?_
  have j_1 : W p l e (headSpec (ws_ yX5_addNeed cX5_addNeed 9 (some .int)) { frames := 5, cells := 0, slots := 0, locals := 116 }).room s m ([.ref (o 0), iv t, iv nd, iv (b2 z)] : List Value).toArray below meth c s.heap [] 0 0 (MQ below (UQi E (rs_val 0 (A_add (ar 1) t nd z)) (MW E o (us (us (us (us (us (us sc 5 (rs_cw (sc 6) (sc 5) (A_add (ar 1) t nd z))) 7 (rs_ref (A_add (ar 1) t nd z))) 8 (rs_code 3 (A_add (ar 1) t nd z))) 9 (rs_why (sc 9) (A_add (ar 1) t nd z))) 10 (rs_det (sc 10) (A_add (ar 1) t nd z))) 11 (rs_cau (sc 11) (A_add (ar 1) t nd z))) (ua (ua ar 1 (rs_g (ar 1) (A_add (ar 1) t nd z))) 2 (rs_kw (sc 6) (ar 2) (ar 1) (sc 5) (A_add (ar 1) t nd z)))) A) ([.ref (o 0), iv t, iv nd, iv (b2 z)] : List Value).toArray s 0 0 A) (F0 m 35 ls [iv (c_add (ar 1) t nd), .ref (o 0)]) := by
    have b_2 := c_add_r (ar 1) t nd
    refine n_cui (x := b2 (decide (0 < (c_add (ar 1) t nd)))) (va_runV (As := [iv (c_add (ar 1) t nd)]) (rest := []) ⟨hx, hb, hml, hown, hts⟩ (mt_X5_fails l E o sc ar (c_add (ar 1) t nd) (by omega) _) (cwV 1 hts (lw_V q2124 q2126 qs50 q113 q2127) rfl rfl rfl (by decide +kernel) ⟨Nat.le_of_ble_eq_true rfl, Nat.le_of_ble_eq_true rfl⟩) (UW_V hP hK (hD) (va_recv hK.1 hP (ci := 0) (q0 := 0) rfl rfl)) rfl rfl hl.1 rfl (lv_room (Nat.le_of_ble_eq_true rfl)) dX5_addNeed_35 ⟨Nat.le_of_ble_eq_true rfl, Nat.le_of_ble_eq_true rfl⟩) hD hS hA (fun H locs hP hD hS => ?_)
    have hP : va_P E.1 CL (MW E o (us (us sc 7 0) 8 (c_add (ar 1) t nd)) ar) H := hP
    have hD : va_D A (MW E o (us (us sc 7 0) 8 (c_add (ar 1) t nd)) ar) := hD
    refine n_ifd_eq (tgt := 43) hx hb dX5_addNeed_38 (by decide) (fun c_3 => ?_) (fun c_3 => ?_)
    · have hnz : ¬ 0 < c_add (ar 1) t nd := by assumption
      have hz := c_add_ok hnz
      have hnn := htw (t - 97) (by omega) (by omega)
      refine lv_iload_n hx hb dX5_addNeed_43 rfl (lv_at hl 1 rfl) ?_
      refine lv_bipush (v := iI 97) hx hb dX5_addNeed_44 (by decide) ?_
      refine n_isub hx hb dX5_addNeed_46 ?_
      refine lv_istore (lv' := [(4, iv (t - 97)), (0, .ref (o 0)), (1, iv t), (2, iv nd), (3, iv (b2 z))]) hx hb dX5_addNeed_47 hl (by decide) rfl (fun ls hl => ?_)
      refine lv_iload_n hx hb dX5_addNeed_49 rfl (lv_at hl 3 rfl) ?_
      refine lv_bipush (v := iI 97) hx hb dX5_addNeed_50 (by decide) ?_
      refine n_isub hx hb dX5_addNeed_52 ?_
      refine lv_istore (lv' := [(5, iv (nd - 97)), (4, iv (t - 97)), (0, .ref (o 0)), (1, iv t), (2, iv nd), (3, iv (b2 z))]) hx hb dX5_addNeed_53 hl (by decide) rfl (fun ls hl => ?_)
      refine lv_aload_n hx hb dX5_addNeed_55 rfl (lv_at hl 2 rfl) ?_
      refine lv_iload hx hb dX5_addNeed_56 (lv_at hl 1 rfl) ?_
      refine lv_iload hx hb dX5_addNeed_58 (lv_at hl 0 rfl) ?_
      refine n_csi (x := m_place (ar 1) (t - 97) (nd - 97)) (va_runV (As := [iv (t - 97), iv (nd - 97)]) (rest := []) ⟨hx, hb, hml, hown, hts⟩ (mt_X5_placeOf l E o (us (us sc 7 0) 8 (c_add (ar 1) t nd)) ar (t - 97) (nd - 97) hB (by omega) (by omega) (by assumption)) (cwV 2 hts (lw_V q2163 q2165 qs57 q113 q2166) rfl rfl rfl (by decide +kernel) ⟨Nat.le_of_ble_eq_true rfl, Nat.le_of_ble_eq_true rfl⟩) (PW_V hP hK (va_recv hK.1 hP (ci := 0) (q0 := 0) rfl rfl)) rfl rfl hl.1 rfl (lv_room (Nat.le_of_ble_eq_true rfl)) dX5_addNeed_60 ⟨Nat.le_of_ble_eq_true rfl, Nat.le_of_ble_eq_true rfl⟩) ?_
      have b_4 := m_place_r (g := (ar 1)) (by assumption) (t := (t - 97)) (n := (nd - 97)) (by omega)
      refine n_if_lt (tgt := 81) hx hb dX5_addNeed_63 (by decide) (by omega) (fun c_5 => ?_) (fun c_5 => ?_)
      · refine lv_aload_n hx hb dX5_addNeed_81 rfl (lv_at hl 2 rfl) ?_
        refine lv_iload hx hb dX5_addNeed_82 (lv_at hl 1 rfl) ?_
        refine lv_iconst (v := iI 2) hx hb dX5_addNeed_84 rfl ?_
        refine n_csi (x := m_of (ar 1) (t - 97) 2) (va_runV (As := [iv (t - 97), iv 2]) (rest := []) ⟨hx, hb, hml, hown, hts⟩ (mt_X5_of l E o (us (us sc 7 0) 8 (c_add (ar 1) t nd)) ar (t - 97) 2 (by omega)) (cwV 2 hts (lw_V q2120 q2122 qs49 q113 q2123) rfl rfl rfl (by decide +kernel) ⟨Nat.le_of_ble_eq_true rfl, Nat.le_of_ble_eq_true rfl⟩) (PW_V hP hK (va_recv hK.1 hP (ci := 0) (q0 := 0) rfl rfl)) rfl rfl hl.1 rfl (lv_room (Nat.le_of_ble_eq_true rfl)) dX5_addNeed_85 ⟨Nat.le_of_ble_eq_true rfl, Nat.le_of_ble_eq_true rfl⟩) ?_
        refine lv_iconst (v := iI 3) hx hb dX5_addNeed_88 rfl ?_
        have b_6 := (show 0 ≤ m_of (ar 1) (t - 97) 2 ∧ m_of (ar 1) (t - 97) 2 < 2147483648 from (hB 1) _)
        refine n_icmp_ne (tgt := 100) hx hb dX5_addNeed_89 (by decide) (by omega) (by omega) (fun c_7 => ?_) (fun c_7 => ?_)
        · refine lv_aload_n hx hb dX5_addNeed_100 rfl (lv_at hl 2 rfl) ?_
          refine lv_iload hx hb dX5_addNeed_101 (lv_at hl 1 rfl) ?_
          refine lv_iconst (v := iI 2) hx hb dX5_addNeed_103 rfl ?_
          refine n_csi (x := m_of (ar 1) (t - 97) 2) (va_runV (As := [iv (t - 97), iv 2]) (rest := []) ⟨hx, hb, hml, hown, hts⟩ (mt_X5_of l E o (us (us sc 7 0) 8 (c_add (ar 1) t nd)) ar (t - 97) 2 (by omega)) (cwV 2 hts (lw_V q2120 q2122 qs49 q113 q2123) rfl rfl rfl (by decide +kernel) ⟨Nat.le_of_ble_eq_true rfl, Nat.le_of_ble_eq_true rfl⟩) (PW_V hP hK (va_recv hK.1 hP (ci := 0) (q0 := 0) rfl rfl)) rfl rfl hl.1 rfl (lv_room (Nat.le_of_ble_eq_true rfl)) dX5_addNeed_104 ⟨Nat.le_of_ble_eq_true rfl, Nat.le_of_ble_eq_true rfl⟩) ?_
          refine lv_istore (lv' := [(6, iv (m_of (ar 1) (t - 97) 2)), (5, iv (nd - 97)), (4, iv (t - 97)), (0, .ref (o 0)), (1, iv t), (2, iv nd), (3, iv (b2 z))]) hx hb dX5_addNeed_107 hl (by decide) rfl (fun ls hl => ?_)
          refine lv_aload_n hx hb dX5_addNeed_109 rfl (lv_at hl 3 rfl) ?_
          refine lv_iload hx hb dX5_addNeed_110 (lv_at hl 2 rfl) ?_
          refine lv_iconst (v := iI 3) hx hb dX5_addNeed_112 rfl ?_
          refine lv_iload hx hb dX5_addNeed_113 (lv_at hl 0 rfl) ?_
          refine n_iadd hx hb dX5_addNeed_115 ?_
          refine lv_iload hx hb dX5_addNeed_116 (lv_at hl 1 rfl) ?_
          have j_8 : W p l e (headSpec (ws_ yX5_addNeed cX5_addNeed 9 (some .int)) { frames := 5, cells := 0, slots := 0, locals := 116 }).room s m ([.ref (o 0), iv t, iv nd, iv (b2 z)] : List Value).toArray below meth c H locs 0 0 (MQ below (UQi E (rs_val 0 (A_add (ar 1) t nd z)) (MW E o (us (us (us (us (us (us sc 5 (rs_cw (sc 6) (sc 5) (A_add (ar 1) t nd z))) 7 (rs_ref (A_add (ar 1) t nd z))) 8 (rs_code 3 (A_add (ar 1) t nd z))) 9 (rs_why (sc 9) (A_add (ar 1) t nd z))) 10 (rs_det (sc 10) (A_add (ar 1) t nd z))) 11 (rs_cau (sc 11) (A_add (ar 1) t nd z))) (ua (ua ar 1 (rs_g (ar 1) (A_add (ar 1) t nd z))) 2 (rs_kw (sc 6) (ar 2) (ar 1) (sc 5) (A_add (ar 1) t nd z)))) A) ([.ref (o 0), iv t, iv nd, iv (b2 z)] : List Value).toArray s 0 0 A) (F0 m 128 ls [iv (c_if 8 z), iv (nd - 97), iv (3 + (m_of (ar 1) (t - 97) 2)), iv (t - 97), .ref (o 0)]) := by
            refine n_iadd hx hb dX5_addNeed_128 ?_
            have b_9 := c_if_r (k := 8) (by decide) z
            refine n_cuv (va_runV (As := [iv (t - 97), iv (3 + (m_of (ar 1) (t - 97) 2)), iv ((nd - 97) + (c_if 8 z))]) (rest := []) ⟨hx, hb, hml, hown, hts⟩ (mt_X5_lays l E o (us (us sc 7 0) 8 (c_add (ar 1) t nd)) ar (t - 97) (3 + (m_of (ar 1) (t - 97) 2)) ((nd - 97) + (c_if 8 z)) (by omega) _) (cwV 3 hts (lw_V q2135 q2137 qs52 q113 q2138) rfl rfl rfl (by decide +kernel) ⟨Nat.le_of_ble_eq_true rfl, Nat.le_of_ble_eq_true rfl⟩) (UW_V hP hK (hD) (va_recv hK.1 hP (ci := 0) (q0 := 0) rfl rfl)) rfl rfl hl.1 rfl (lv_room (Nat.le_of_ble_eq_true rfl)) dX5_addNeed_129 ⟨Nat.le_of_ble_eq_true rfl, Nat.le_of_ble_eq_true rfl⟩) hD hS hA (fun H locs hP hD hS => ?_)
            have hP : va_P E.1 CL (MW E o (us (us sc 7 0) 8 (c_add (ar 1) t nd)) (ua ar 1 (ui (ar 1) (5 + 7 * (t - 97) + (3 + (m_of (ar 1) (t - 97) 2))) ((nd - 97) + (c_if 8 z))))) H := hP
            have hD : va_D A (MW E o (us (us sc 7 0) 8 (c_add (ar 1) t nd)) (ua ar 1 (ui (ar 1) (5 + 7 * (t - 97) + (3 + (m_of (ar 1) (t - 97) 2))) ((nd - 97) + (c_if 8 z))))) := hD
            obtain ⟨a_10, ea_10⟩ : ∃ zz : Int → Int, zz = ui (ar 1) (5 + 7 * (t - 97) + (3 + (m_of (ar 1) (t - 97) 2))) ((nd - 97) + (c_if 8 z)) := ⟨_, rfl⟩
            rw [← ea_10] at hP hD
            have hBa_10 := ui_b (i := (5 + 7 * (t - 97) + (3 + (m_of (ar 1) (t - 97) 2)))) (v := ((nd - 97) + (c_if 8 z))) (hB 1) (by omega)
            rw [← ea_10] at hBa_10
            refine lv_aload_n hx hb dX5_addNeed_132 rfl (lv_at hl 3 rfl) ?_
            refine lv_iload hx hb dX5_addNeed_133 (lv_at hl 2 rfl) ?_
            refine lv_iconst (v := iI 2) hx hb dX5_addNeed_135 rfl ?_
            refine lv_iload hx hb dX5_addNeed_136 (lv_at hl 0 rfl) ?_
            refine lv_iconst (v := iI 1) hx hb dX5_addNeed_138 rfl ?_
            refine n_iadd hx hb dX5_addNeed_139 ?_
            refine n_cuv (va_runV (As := [iv (t - 97), iv 2, iv ((m_of (ar 1) (t - 97) 2) + 1)]) (rest := []) ⟨hx, hb, hml, hown, hts⟩ (mt_X5_lays l E o (us (us sc 7 0) 8 (c_add (ar 1) t nd)) (ua ar 1 a_10) (t - 97) 2 ((m_of (ar 1) (t - 97) 2) + 1) (by omega) _) (cwV 3 hts (lw_V q2135 q2137 qs52 q113 q2138) rfl rfl rfl (by decide +kernel) ⟨Nat.le_of_ble_eq_true rfl, Nat.le_of_ble_eq_true rfl⟩) (UW_V hP hK (hD) (va_recv hK.1 hP (ci := 0) (q0 := 0) rfl rfl)) rfl rfl hl.1 rfl (lv_room (Nat.le_of_ble_eq_true rfl)) dX5_addNeed_140 ⟨Nat.le_of_ble_eq_true rfl, Nat.le_of_ble_eq_true rfl⟩) hD hS hA (fun H locs hP hD hS => ?_)
            have hP : va_P E.1 CL (MW E o (us (us sc 7 0) 8 (c_add (ar 1) t nd)) (ua ar 1 (ui a_10 (5 + 7 * (t - 97) + 2) ((m_of (ar 1) (t - 97) 2) + 1)))) H := hP
            have hD : va_D A (MW E o (us (us sc 7 0) 8 (c_add (ar 1) t nd)) (ua ar 1 (ui a_10 (5 + 7 * (t - 97) + 2) ((m_of (ar 1) (t - 97) 2) + 1)))) := hD
            obtain ⟨a_11, ea_11⟩ : ∃ zz : Int → Int, zz = ui a_10 (5 + 7 * (t - 97) + 2) ((m_of (ar 1) (t - 97) 2) + 1) := ⟨_, rfl⟩
            rw [← ea_11] at hP hD
            have hBa_11 := ui_b (i := (5 + 7 * (t - 97) + 2)) (v := ((m_of (ar 1) (t - 97) 2) + 1)) hBa_10 (by omega)
            rw [← ea_11] at hBa_11
            have hsa : a_11 = s_add (ar 1) (t - 97) (nd - 97) z := by subst_vars; rfl
            have htw2 : TW a_11 := by rw [hsa]; exact s_add_tw htw (by omega)
            have hsw2 : SwOK a_11 := by rw [hsa]; exact s_add_sw hsw (by omega)
            have j_12 : W p l e (headSpec (ws_ yX5_addNeed cX5_addNeed 9 (some .int)) { frames := 5, cells := 0, slots := 0, locals := 116 }).room s m ([.ref (o 0), iv t, iv nd, iv (b2 z)] : List Value).toArray below meth c H locs 0 0 (MQ below (UQi E (rs_val 0 (A_add (ar 1) t nd z)) (MW E o (us (us (us (us (us (us sc 5 (rs_cw (sc 6) (sc 5) (A_add (ar 1) t nd z))) 7 (rs_ref (A_add (ar 1) t nd z))) 8 (rs_code 3 (A_add (ar 1) t nd z))) 9 (rs_why (sc 9) (A_add (ar 1) t nd z))) 10 (rs_det (sc 10) (A_add (ar 1) t nd z))) 11 (rs_cau (sc 11) (A_add (ar 1) t nd z))) (ua (ua ar 1 (rs_g (ar 1) (A_add (ar 1) t nd z))) 2 (rs_kw (sc 6) (ar 2) (ar 1) (sc 5) (A_add (ar 1) t nd z)))) A) ([.ref (o 0), iv t, iv nd, iv (b2 z)] : List Value).toArray s 0 0 A) (F0 m 155 ls [iv (c_cir (s_add (ar 1) (t - 97) (nd - 97) z) z)]) := by
              refine lv_istore (lv' := [(7, iv (c_cir (s_add (ar 1) (t - 97) (nd - 97) z) z)), (6, iv (m_of (ar 1) (t - 97) 2)), (5, iv (nd - 97)), (4, iv (t - 97)), (0, .ref (o 0)), (1, iv t), (2, iv nd), (3, iv (b2 z))]) hx hb dX5_addNeed_155 hl (by decide) rfl (fun ls hl => ?_)
              refine lv_aload_n hx hb dX5_addNeed_157 rfl (lv_at hl 4 rfl) ?_
              refine lv_iload hx hb dX5_addNeed_158 (lv_at hl 3 rfl) ?_
              refine lv_iconst (v := iI 3) hx hb dX5_addNeed_160 rfl ?_
              refine lv_iload hx hb dX5_addNeed_161 (lv_at hl 1 rfl) ?_
              refine n_iadd hx hb dX5_addNeed_163 ?_
              refine n_csi (x := m_of a_11 (t - 97) (3 + (m_of (ar 1) (t - 97) 2))) (va_runV (As := [iv (t - 97), iv (3 + (m_of (ar 1) (t - 97) 2))]) (rest := []) ⟨hx, hb, hml, hown, hts⟩ (mt_X5_of l E o (us (us sc 7 0) 8 (c_add (ar 1) t nd)) (ua ar 1 a_11) (t - 97) (3 + (m_of (ar 1) (t - 97) 2)) (by omega)) (cwV 2 hts (lw_V q2120 q2122 qs49 q113 q2123) rfl rfl rfl (by decide +kernel) ⟨Nat.le_of_ble_eq_true rfl, Nat.le_of_ble_eq_true rfl⟩) (PW_V hP hK (va_recv hK.1 hP (ci := 0) (q0 := 0) rfl rfl)) rfl rfl hl.1 rfl (lv_room (Nat.le_of_ble_eq_true rfl)) dX5_addNeed_164 ⟨Nat.le_of_ble_eq_true rfl, Nat.le_of_ble_eq_true rfl⟩) ?_
              have hnow : m_of a_11 (t - 97) (3 + (m_of (ar 1) (t - 97) 2)) = nd - 97 + c_if 8 z := by rw [hsa]; exact s_add_at (by omega)
              refine lv_istore (lv' := [(8, iv (m_of a_11 (t - 97) (3 + (m_of (ar 1) (t - 97) 2)))), (7, iv (c_cir (s_add (ar 1) (t - 97) (nd - 97) z) z)), (6, iv (m_of (ar 1) (t - 97) 2)), (5, iv (nd - 97)), (4, iv (t - 97)), (0, .ref (o 0)), (1, iv t), (2, iv nd), (3, iv (b2 z))]) hx hb dX5_addNeed_167 hl (by decide) rfl (fun ls hl => ?_)
              refine lv_aload_n hx hb dX5_addNeed_169 rfl (lv_at hl 5 rfl) ?_
              refine lv_iload hx hb dX5_addNeed_170 (lv_at hl 4 rfl) ?_
              refine lv_iconst (v := iI 2) hx hb dX5_addNeed_172 rfl ?_
              refine lv_iload hx hb dX5_addNeed_173 (lv_at hl 2 rfl) ?_
              refine n_cuv (va_runV (As := [iv (t - 97), iv 2, iv (m_of (ar 1) (t - 97) 2)]) (rest := []) ⟨hx, hb, hml, hown, hts⟩ (mt_X5_lays l E o (us (us sc 7 0) 8 (c_add (ar 1) t nd)) (ua ar 1 a_11) (t - 97) 2 (m_of (ar 1) (t - 97) 2) (by omega) _) (cwV 3 hts (lw_V q2135 q2137 qs52 q113 q2138) rfl rfl rfl (by decide +kernel) ⟨Nat.le_of_ble_eq_true rfl, Nat.le_of_ble_eq_true rfl⟩) (UW_V hP hK (hD) (va_recv hK.1 hP (ci := 0) (q0 := 0) rfl rfl)) rfl rfl hl.1 rfl (lv_room (Nat.le_of_ble_eq_true rfl)) dX5_addNeed_175 ⟨Nat.le_of_ble_eq_true rfl, Nat.le_of_ble_eq_true rfl⟩) hD hS hA (fun H locs hP hD hS => ?_)
              have hP : va_P E.1 CL (MW E o (us (us sc 7 0) 8 (c_add (ar 1) t nd)) (ua ar 1 (ui a_11 (5 + 7 * (t - 97) + 2) (m_of (ar 1) (t - 97) 2)))) H := hP
              have hD : va_D A (MW E o (us (us sc 7 0) 8 (c_add (ar 1) t nd)) (ua ar 1 (ui a_11 (5 + 7 * (t - 97) + 2) (m_of (ar 1) (t - 97) 2)))) := hD
              obtain ⟨a_13, ea_13⟩ : ∃ zz : Int → Int, zz = ui a_11 (5 + 7 * (t - 97) + 2) (m_of (ar 1) (t - 97) 2) := ⟨_, rfl⟩
              rw [← ea_13] at hP hD
              have hBa_13 := ui_b (i := (5 + 7 * (t - 97) + 2)) (v := (m_of (ar 1) (t - 97) 2)) hBa_11 (by omega)
              rw [← ea_13] at hBa_13
              refine lv_aload_n hx hb dX5_addNeed_178 rfl (lv_at hl 5 rfl) ?_
              refine lv_iload hx hb dX5_addNeed_179 (lv_at hl 4 rfl) ?_
              refine lv_iconst (v := iI 3) hx hb dX5_addNeed_181 rfl ?_
              refine lv_iload hx hb dX5_addNeed_182 (lv_at hl 2 rfl) ?_
              refine n_iadd hx hb dX5_addNeed_184 ?_
              refine lv_iconst (v := iI 0) hx hb dX5_addNeed_185 rfl ?_
              refine n_cuv (va_runV (As := [iv (t - 97), iv (3 + (m_of (ar 1) (t - 97) 2)), iv 0]) (rest := []) ⟨hx, hb, hml, hown, hts⟩ (mt_X5_lays l E o (us (us sc 7 0) 8 (c_add (ar 1) t nd)) (ua ar 1 a_13) (t - 97) (3 + (m_of (ar 1) (t - 97) 2)) 0 (by omega) _) (cwV 3 hts (lw_V q2135 q2137 qs52 q113 q2138) rfl rfl rfl (by decide +kernel) ⟨Nat.le_of_ble_eq_true rfl, Nat.le_of_ble_eq_true rfl⟩) (UW_V hP hK (hD) (va_recv hK.1 hP (ci := 0) (q0 := 0) rfl rfl)) rfl rfl hl.1 rfl (lv_room (Nat.le_of_ble_eq_true rfl)) dX5_addNeed_186 ⟨Nat.le_of_ble_eq_true rfl, Nat.le_of_ble_eq_true rfl⟩) hD hS hA (fun H locs hP hD hS => ?_)
              have hP : va_P E.1 CL (MW E o (us (us sc 7 0) 8 (c_add (ar 1) t nd)) (ua ar 1 (ui a_13 (5 + 7 * (t - 97) + (3 + (m_of (ar 1) (t - 97) 2))) 0))) H := hP
              have hD : va_D A (MW E o (us (us sc 7 0) 8 (c_add (ar 1) t nd)) (ua ar 1 (ui a_13 (5 + 7 * (t - 97) + (3 + (m_of (ar 1) (t - 97) 2))) 0))) := hD
              obtain ⟨a_14, ea_14⟩ : ∃ zz : Int → Int, zz = ui a_13 (5 + 7 * (t - 97) + (3 + (m_of (ar 1) (t - 97) 2))) 0 := ⟨_, rfl⟩
              rw [← ea_14] at hP hD
              have hBa_14 := ui_b (i := (5 + 7 * (t - 97) + (3 + (m_of (ar 1) (t - 97) 2)))) (v := 0) hBa_13 (by omega)
              rw [← ea_14] at hBa_14
              have hrs : a_14 = ar 1 := m_restore (g1 := a_11) (t := t - 97) (k := m_of (ar 1) (t - 97) 2) (v := nd - 97 + c_if 8 z) (w := m_of (ar 1) (t - 97) 2 + 1) (hzn _ _ (by omega) (by omega) (by omega) (by omega)) rfl (by subst_vars; rfl) (by subst_vars; rfl)
              rw [hrs] at hP hD
              refine lv_iload hx hb dX5_addNeed_189 (lv_at hl 1 rfl) ?_
              have b_15 := c_cir_r (s_add (ar 1) (t - 97) (nd - 97) z) z
              refine n_if_le (tgt := 203) hx hb dX5_addNeed_191 (by decide) (by omega) (fun c_16 => ?_) (fun c_16 => ?_)
              · refine lv_aload_n hx hb dX5_addNeed_203 rfl (lv_at hl 5 rfl) ?_
                refine lv_aload_n hx hb dX5_addNeed_204 rfl (lv_at hl 5 rfl) ?_
                refine va_get (D := E.1) (ci := 0) (v := .ref (o 1)) (C := RX5) (T := TX5) (N := 23) hx hb hts in_X5 hown hK.1 hP 0 rfl rfl 0 (by decide) (hts _ q2029) (fun _ h9 => h9) rfl dX5_addNeed_205 ?_
                refine n_cuv (va_runV (As := [.ref (o 1)]) (rest := []) ⟨hx, hb, hml, hown, hts⟩ (mt_X5_keeps1 l E o (us (us sc 7 0) 8 (c_add (ar 1) t nd)) (ua ar 1 (ar 1))  (by first | omega | exact hch) (by first | omega | exact hwi) _) (cwV 1 hts (lw_V q2128 q2130 qs51 q113 q2131) rfl rfl rfl (by decide +kernel) ⟨Nat.le_of_ble_eq_true rfl, Nat.le_of_ble_eq_true rfl⟩) (UW_V hP hK (hD) (va_recv hK.1 hP (ci := 0) (q0 := 0) rfl rfl)) rfl rfl hl.1 rfl (lv_room (Nat.le_of_ble_eq_true rfl)) dX5_addNeed_208 ⟨Nat.le_of_ble_eq_true rfl, Nat.le_of_ble_eq_true rfl⟩) hD hS hA (fun H locs hP hD hS => ?_)
                have hP : va_P E.1 CL (MW E o (us (us (us sc 5 (k_cw (sc 6) (sc 5))) 7 0) 8 0) (ua (ua ar 1 (ar 1)) 2 (k_kw (sc 6) (ar 2) (ar 1) (sc 5)))) H := hP
                have hD : va_D A (MW E o (us (us (us sc 5 (k_cw (sc 6) (sc 5))) 7 0) 8 0) (ua (ua ar 1 (ar 1)) 2 (k_kw (sc 6) (ar 2) (ar 1) (sc 5)))) := hD
                obtain ⟨a_17, ea_17⟩ : ∃ zz : Int → Int, zz = k_kw (sc 6) (ar 2) (ar 1) (sc 5) := ⟨_, rfl⟩
                rw [← ea_17] at hP hD
                have hBa_17 := k_kw_b (w := (sc 6)) (c := (sc 5)) (hB 2) (hB 1)
                rw [← ea_17] at hBa_17
                refine lv_aload_n hx hb dX5_addNeed_211 rfl (lv_at hl 5 rfl) ?_
                refine lv_iload hx hb dX5_addNeed_212 (lv_at hl 4 rfl) ?_
                refine lv_iconst (v := iI 3) hx hb dX5_addNeed_214 rfl ?_
                refine lv_iload hx hb dX5_addNeed_215 (lv_at hl 2 rfl) ?_
                refine n_iadd hx hb dX5_addNeed_217 ?_
                refine lv_iload hx hb dX5_addNeed_218 (lv_at hl 0 rfl) ?_
                have b_18 := (show 0 ≤ m_of a_11 (t - 97) (3 + (m_of (ar 1) (t - 97) 2)) ∧ m_of a_11 (t - 97) (3 + (m_of (ar 1) (t - 97) 2)) < 2147483648 from hBa_11 _)
                refine n_cuv (va_runV (As := [iv (t - 97), iv (3 + (m_of (ar 1) (t - 97) 2)), iv (m_of a_11 (t - 97) (3 + (m_of (ar 1) (t - 97) 2)))]) (rest := []) ⟨hx, hb, hml, hown, hts⟩ (mt_X5_lays l E o (us (us (us sc 5 (k_cw (sc 6) (sc 5))) 7 0) 8 0) (ua (ua ar 1 (ar 1)) 2 a_17) (t - 97) (3 + (m_of (ar 1) (t - 97) 2)) (m_of a_11 (t - 97) (3 + (m_of (ar 1) (t - 97) 2))) (by omega) _) (cwV 3 hts (lw_V q2135 q2137 qs52 q113 q2138) rfl rfl rfl (by decide +kernel) ⟨Nat.le_of_ble_eq_true rfl, Nat.le_of_ble_eq_true rfl⟩) (UW_V hP hK (hD) (va_recv hK.1 hP (ci := 0) (q0 := 0) rfl rfl)) rfl rfl hl.1 rfl (lv_room (Nat.le_of_ble_eq_true rfl)) dX5_addNeed_220 ⟨Nat.le_of_ble_eq_true rfl, Nat.le_of_ble_eq_true rfl⟩) hD hS hA (fun H locs hP hD hS => ?_)
                have hP : va_P E.1 CL (MW E o (us (us (us sc 5 (k_cw (sc 6) (sc 5))) 7 0) 8 0) (ua (ua ar 1 (ui (ar 1) (5 + 7 * (t - 97) + (3 + (m_of (ar 1) (t - 97) 2))) (m_of a_11 (t - 97) (3 + (m_of (ar 1) (t - 97) 2))))) 2 a_17)) H := hP
                have hD : va_D A (MW E o (us (us (us sc 5 (k_cw (sc 6) (sc 5))) 7 0) 8 0) (ua (ua ar 1 (ui (ar 1) (5 + 7 * (t - 97) + (3 + (m_of (ar 1) (t - 97) 2))) (m_of a_11 (t - 97) (3 + (m_of (ar 1) (t - 97) 2))))) 2 a_17)) := hD
                obtain ⟨a_19, ea_19⟩ : ∃ zz : Int → Int, zz = ui (ar 1) (5 + 7 * (t - 97) + (3 + (m_of (ar 1) (t - 97) 2))) (m_of a_11 (t - 97) (3 + (m_of (ar 1) (t - 97) 2))) := ⟨_, rfl⟩
                rw [← ea_19] at hP hD
                have hBa_19 := ui_b (i := (5 + 7 * (t - 97) + (3 + (m_of (ar 1) (t - 97) 2)))) (v := (m_of a_11 (t - 97) (3 + (m_of (ar 1) (t - 97) 2)))) (hB 1) (by omega)
                rw [← ea_19] at hBa_19
                refine lv_aload_n hx hb dX5_addNeed_223 rfl (lv_at hl 5 rfl) ?_
                refine lv_iload hx hb dX5_addNeed_224 (lv_at hl 4 rfl) ?_
                refine lv_iconst (v := iI 2) hx hb dX5_addNeed_226 rfl ?_
                refine lv_iload hx hb dX5_addNeed_227 (lv_at hl 2 rfl) ?_
                refine lv_iconst (v := iI 1) hx hb dX5_addNeed_229 rfl ?_
                refine n_iadd hx hb dX5_addNeed_230 ?_
                refine n_cuv (va_runV (As := [iv (t - 97), iv 2, iv ((m_of (ar 1) (t - 97) 2) + 1)]) (rest := []) ⟨hx, hb, hml, hown, hts⟩ (mt_X5_lays l E o (us (us (us sc 5 (k_cw (sc 6) (sc 5))) 7 0) 8 0) (ua (ua ar 1 a_19) 2 a_17) (t - 97) 2 ((m_of (ar 1) (t - 97) 2) + 1) (by omega) _) (cwV 3 hts (lw_V q2135 q2137 qs52 q113 q2138) rfl rfl rfl (by decide +kernel) ⟨Nat.le_of_ble_eq_true rfl, Nat.le_of_ble_eq_true rfl⟩) (UW_V hP hK (hD) (va_recv hK.1 hP (ci := 0) (q0 := 0) rfl rfl)) rfl rfl hl.1 rfl (lv_room (Nat.le_of_ble_eq_true rfl)) dX5_addNeed_231 ⟨Nat.le_of_ble_eq_true rfl, Nat.le_of_ble_eq_true rfl⟩) hD hS hA (fun H locs hP hD hS => ?_)
                have hP : va_P E.1 CL (MW E o (us (us (us sc 5 (k_cw (sc 6) (sc 5))) 7 0) 8 0) (ua (ua ar 1 (ui a_19 (5 + 7 * (t - 97) + 2) ((m_of (ar 1) (t - 97) 2) + 1))) 2 a_17)) H := hP
                have hD : va_D A (MW E o (us (us (us sc 5 (k_cw (sc 6) (sc 5))) 7 0) 8 0) (ua (ua ar 1 (ui a_19 (5 + 7 * (t - 97) + 2) ((m_of (ar 1) (t - 97) 2) + 1))) 2 a_17)) := hD
                obtain ⟨a_20, ea_20⟩ : ∃ zz : Int → Int, zz = ui a_19 (5 + 7 * (t - 97) + 2) ((m_of (ar 1) (t - 97) 2) + 1) := ⟨_, rfl⟩
                rw [← ea_20] at hP hD
                have hBa_20 := ui_b (i := (5 + 7 * (t - 97) + 2)) (v := ((m_of (ar 1) (t - 97) 2) + 1)) hBa_19 (by omega)
                rw [← ea_20] at hBa_20
                have hfn : a_20 = s_add (ar 1) (t - 97) (nd - 97) z := by
                  rw [ea_20, show a_19 = _ from ea_19, hnow]
                  rfl
                refine lv_iload hx hb dX5_addNeed_234 (lv_at hl 2 rfl) ?_
                have hA : A_add (ar 1) t nd z = .inr (.inr (m_of (ar 1) (t - 97) 2, a_20)) := by
                  rw [hfn]
                  unfold A_add
                  rw [if_neg hnz, if_neg (by omega), if_neg (by omega), if_neg (by omega)]
                have hfin : m_of (ar 1) (t - 97) 2 = rs_val 0 (A_add (ar 1) t nd z) := by
                  first | (rw [hA]; done) | (rw [hA]; rfl)
                have w_21 : k_cw (sc 6) (sc 5) = rs_cw (sc 6) (sc 5) (A_add (ar 1) t nd z) := by
                  first | (rw [hA]; done) | (rw [hA]; rfl) | (rw [hA]; exact if_pos hden) | (rw [hA]; exact if_neg hden) | (rw [hA]; exact rfl) | (rw [hA]; exact rfl)
                rw [show (us (us (us sc 5 (k_cw (sc 6) (sc 5))) 7 0) 8 0) = (us (us (us sc 5 (rs_cw (sc 6) (sc 5) (A_add (ar 1) t nd z))) 7 0) 8 0) from congrArg (fun z0 : Int => (us (us (us sc 5 z0) 7 0) 8 0)) w_21] at hP hD
                have w_22 : 0 = rs_ref (A_add (ar 1) t nd z) := by
                  first | (rw [hA]; done) | (rw [hA]; rfl) | (rw [hA]; exact if_pos hden) | (rw [hA]; exact if_neg hden) | (rw [hA]; exact rfl) | (rw [hA]; exact rfl)
                rw [show (us (us (us sc 5 (rs_cw (sc 6) (sc 5) (A_add (ar 1) t nd z))) 7 0) 8 0) = (us (us (us sc 5 (rs_cw (sc 6) (sc 5) (A_add (ar 1) t nd z))) 7 (rs_ref (A_add (ar 1) t nd z))) 8 0) from congrArg (fun z0 : Int => (us (us (us sc 5 (rs_cw (sc 6) (sc 5) (A_add (ar 1) t nd z))) 7 z0) 8 0)) w_22] at hP hD
                have w_23 : 0 = rs_code 3 (A_add (ar 1) t nd z) := by
                  first | (rw [hA]; done) | (rw [hA]; rfl) | (rw [hA]; exact if_pos hden) | (rw [hA]; exact if_neg hden) | (rw [hA]; exact rfl) | (rw [hA]; exact rfl)
                rw [show (us (us (us sc 5 (rs_cw (sc 6) (sc 5) (A_add (ar 1) t nd z))) 7 (rs_ref (A_add (ar 1) t nd z))) 8 0) = (us (us (us sc 5 (rs_cw (sc 6) (sc 5) (A_add (ar 1) t nd z))) 7 (rs_ref (A_add (ar 1) t nd z))) 8 (rs_code 3 (A_add (ar 1) t nd z))) from congrArg (fun z0 : Int => (us (us (us sc 5 (rs_cw (sc 6) (sc 5) (A_add (ar 1) t nd z))) 7 (rs_ref (A_add (ar 1) t nd z))) 8 z0)) w_23] at hP hD
                have hP : va_P E.1 CL (MW E o (us (us (us (us sc 5 (rs_cw (sc 6) (sc 5) (A_add (ar 1) t nd z))) 7 (rs_ref (A_add (ar 1) t nd z))) 8 (rs_code 3 (A_add (ar 1) t nd z))) 9 (sc 9)) (ua (ua ar 1 a_20) 2 a_17)) H := hP
                have hD : va_D A (MW E o (us (us (us (us sc 5 (rs_cw (sc 6) (sc 5) (A_add (ar 1) t nd z))) 7 (rs_ref (A_add (ar 1) t nd z))) 8 (rs_code 3 (A_add (ar 1) t nd z))) 9 (sc 9)) (ua (ua ar 1 a_20) 2 a_17)) := hD
                have w_24 : sc 9 = rs_why (sc 9) (A_add (ar 1) t nd z) := by
                  first | (rw [hA]; done) | (rw [hA]; rfl) | (rw [hA]; exact if_pos hden) | (rw [hA]; exact if_neg hden) | (rw [hA]; exact rfl) | (rw [hA]; exact rfl)
                rw [show (us (us (us (us sc 5 (rs_cw (sc 6) (sc 5) (A_add (ar 1) t nd z))) 7 (rs_ref (A_add (ar 1) t nd z))) 8 (rs_code 3 (A_add (ar 1) t nd z))) 9 (sc 9)) = (us (us (us (us sc 5 (rs_cw (sc 6) (sc 5) (A_add (ar 1) t nd z))) 7 (rs_ref (A_add (ar 1) t nd z))) 8 (rs_code 3 (A_add (ar 1) t nd z))) 9 (rs_why (sc 9) (A_add (ar 1) t nd z))) from congrArg (fun z0 : Int => (us (us (us (us sc 5 (rs_cw (sc 6) (sc 5) (A_add (ar 1) t nd z))) 7 (rs_ref (A_add (ar 1) t nd z))) 8 (rs_code 3 (A_add (ar 1) t nd z))) 9 z0)) w_24] at hP hD
                have hP : va_P E.1 CL (MW E o (us (us (us (us (us sc 5 (rs_cw (sc 6) (sc 5) (A_add (ar 1) t nd z))) 7 (rs_ref (A_add (ar 1) t nd z))) 8 (rs_code 3 (A_add (ar 1) t nd z))) 9 (rs_why (sc 9) (A_add (ar 1) t nd z))) 10 (sc 10)) (ua (ua ar 1 a_20) 2 a_17)) H := hP
                have hD : va_D A (MW E o (us (us (us (us (us sc 5 (rs_cw (sc 6) (sc 5) (A_add (ar 1) t nd z))) 7 (rs_ref (A_add (ar 1) t nd z))) 8 (rs_code 3 (A_add (ar 1) t nd z))) 9 (rs_why (sc 9) (A_add (ar 1) t nd z))) 10 (sc 10)) (ua (ua ar 1 a_20) 2 a_17)) := hD
                have w_25 : sc 10 = rs_det (sc 10) (A_add (ar 1) t nd z) := by
                  first | (rw [hA]; done) | (rw [hA]; rfl) | (rw [hA]; exact if_pos hden) | (rw [hA]; exact if_neg hden) | (rw [hA]; exact rfl) | (rw [hA]; exact rfl)
                rw [show (us (us (us (us (us sc 5 (rs_cw (sc 6) (sc 5) (A_add (ar 1) t nd z))) 7 (rs_ref (A_add (ar 1) t nd z))) 8 (rs_code 3 (A_add (ar 1) t nd z))) 9 (rs_why (sc 9) (A_add (ar 1) t nd z))) 10 (sc 10)) = (us (us (us (us (us sc 5 (rs_cw (sc 6) (sc 5) (A_add (ar 1) t nd z))) 7 (rs_ref (A_add (ar 1) t nd z))) 8 (rs_code 3 (A_add (ar 1) t nd z))) 9 (rs_why (sc 9) (A_add (ar 1) t nd z))) 10 (rs_det (sc 10) (A_add (ar 1) t nd z))) from congrArg (fun z0 : Int => (us (us (us (us (us sc 5 (rs_cw (sc 6) (sc 5) (A_add (ar 1) t nd z))) 7 (rs_ref (A_add (ar 1) t nd z))) 8 (rs_code 3 (A_add (ar 1) t nd z))) 9 (rs_why (sc 9) (A_add (ar 1) t nd z))) 10 z0)) w_25] at hP hD
                have hP : va_P E.1 CL (MW E o (us (us (us (us (us (us sc 5 (rs_cw (sc 6) (sc 5) (A_add (ar 1) t nd z))) 7 (rs_ref (A_add (ar 1) t nd z))) 8 (rs_code 3 (A_add (ar 1) t nd z))) 9 (rs_why (sc 9) (A_add (ar 1) t nd z))) 10 (rs_det (sc 10) (A_add (ar 1) t nd z))) 11 (sc 11)) (ua (ua ar 1 a_20) 2 a_17)) H := hP
                have hD : va_D A (MW E o (us (us (us (us (us (us sc 5 (rs_cw (sc 6) (sc 5) (A_add (ar 1) t nd z))) 7 (rs_ref (A_add (ar 1) t nd z))) 8 (rs_code 3 (A_add (ar 1) t nd z))) 9 (rs_why (sc 9) (A_add (ar 1) t nd z))) 10 (rs_det (sc 10) (A_add (ar 1) t nd z))) 11 (sc 11)) (ua (ua ar 1 a_20) 2 a_17)) := hD
                have w_26 : sc 11 = rs_cau (sc 11) (A_add (ar 1) t nd z) := by
                  first | (rw [hA]; done) | (rw [hA]; rfl) | (rw [hA]; exact if_pos hden) | (rw [hA]; exact if_neg hden) | (rw [hA]; exact rfl) | (rw [hA]; exact rfl)
                rw [show (us (us (us (us (us (us sc 5 (rs_cw (sc 6) (sc 5) (A_add (ar 1) t nd z))) 7 (rs_ref (A_add (ar 1) t nd z))) 8 (rs_code 3 (A_add (ar 1) t nd z))) 9 (rs_why (sc 9) (A_add (ar 1) t nd z))) 10 (rs_det (sc 10) (A_add (ar 1) t nd z))) 11 (sc 11)) = (us (us (us (us (us (us sc 5 (rs_cw (sc 6) (sc 5) (A_add (ar 1) t nd z))) 7 (rs_ref (A_add (ar 1) t nd z))) 8 (rs_code 3 (A_add (ar 1) t nd z))) 9 (rs_why (sc 9) (A_add (ar 1) t nd z))) 10 (rs_det (sc 10) (A_add (ar 1) t nd z))) 11 (rs_cau (sc 11) (A_add (ar 1) t nd z))) from congrArg (fun z0 : Int => (us (us (us (us (us (us sc 5 (rs_cw (sc 6) (sc 5) (A_add (ar 1) t nd z))) 7 (rs_ref (A_add (ar 1) t nd z))) 8 (rs_code 3 (A_add (ar 1) t nd z))) 9 (rs_why (sc 9) (A_add (ar 1) t nd z))) 10 (rs_det (sc 10) (A_add (ar 1) t nd z))) 11 z0)) w_26] at hP hD
                have w_27 : a_20 = rs_g (ar 1) (A_add (ar 1) t nd z) := by
                  first | (rw [hA]; done) | (rw [hA]; rfl) | (rw [hA]; exact if_pos hden) | (rw [hA]; exact if_neg hden) | (rw [hA]; exact rfl) | (rw [hA]; exact rfl)
                rw [show (ua (ua ar 1 a_20) 2 a_17) = (ua (ua ar 1 (rs_g (ar 1) (A_add (ar 1) t nd z))) 2 a_17) from congrArg (fun z0 : Int → Int => (ua (ua ar 1 z0) 2 a_17)) w_27] at hP hD
                have w_28 : a_17 = rs_kw (sc 6) (ar 2) (ar 1) (sc 5) (A_add (ar 1) t nd z) := by
                  rw [hA]
                  first | rfl | exact ea_17
                rw [show (ua (ua ar 1 (rs_g (ar 1) (A_add (ar 1) t nd z))) 2 a_17) = (ua (ua ar 1 (rs_g (ar 1) (A_add (ar 1) t nd z))) 2 (rs_kw (sc 6) (ar 2) (ar 1) (sc 5) (A_add (ar 1) t nd z))) from congrArg (fun z0 : Int → Int => (ua (ua ar 1 (rs_g (ar 1) (A_add (ar 1) t nd z))) 2 z0)) w_28] at hP hD
                exact W.iret (v := iI (m_of (ar 1) (t - 97) 2)) hx hb hr (fun tt_ ht_ hW_ => ⟨⟨iI (m_of (ar 1) (t - 97) 2), (), rfl, (congrArg iI hfin), by rw [ht_]; exact hP, hD⟩, hS.F ht_⟩) hS.2.2 dX5_addNeed_236
              · refine lv_aload_n hx hb dX5_addNeed_194 rfl (lv_at hl 5 rfl) ?_
                refine lv_iconst (v := iI 3) hx hb dX5_addNeed_195 rfl ?_
                refine lv_iconst (v := iI 3) hx hb dX5_addNeed_196 rfl ?_
                refine lv_iload hx hb dX5_addNeed_197 (lv_at hl 1 rfl) ?_
                refine n_cui (x := 0) (va_runV (As := [iv 3, iv 3, iv (c_cir (s_add (ar 1) (t - 97) (nd - 97) z) z)]) (rest := []) ⟨hx, hb, hml, hown, hts⟩ (mt_X5_refuses l E o (us (us sc 7 0) 8 (c_add (ar 1) t nd)) (ua ar 1 (ar 1)) 3 3 (c_cir (s_add (ar 1) (t - 97) (nd - 97) z) z) _) (cwV 3 hts (lw_V q2171 q2173 qs59 q113 q2174) rfl rfl rfl (by decide +kernel) ⟨Nat.le_of_ble_eq_true rfl, Nat.le_of_ble_eq_true rfl⟩) (UW_V hP hK (hD) (va_recv hK.1 hP (ci := 0) (q0 := 0) rfl rfl)) rfl rfl hl.1 rfl (lv_room (Nat.le_of_ble_eq_true rfl)) dX5_addNeed_199 ⟨Nat.le_of_ble_eq_true rfl, Nat.le_of_ble_eq_true rfl⟩) hD hS hA (fun H locs hP hD hS => ?_)
                have hP : va_P E.1 CL (MW E o (us (us (us (us (us sc 7 1) 8 3) 9 3) 10 (c_cir (s_add (ar 1) (t - 97) (nd - 97) z) z)) 11 0) (ua ar 1 (ar 1))) H := hP
                have hD : va_D A (MW E o (us (us (us (us (us sc 7 1) 8 3) 9 3) 10 (c_cir (s_add (ar 1) (t - 97) (nd - 97) z) z)) 11 0) (ua ar 1 (ar 1))) := hD
                have hA : A_add (ar 1) t nd z = .inr (.inl (3, (c_cir (s_add (ar 1) (t - 97) (nd - 97) z) z))) := by
                  unfold A_add
                  rw [if_neg hnz, if_neg (by omega), if_neg (by omega), if_pos (by assumption)]
                have hfin : 0 = rs_val 0 (A_add (ar 1) t nd z) := by
                  first | (rw [hA]; done) | (rw [hA]; rfl)
                have hP : va_P E.1 CL (MW E o (us (us (us (us (us (us sc 5 (sc 5)) 7 1) 8 3) 9 3) 10 (c_cir (s_add (ar 1) (t - 97) (nd - 97) z) z)) 11 0) (ua ar 1 (ar 1))) H := hP
                have hD : va_D A (MW E o (us (us (us (us (us (us sc 5 (sc 5)) 7 1) 8 3) 9 3) 10 (c_cir (s_add (ar 1) (t - 97) (nd - 97) z) z)) 11 0) (ua ar 1 (ar 1))) := hD
                have w_29 : sc 5 = rs_cw (sc 6) (sc 5) (A_add (ar 1) t nd z) := by
                  first | (rw [hA]; done) | (rw [hA]; rfl) | (rw [hA]; exact if_pos hden) | (rw [hA]; exact if_neg hden) | (rw [hA]; exact rfl) | (rw [hA]; exact rfl)
                rw [show (us (us (us (us (us (us sc 5 (sc 5)) 7 1) 8 3) 9 3) 10 (c_cir (s_add (ar 1) (t - 97) (nd - 97) z) z)) 11 0) = (us (us (us (us (us (us sc 5 (rs_cw (sc 6) (sc 5) (A_add (ar 1) t nd z))) 7 1) 8 3) 9 3) 10 (c_cir (s_add (ar 1) (t - 97) (nd - 97) z) z)) 11 0) from congrArg (fun z0 : Int => (us (us (us (us (us (us sc 5 z0) 7 1) 8 3) 9 3) 10 (c_cir (s_add (ar 1) (t - 97) (nd - 97) z) z)) 11 0)) w_29] at hP hD
                have w_30 : 1 = rs_ref (A_add (ar 1) t nd z) := by
                  first | (rw [hA]; done) | (rw [hA]; rfl) | (rw [hA]; exact if_pos hden) | (rw [hA]; exact if_neg hden) | (rw [hA]; exact rfl) | (rw [hA]; exact rfl)
                rw [show (us (us (us (us (us (us sc 5 (rs_cw (sc 6) (sc 5) (A_add (ar 1) t nd z))) 7 1) 8 3) 9 3) 10 (c_cir (s_add (ar 1) (t - 97) (nd - 97) z) z)) 11 0) = (us (us (us (us (us (us sc 5 (rs_cw (sc 6) (sc 5) (A_add (ar 1) t nd z))) 7 (rs_ref (A_add (ar 1) t nd z))) 8 3) 9 3) 10 (c_cir (s_add (ar 1) (t - 97) (nd - 97) z) z)) 11 0) from congrArg (fun z0 : Int => (us (us (us (us (us (us sc 5 (rs_cw (sc 6) (sc 5) (A_add (ar 1) t nd z))) 7 z0) 8 3) 9 3) 10 (c_cir (s_add (ar 1) (t - 97) (nd - 97) z) z)) 11 0)) w_30] at hP hD
                have w_31 : 3 = rs_code 3 (A_add (ar 1) t nd z) := by
                  first | (rw [hA]; done) | (rw [hA]; rfl) | (rw [hA]; exact if_pos hden) | (rw [hA]; exact if_neg hden) | (rw [hA]; exact rfl) | (rw [hA]; exact rfl)
                rw [show (us (us (us (us (us (us sc 5 (rs_cw (sc 6) (sc 5) (A_add (ar 1) t nd z))) 7 (rs_ref (A_add (ar 1) t nd z))) 8 3) 9 3) 10 (c_cir (s_add (ar 1) (t - 97) (nd - 97) z) z)) 11 0) = (us (us (us (us (us (us sc 5 (rs_cw (sc 6) (sc 5) (A_add (ar 1) t nd z))) 7 (rs_ref (A_add (ar 1) t nd z))) 8 (rs_code 3 (A_add (ar 1) t nd z))) 9 3) 10 (c_cir (s_add (ar 1) (t - 97) (nd - 97) z) z)) 11 0) from congrArg (fun z0 : Int => (us (us (us (us (us (us sc 5 (rs_cw (sc 6) (sc 5) (A_add (ar 1) t nd z))) 7 (rs_ref (A_add (ar 1) t nd z))) 8 z0) 9 3) 10 (c_cir (s_add (ar 1) (t - 97) (nd - 97) z) z)) 11 0)) w_31] at hP hD
                have w_32 : 3 = rs_why (sc 9) (A_add (ar 1) t nd z) := by
                  first | (rw [hA]; done) | (rw [hA]; rfl) | (rw [hA]; exact if_pos hden) | (rw [hA]; exact if_neg hden) | (rw [hA]; exact rfl) | (rw [hA]; exact rfl)
                rw [show (us (us (us (us (us (us sc 5 (rs_cw (sc 6) (sc 5) (A_add (ar 1) t nd z))) 7 (rs_ref (A_add (ar 1) t nd z))) 8 (rs_code 3 (A_add (ar 1) t nd z))) 9 3) 10 (c_cir (s_add (ar 1) (t - 97) (nd - 97) z) z)) 11 0) = (us (us (us (us (us (us sc 5 (rs_cw (sc 6) (sc 5) (A_add (ar 1) t nd z))) 7 (rs_ref (A_add (ar 1) t nd z))) 8 (rs_code 3 (A_add (ar 1) t nd z))) 9 (rs_why (sc 9) (A_add (ar 1) t nd z))) 10 (c_cir (s_add (ar 1) (t - 97) (nd - 97) z) z)) 11 0) from congrArg (fun z0 : Int => (us (us (us (us (us (us sc 5 (rs_cw (sc 6) (sc 5) (A_add (ar 1) t nd z))) 7 (rs_ref (A_add (ar 1) t nd z))) 8 (rs_code 3 (A_add (ar 1) t nd z))) 9 z0) 10 (c_cir (s_add (ar 1) (t - 97) (nd - 97) z) z)) 11 0)) w_32] at hP hD
                have w_33 : (c_cir (s_add (ar 1) (t - 97) (nd - 97) z) z) = rs_det (sc 10) (A_add (ar 1) t nd z) := by
                  first | (rw [hA]; done) | (rw [hA]; rfl) | (rw [hA]; exact if_pos hden) | (rw [hA]; exact if_neg hden) | (rw [hA]; exact rfl) | (rw [hA]; exact rfl)
                rw [show (us (us (us (us (us (us sc 5 (rs_cw (sc 6) (sc 5) (A_add (ar 1) t nd z))) 7 (rs_ref (A_add (ar 1) t nd z))) 8 (rs_code 3 (A_add (ar 1) t nd z))) 9 (rs_why (sc 9) (A_add (ar 1) t nd z))) 10 (c_cir (s_add (ar 1) (t - 97) (nd - 97) z) z)) 11 0) = (us (us (us (us (us (us sc 5 (rs_cw (sc 6) (sc 5) (A_add (ar 1) t nd z))) 7 (rs_ref (A_add (ar 1) t nd z))) 8 (rs_code 3 (A_add (ar 1) t nd z))) 9 (rs_why (sc 9) (A_add (ar 1) t nd z))) 10 (rs_det (sc 10) (A_add (ar 1) t nd z))) 11 0) from congrArg (fun z0 : Int => (us (us (us (us (us (us sc 5 (rs_cw (sc 6) (sc 5) (A_add (ar 1) t nd z))) 7 (rs_ref (A_add (ar 1) t nd z))) 8 (rs_code 3 (A_add (ar 1) t nd z))) 9 (rs_why (sc 9) (A_add (ar 1) t nd z))) 10 z0) 11 0)) w_33] at hP hD
                have w_34 : 0 = rs_cau (sc 11) (A_add (ar 1) t nd z) := by
                  first | (rw [hA]; done) | (rw [hA]; rfl) | (rw [hA]; exact if_pos hden) | (rw [hA]; exact if_neg hden) | (rw [hA]; exact rfl) | (rw [hA]; exact rfl)
                rw [show (us (us (us (us (us (us sc 5 (rs_cw (sc 6) (sc 5) (A_add (ar 1) t nd z))) 7 (rs_ref (A_add (ar 1) t nd z))) 8 (rs_code 3 (A_add (ar 1) t nd z))) 9 (rs_why (sc 9) (A_add (ar 1) t nd z))) 10 (rs_det (sc 10) (A_add (ar 1) t nd z))) 11 0) = (us (us (us (us (us (us sc 5 (rs_cw (sc 6) (sc 5) (A_add (ar 1) t nd z))) 7 (rs_ref (A_add (ar 1) t nd z))) 8 (rs_code 3 (A_add (ar 1) t nd z))) 9 (rs_why (sc 9) (A_add (ar 1) t nd z))) 10 (rs_det (sc 10) (A_add (ar 1) t nd z))) 11 (rs_cau (sc 11) (A_add (ar 1) t nd z))) from congrArg (fun z0 : Int => (us (us (us (us (us (us sc 5 (rs_cw (sc 6) (sc 5) (A_add (ar 1) t nd z))) 7 (rs_ref (A_add (ar 1) t nd z))) 8 (rs_code 3 (A_add (ar 1) t nd z))) 9 (rs_why (sc 9) (A_add (ar 1) t nd z))) 10 (rs_det (sc 10) (A_add (ar 1) t nd z))) 11 z0)) w_34] at hP hD
                have w_35 : ar 1 = rs_g (ar 1) (A_add (ar 1) t nd z) := by
                  first | (rw [hA]; done) | (rw [hA]; rfl) | (rw [hA]; exact if_pos hden) | (rw [hA]; exact if_neg hden) | (rw [hA]; exact rfl) | (rw [hA]; exact rfl)
                rw [show (ua ar 1 (ar 1)) = (ua ar 1 (rs_g (ar 1) (A_add (ar 1) t nd z))) from congrArg (fun z0 : Int → Int => (ua ar 1 z0)) w_35] at hP hD
                have hP : va_P E.1 CL (MW E o (us (us (us (us (us (us sc 5 (rs_cw (sc 6) (sc 5) (A_add (ar 1) t nd z))) 7 (rs_ref (A_add (ar 1) t nd z))) 8 (rs_code 3 (A_add (ar 1) t nd z))) 9 (rs_why (sc 9) (A_add (ar 1) t nd z))) 10 (rs_det (sc 10) (A_add (ar 1) t nd z))) 11 (rs_cau (sc 11) (A_add (ar 1) t nd z))) (ua (ua ar 1 (rs_g (ar 1) (A_add (ar 1) t nd z))) 2 (ar 2))) H := hP
                have hD : va_D A (MW E o (us (us (us (us (us (us sc 5 (rs_cw (sc 6) (sc 5) (A_add (ar 1) t nd z))) 7 (rs_ref (A_add (ar 1) t nd z))) 8 (rs_code 3 (A_add (ar 1) t nd z))) 9 (rs_why (sc 9) (A_add (ar 1) t nd z))) 10 (rs_det (sc 10) (A_add (ar 1) t nd z))) 11 (rs_cau (sc 11) (A_add (ar 1) t nd z))) (ua (ua ar 1 (rs_g (ar 1) (A_add (ar 1) t nd z))) 2 (ar 2))) := hD
                have w_36 : ar 2 = rs_kw (sc 6) (ar 2) (ar 1) (sc 5) (A_add (ar 1) t nd z) := by
                  rw [hA]
                  first | rfl | exact ear 2
                rw [show (ua (ua ar 1 (rs_g (ar 1) (A_add (ar 1) t nd z))) 2 (ar 2)) = (ua (ua ar 1 (rs_g (ar 1) (A_add (ar 1) t nd z))) 2 (rs_kw (sc 6) (ar 2) (ar 1) (sc 5) (A_add (ar 1) t nd z))) from congrArg (fun z0 : Int → Int => (ua (ua ar 1 (rs_g (ar 1) (A_add (ar 1) t nd z))) 2 z0)) w_36] at hP hD
                exact W.iret (v := iI 0) hx hb hr (fun tt_ ht_ hW_ => ⟨⟨iI 0, (), rfl, (congrArg iI hfin), by rw [ht_]; exact hP, hD⟩, hS.F ht_⟩) hS.2.2 dX5_addNeed_202
            refine lv_iload_n hx hb dX5_addNeed_143 rfl (lv_at hl 6 rfl) ?_
            refine n_ifb_eq (tgt := 151) hx hb dX5_addNeed_144 (by decide) (fun c_37 => ?_) (fun c_37 => ?_)
            · refine lv_aload_n hx hb dX5_addNeed_151 rfl (lv_at hl 3 rfl) ?_
              refine n_csi (x := m_circ a_11) (va_runV (As := []) (rest := []) ⟨hx, hb, hml, hown, hts⟩ (mt_X5_circle l E o (us (us sc 7 0) 8 (c_add (ar 1) t nd)) (ua ar 1 a_11)  (ua_b 1 hB hBa_11) (by exact htw2) (by exact hsw2)) (cwV 0 hts (lw_V q2175 q2177 qs60 q113 q2178) rfl rfl rfl (by decide +kernel) ⟨Nat.le_of_ble_eq_true rfl, Nat.le_of_ble_eq_true rfl⟩) (PW_V hP hK (va_recv hK.1 hP (ci := 0) (q0 := 0) rfl rfl)) rfl rfl hl.1 rfl (lv_room (Nat.le_of_ble_eq_true rfl)) dX5_addNeed_152 ⟨Nat.le_of_ble_eq_true rfl, Nat.le_of_ble_eq_true rfl⟩) ?_
              refine n_top (y := c_cir (s_add (ar 1) (t - 97) (nd - 97) z) z) (by first | (rw [hsa]; unfold c_cir; simp [c_3, c_5, c_7, c_37, b2_t]; done) | (unfold c_cir; simp [c_3, c_5, c_7, c_37, b2_t]; done)) ?_
              exact j_12
            · refine lv_iconst (v := iI 0) hx hb dX5_addNeed_147 rfl ?_
              refine lv_goto (tgt := 155) hx hb dX5_addNeed_148 (by decide) ?_
              refine n_top (y := c_cir (s_add (ar 1) (t - 97) (nd - 97) z) z) (by first | (rw [hsa]; unfold c_cir; simp [c_3, c_5, c_7, c_37, b2_t]; done) | (unfold c_cir; simp [c_3, c_5, c_7, c_37, b2_t]; done)) ?_
              exact j_12
          refine lv_iload_n hx hb dX5_addNeed_118 rfl (lv_at hl 6 rfl) ?_
          refine n_ifb_eq (tgt := 127) hx hb dX5_addNeed_119 (by decide) (fun c_38 => ?_) (fun c_38 => ?_)
          · refine lv_iconst (v := iI 0) hx hb dX5_addNeed_127 rfl ?_
            refine n_top (y := c_if 8 z) (by simp [c_3, c_5, c_7, c_38, b2_t, c_if]) ?_
            exact j_8
          · refine lv_bipush (v := iI 8) hx hb dX5_addNeed_122 (by decide) ?_
            refine lv_goto (tgt := 128) hx hb dX5_addNeed_124 (by decide) ?_
            refine n_top (y := c_if 8 z) (by simp [c_3, c_5, c_7, c_38, b2_t, c_if]) ?_
            exact j_8
        · refine lv_aload_n hx hb dX5_addNeed_92 rfl (lv_at hl 2 rfl) ?_
          refine lv_iconst (v := iI 3) hx hb dX5_addNeed_93 rfl ?_
          refine lv_iconst (v := iI 2) hx hb dX5_addNeed_94 rfl ?_
          refine lv_iconst (v := iI 3) hx hb dX5_addNeed_95 rfl ?_
          refine n_cui (x := 0) (va_runV (As := [iv 3, iv 2, iv 3]) (rest := []) ⟨hx, hb, hml, hown, hts⟩ (mt_X5_refuses l E o (us (us sc 7 0) 8 (c_add (ar 1) t nd)) ar 3 2 3 _) (cwV 3 hts (lw_V q2171 q2173 qs59 q113 q2174) rfl rfl rfl (by decide +kernel) ⟨Nat.le_of_ble_eq_true rfl, Nat.le_of_ble_eq_true rfl⟩) (UW_V hP hK (hD) (va_recv hK.1 hP (ci := 0) (q0 := 0) rfl rfl)) rfl rfl hl.1 rfl (lv_room (Nat.le_of_ble_eq_true rfl)) dX5_addNeed_96 ⟨Nat.le_of_ble_eq_true rfl, Nat.le_of_ble_eq_true rfl⟩) hD hS hA (fun H locs hP hD hS => ?_)
          have hP : va_P E.1 CL (MW E o (us (us (us (us (us sc 7 1) 8 3) 9 2) 10 3) 11 0) ar) H := hP
          have hD : va_D A (MW E o (us (us (us (us (us sc 7 1) 8 3) 9 2) 10 3) 11 0) ar) := hD
          have hA : A_add (ar 1) t nd z = .inr (.inl (2, 3)) := by
            unfold A_add
            rw [if_neg hnz, if_neg (by omega), if_pos (by assumption)]
          have hfin : 0 = rs_val 0 (A_add (ar 1) t nd z) := by
            first | (rw [hA]; done) | (rw [hA]; rfl)
          have hP : va_P E.1 CL (MW E o (us (us (us (us (us (us sc 5 (sc 5)) 7 1) 8 3) 9 2) 10 3) 11 0) ar) H := hP
          have hD : va_D A (MW E o (us (us (us (us (us (us sc 5 (sc 5)) 7 1) 8 3) 9 2) 10 3) 11 0) ar) := hD
          have w_39 : sc 5 = rs_cw (sc 6) (sc 5) (A_add (ar 1) t nd z) := by
            first | (rw [hA]; done) | (rw [hA]; rfl) | (rw [hA]; exact if_pos hden) | (rw [hA]; exact if_neg hden) | (rw [hA]; exact rfl) | (rw [hA]; exact rfl)
          rw [show (us (us (us (us (us (us sc 5 (sc 5)) 7 1) 8 3) 9 2) 10 3) 11 0) = (us (us (us (us (us (us sc 5 (rs_cw (sc 6) (sc 5) (A_add (ar 1) t nd z))) 7 1) 8 3) 9 2) 10 3) 11 0) from congrArg (fun z0 : Int => (us (us (us (us (us (us sc 5 z0) 7 1) 8 3) 9 2) 10 3) 11 0)) w_39] at hP hD
          have w_40 : 1 = rs_ref (A_add (ar 1) t nd z) := by
            first | (rw [hA]; done) | (rw [hA]; rfl) | (rw [hA]; exact if_pos hden) | (rw [hA]; exact if_neg hden) | (rw [hA]; exact rfl) | (rw [hA]; exact rfl)
          rw [show (us (us (us (us (us (us sc 5 (rs_cw (sc 6) (sc 5) (A_add (ar 1) t nd z))) 7 1) 8 3) 9 2) 10 3) 11 0) = (us (us (us (us (us (us sc 5 (rs_cw (sc 6) (sc 5) (A_add (ar 1) t nd z))) 7 (rs_ref (A_add (ar 1) t nd z))) 8 3) 9 2) 10 3) 11 0) from congrArg (fun z0 : Int => (us (us (us (us (us (us sc 5 (rs_cw (sc 6) (sc 5) (A_add (ar 1) t nd z))) 7 z0) 8 3) 9 2) 10 3) 11 0)) w_40] at hP hD
          have w_41 : 3 = rs_code 3 (A_add (ar 1) t nd z) := by
            first | (rw [hA]; done) | (rw [hA]; rfl) | (rw [hA]; exact if_pos hden) | (rw [hA]; exact if_neg hden) | (rw [hA]; exact rfl) | (rw [hA]; exact rfl)
          rw [show (us (us (us (us (us (us sc 5 (rs_cw (sc 6) (sc 5) (A_add (ar 1) t nd z))) 7 (rs_ref (A_add (ar 1) t nd z))) 8 3) 9 2) 10 3) 11 0) = (us (us (us (us (us (us sc 5 (rs_cw (sc 6) (sc 5) (A_add (ar 1) t nd z))) 7 (rs_ref (A_add (ar 1) t nd z))) 8 (rs_code 3 (A_add (ar 1) t nd z))) 9 2) 10 3) 11 0) from congrArg (fun z0 : Int => (us (us (us (us (us (us sc 5 (rs_cw (sc 6) (sc 5) (A_add (ar 1) t nd z))) 7 (rs_ref (A_add (ar 1) t nd z))) 8 z0) 9 2) 10 3) 11 0)) w_41] at hP hD
          have w_42 : 2 = rs_why (sc 9) (A_add (ar 1) t nd z) := by
            first | (rw [hA]; done) | (rw [hA]; rfl) | (rw [hA]; exact if_pos hden) | (rw [hA]; exact if_neg hden) | (rw [hA]; exact rfl) | (rw [hA]; exact rfl)
          rw [show (us (us (us (us (us (us sc 5 (rs_cw (sc 6) (sc 5) (A_add (ar 1) t nd z))) 7 (rs_ref (A_add (ar 1) t nd z))) 8 (rs_code 3 (A_add (ar 1) t nd z))) 9 2) 10 3) 11 0) = (us (us (us (us (us (us sc 5 (rs_cw (sc 6) (sc 5) (A_add (ar 1) t nd z))) 7 (rs_ref (A_add (ar 1) t nd z))) 8 (rs_code 3 (A_add (ar 1) t nd z))) 9 (rs_why (sc 9) (A_add (ar 1) t nd z))) 10 3) 11 0) from congrArg (fun z0 : Int => (us (us (us (us (us (us sc 5 (rs_cw (sc 6) (sc 5) (A_add (ar 1) t nd z))) 7 (rs_ref (A_add (ar 1) t nd z))) 8 (rs_code 3 (A_add (ar 1) t nd z))) 9 z0) 10 3) 11 0)) w_42] at hP hD
          have w_43 : 3 = rs_det (sc 10) (A_add (ar 1) t nd z) := by
            first | (rw [hA]; done) | (rw [hA]; rfl) | (rw [hA]; exact if_pos hden) | (rw [hA]; exact if_neg hden) | (rw [hA]; exact rfl) | (rw [hA]; exact rfl)
          rw [show (us (us (us (us (us (us sc 5 (rs_cw (sc 6) (sc 5) (A_add (ar 1) t nd z))) 7 (rs_ref (A_add (ar 1) t nd z))) 8 (rs_code 3 (A_add (ar 1) t nd z))) 9 (rs_why (sc 9) (A_add (ar 1) t nd z))) 10 3) 11 0) = (us (us (us (us (us (us sc 5 (rs_cw (sc 6) (sc 5) (A_add (ar 1) t nd z))) 7 (rs_ref (A_add (ar 1) t nd z))) 8 (rs_code 3 (A_add (ar 1) t nd z))) 9 (rs_why (sc 9) (A_add (ar 1) t nd z))) 10 (rs_det (sc 10) (A_add (ar 1) t nd z))) 11 0) from congrArg (fun z0 : Int => (us (us (us (us (us (us sc 5 (rs_cw (sc 6) (sc 5) (A_add (ar 1) t nd z))) 7 (rs_ref (A_add (ar 1) t nd z))) 8 (rs_code 3 (A_add (ar 1) t nd z))) 9 (rs_why (sc 9) (A_add (ar 1) t nd z))) 10 z0) 11 0)) w_43] at hP hD
          have w_44 : 0 = rs_cau (sc 11) (A_add (ar 1) t nd z) := by
            first | (rw [hA]; done) | (rw [hA]; rfl) | (rw [hA]; exact if_pos hden) | (rw [hA]; exact if_neg hden) | (rw [hA]; exact rfl) | (rw [hA]; exact rfl)
          rw [show (us (us (us (us (us (us sc 5 (rs_cw (sc 6) (sc 5) (A_add (ar 1) t nd z))) 7 (rs_ref (A_add (ar 1) t nd z))) 8 (rs_code 3 (A_add (ar 1) t nd z))) 9 (rs_why (sc 9) (A_add (ar 1) t nd z))) 10 (rs_det (sc 10) (A_add (ar 1) t nd z))) 11 0) = (us (us (us (us (us (us sc 5 (rs_cw (sc 6) (sc 5) (A_add (ar 1) t nd z))) 7 (rs_ref (A_add (ar 1) t nd z))) 8 (rs_code 3 (A_add (ar 1) t nd z))) 9 (rs_why (sc 9) (A_add (ar 1) t nd z))) 10 (rs_det (sc 10) (A_add (ar 1) t nd z))) 11 (rs_cau (sc 11) (A_add (ar 1) t nd z))) from congrArg (fun z0 : Int => (us (us (us (us (us (us sc 5 (rs_cw (sc 6) (sc 5) (A_add (ar 1) t nd z))) 7 (rs_ref (A_add (ar 1) t nd z))) 8 (rs_code 3 (A_add (ar 1) t nd z))) 9 (rs_why (sc 9) (A_add (ar 1) t nd z))) 10 (rs_det (sc 10) (A_add (ar 1) t nd z))) 11 z0)) w_44] at hP hD
          have hP : va_P E.1 CL (MW E o (us (us (us (us (us (us sc 5 (rs_cw (sc 6) (sc 5) (A_add (ar 1) t nd z))) 7 (rs_ref (A_add (ar 1) t nd z))) 8 (rs_code 3 (A_add (ar 1) t nd z))) 9 (rs_why (sc 9) (A_add (ar 1) t nd z))) 10 (rs_det (sc 10) (A_add (ar 1) t nd z))) 11 (rs_cau (sc 11) (A_add (ar 1) t nd z))) (ua ar 1 (ar 1))) H := hP
          have hD : va_D A (MW E o (us (us (us (us (us (us sc 5 (rs_cw (sc 6) (sc 5) (A_add (ar 1) t nd z))) 7 (rs_ref (A_add (ar 1) t nd z))) 8 (rs_code 3 (A_add (ar 1) t nd z))) 9 (rs_why (sc 9) (A_add (ar 1) t nd z))) 10 (rs_det (sc 10) (A_add (ar 1) t nd z))) 11 (rs_cau (sc 11) (A_add (ar 1) t nd z))) (ua ar 1 (ar 1))) := hD
          have w_45 : ar 1 = rs_g (ar 1) (A_add (ar 1) t nd z) := by
            first | (rw [hA]; done) | (rw [hA]; rfl) | (rw [hA]; exact if_pos hden) | (rw [hA]; exact if_neg hden) | (rw [hA]; exact rfl) | (rw [hA]; exact rfl)
          rw [show (ua ar 1 (ar 1)) = (ua ar 1 (rs_g (ar 1) (A_add (ar 1) t nd z))) from congrArg (fun z0 : Int → Int => (ua ar 1 z0)) w_45] at hP hD
          have hP : va_P E.1 CL (MW E o (us (us (us (us (us (us sc 5 (rs_cw (sc 6) (sc 5) (A_add (ar 1) t nd z))) 7 (rs_ref (A_add (ar 1) t nd z))) 8 (rs_code 3 (A_add (ar 1) t nd z))) 9 (rs_why (sc 9) (A_add (ar 1) t nd z))) 10 (rs_det (sc 10) (A_add (ar 1) t nd z))) 11 (rs_cau (sc 11) (A_add (ar 1) t nd z))) (ua (ua ar 1 (rs_g (ar 1) (A_add (ar 1) t nd z))) 2 (ar 2))) H := hP
          have hD : va_D A (MW E o (us (us (us (us (us (us sc 5 (rs_cw (sc 6) (sc 5) (A_add (ar 1) t nd z))) 7 (rs_ref (A_add (ar 1) t nd z))) 8 (rs_code 3 (A_add (ar 1) t nd z))) 9 (rs_why (sc 9) (A_add (ar 1) t nd z))) 10 (rs_det (sc 10) (A_add (ar 1) t nd z))) 11 (rs_cau (sc 11) (A_add (ar 1) t nd z))) (ua (ua ar 1 (rs_g (ar 1) (A_add (ar 1) t nd z))) 2 (ar 2))) := hD
          have w_46 : ar 2 = rs_kw (sc 6) (ar 2) (ar 1) (sc 5) (A_add (ar 1) t nd z) := by
            rw [hA]
            first | rfl | exact ear 2
          rw [show (ua (ua ar 1 (rs_g (ar 1) (A_add (ar 1) t nd z))) 2 (ar 2)) = (ua (ua ar 1 (rs_g (ar 1) (A_add (ar 1) t nd z))) 2 (rs_kw (sc 6) (ar 2) (ar 1) (sc 5) (A_add (ar 1) t nd z))) from congrArg (fun z0 : Int → Int => (ua (ua ar 1 (rs_g (ar 1) (A_add (ar 1) t nd z))) 2 z0)) w_46] at hP hD
          exact W.iret (v := iI 0) hx hb hr (fun tt_ ht_ hW_ => ⟨⟨iI 0, (), rfl, (congrArg iI hfin), by rw [ht_]; exact hP, hD⟩, hS.F ht_⟩) hS.2.2 dX5_addNeed_99
      · refine lv_aload_n hx hb dX5_addNeed_66 rfl (lv_at hl 2 rfl) ?_
        refine lv_iconst (v := iI 3) hx hb dX5_addNeed_67 rfl ?_
        refine lv_iconst (v := iI 1) hx hb dX5_addNeed_68 rfl ?_
        refine lv_aload_n hx hb dX5_addNeed_69 rfl (lv_at hl 2 rfl) ?_
        refine lv_iload hx hb dX5_addNeed_70 (lv_at hl 1 rfl) ?_
        refine lv_iload hx hb dX5_addNeed_72 (lv_at hl 0 rfl) ?_
        refine n_csi (x := m_place (ar 1) (t - 97) (nd - 97)) (va_runV (As := [iv (t - 97), iv (nd - 97)]) (rest := [iv 1, iv 3, .ref (o 0)]) ⟨hx, hb, hml, hown, hts⟩ (mt_X5_placeOf l E o (us (us sc 7 0) 8 (c_add (ar 1) t nd)) ar (t - 97) (nd - 97) hB (by omega) (by omega) (by assumption)) (cwV 2 hts (lw_V q2163 q2165 qs57 q113 q2166) rfl rfl rfl (by decide +kernel) ⟨Nat.le_of_ble_eq_true rfl, Nat.le_of_ble_eq_true rfl⟩) (PW_V hP hK (va_recv hK.1 hP (ci := 0) (q0 := 0) rfl rfl)) rfl rfl hl.1 rfl (lv_room (Nat.le_of_ble_eq_true rfl)) dX5_addNeed_74 ⟨Nat.le_of_ble_eq_true rfl, Nat.le_of_ble_eq_true rfl⟩) ?_
        refine n_cui (x := 0) (va_runV (As := [iv 3, iv 1, iv (m_place (ar 1) (t - 97) (nd - 97))]) (rest := []) ⟨hx, hb, hml, hown, hts⟩ (mt_X5_refuses l E o (us (us sc 7 0) 8 (c_add (ar 1) t nd)) ar 3 1 (m_place (ar 1) (t - 97) (nd - 97)) _) (cwV 3 hts (lw_V q2171 q2173 qs59 q113 q2174) rfl rfl rfl (by decide +kernel) ⟨Nat.le_of_ble_eq_true rfl, Nat.le_of_ble_eq_true rfl⟩) (UW_V hP hK (hD) (va_recv hK.1 hP (ci := 0) (q0 := 0) rfl rfl)) rfl rfl hl.1 rfl (lv_room (Nat.le_of_ble_eq_true rfl)) dX5_addNeed_77 ⟨Nat.le_of_ble_eq_true rfl, Nat.le_of_ble_eq_true rfl⟩) hD hS hA (fun H locs hP hD hS => ?_)
        have hP : va_P E.1 CL (MW E o (us (us (us (us (us sc 7 1) 8 3) 9 1) 10 (m_place (ar 1) (t - 97) (nd - 97))) 11 0) ar) H := hP
        have hD : va_D A (MW E o (us (us (us (us (us sc 7 1) 8 3) 9 1) 10 (m_place (ar 1) (t - 97) (nd - 97))) 11 0) ar) := hD
        have hA : A_add (ar 1) t nd z = .inr (.inl (1, (m_place (ar 1) (t - 97) (nd - 97)))) := by
          unfold A_add
          rw [if_neg hnz, if_pos (by assumption)]
        have hfin : 0 = rs_val 0 (A_add (ar 1) t nd z) := by
          first | (rw [hA]; done) | (rw [hA]; rfl)
        have hP : va_P E.1 CL (MW E o (us (us (us (us (us (us sc 5 (sc 5)) 7 1) 8 3) 9 1) 10 (m_place (ar 1) (t - 97) (nd - 97))) 11 0) ar) H := hP
        have hD : va_D A (MW E o (us (us (us (us (us (us sc 5 (sc 5)) 7 1) 8 3) 9 1) 10 (m_place (ar 1) (t - 97) (nd - 97))) 11 0) ar) := hD
        have w_47 : sc 5 = rs_cw (sc 6) (sc 5) (A_add (ar 1) t nd z) := by
          first | (rw [hA]; done) | (rw [hA]; rfl) | (rw [hA]; exact if_pos hden) | (rw [hA]; exact if_neg hden) | (rw [hA]; exact rfl) | (rw [hA]; exact rfl)
        rw [show (us (us (us (us (us (us sc 5 (sc 5)) 7 1) 8 3) 9 1) 10 (m_place (ar 1) (t - 97) (nd - 97))) 11 0) = (us (us (us (us (us (us sc 5 (rs_cw (sc 6) (sc 5) (A_add (ar 1) t nd z))) 7 1) 8 3) 9 1) 10 (m_place (ar 1) (t - 97) (nd - 97))) 11 0) from congrArg (fun z0 : Int => (us (us (us (us (us (us sc 5 z0) 7 1) 8 3) 9 1) 10 (m_place (ar 1) (t - 97) (nd - 97))) 11 0)) w_47] at hP hD
        have w_48 : 1 = rs_ref (A_add (ar 1) t nd z) := by
          first | (rw [hA]; done) | (rw [hA]; rfl) | (rw [hA]; exact if_pos hden) | (rw [hA]; exact if_neg hden) | (rw [hA]; exact rfl) | (rw [hA]; exact rfl)
        rw [show (us (us (us (us (us (us sc 5 (rs_cw (sc 6) (sc 5) (A_add (ar 1) t nd z))) 7 1) 8 3) 9 1) 10 (m_place (ar 1) (t - 97) (nd - 97))) 11 0) = (us (us (us (us (us (us sc 5 (rs_cw (sc 6) (sc 5) (A_add (ar 1) t nd z))) 7 (rs_ref (A_add (ar 1) t nd z))) 8 3) 9 1) 10 (m_place (ar 1) (t - 97) (nd - 97))) 11 0) from congrArg (fun z0 : Int => (us (us (us (us (us (us sc 5 (rs_cw (sc 6) (sc 5) (A_add (ar 1) t nd z))) 7 z0) 8 3) 9 1) 10 (m_place (ar 1) (t - 97) (nd - 97))) 11 0)) w_48] at hP hD
        have w_49 : 3 = rs_code 3 (A_add (ar 1) t nd z) := by
          first | (rw [hA]; done) | (rw [hA]; rfl) | (rw [hA]; exact if_pos hden) | (rw [hA]; exact if_neg hden) | (rw [hA]; exact rfl) | (rw [hA]; exact rfl)
        rw [show (us (us (us (us (us (us sc 5 (rs_cw (sc 6) (sc 5) (A_add (ar 1) t nd z))) 7 (rs_ref (A_add (ar 1) t nd z))) 8 3) 9 1) 10 (m_place (ar 1) (t - 97) (nd - 97))) 11 0) = (us (us (us (us (us (us sc 5 (rs_cw (sc 6) (sc 5) (A_add (ar 1) t nd z))) 7 (rs_ref (A_add (ar 1) t nd z))) 8 (rs_code 3 (A_add (ar 1) t nd z))) 9 1) 10 (m_place (ar 1) (t - 97) (nd - 97))) 11 0) from congrArg (fun z0 : Int => (us (us (us (us (us (us sc 5 (rs_cw (sc 6) (sc 5) (A_add (ar 1) t nd z))) 7 (rs_ref (A_add (ar 1) t nd z))) 8 z0) 9 1) 10 (m_place (ar 1) (t - 97) (nd - 97))) 11 0)) w_49] at hP hD
        have w_50 : 1 = rs_why (sc 9) (A_add (ar 1) t nd z) := by
          first | (rw [hA]; done) | (rw [hA]; rfl) | (rw [hA]; exact if_pos hden) | (rw [hA]; exact if_neg hden) | (rw [hA]; exact rfl) | (rw [hA]; exact rfl)
        rw [show (us (us (us (us (us (us sc 5 (rs_cw (sc 6) (sc 5) (A_add (ar 1) t nd z))) 7 (rs_ref (A_add (ar 1) t nd z))) 8 (rs_code 3 (A_add (ar 1) t nd z))) 9 1) 10 (m_place (ar 1) (t - 97) (nd - 97))) 11 0) = (us (us (us (us (us (us sc 5 (rs_cw (sc 6) (sc 5) (A_add (ar 1) t nd z))) 7 (rs_ref (A_add (ar 1) t nd z))) 8 (rs_code 3 (A_add (ar 1) t nd z))) 9 (rs_why (sc 9) (A_add (ar 1) t nd z))) 10 (m_place (ar 1) (t - 97) (nd - 97))) 11 0) from congrArg (fun z0 : Int => (us (us (us (us (us (us sc 5 (rs_cw (sc 6) (sc 5) (A_add (ar 1) t nd z))) 7 (rs_ref (A_add (ar 1) t nd z))) 8 (rs_code 3 (A_add (ar 1) t nd z))) 9 z0) 10 (m_place (ar 1) (t - 97) (nd - 97))) 11 0)) w_50] at hP hD
        have w_51 : (m_place (ar 1) (t - 97) (nd - 97)) = rs_det (sc 10) (A_add (ar 1) t nd z) := by
          first | (rw [hA]; done) | (rw [hA]; rfl) | (rw [hA]; exact if_pos hden) | (rw [hA]; exact if_neg hden) | (rw [hA]; exact rfl) | (rw [hA]; exact rfl)
        rw [show (us (us (us (us (us (us sc 5 (rs_cw (sc 6) (sc 5) (A_add (ar 1) t nd z))) 7 (rs_ref (A_add (ar 1) t nd z))) 8 (rs_code 3 (A_add (ar 1) t nd z))) 9 (rs_why (sc 9) (A_add (ar 1) t nd z))) 10 (m_place (ar 1) (t - 97) (nd - 97))) 11 0) = (us (us (us (us (us (us sc 5 (rs_cw (sc 6) (sc 5) (A_add (ar 1) t nd z))) 7 (rs_ref (A_add (ar 1) t nd z))) 8 (rs_code 3 (A_add (ar 1) t nd z))) 9 (rs_why (sc 9) (A_add (ar 1) t nd z))) 10 (rs_det (sc 10) (A_add (ar 1) t nd z))) 11 0) from congrArg (fun z0 : Int => (us (us (us (us (us (us sc 5 (rs_cw (sc 6) (sc 5) (A_add (ar 1) t nd z))) 7 (rs_ref (A_add (ar 1) t nd z))) 8 (rs_code 3 (A_add (ar 1) t nd z))) 9 (rs_why (sc 9) (A_add (ar 1) t nd z))) 10 z0) 11 0)) w_51] at hP hD
        have w_52 : 0 = rs_cau (sc 11) (A_add (ar 1) t nd z) := by
          first | (rw [hA]; done) | (rw [hA]; rfl) | (rw [hA]; exact if_pos hden) | (rw [hA]; exact if_neg hden) | (rw [hA]; exact rfl) | (rw [hA]; exact rfl)
        rw [show (us (us (us (us (us (us sc 5 (rs_cw (sc 6) (sc 5) (A_add (ar 1) t nd z))) 7 (rs_ref (A_add (ar 1) t nd z))) 8 (rs_code 3 (A_add (ar 1) t nd z))) 9 (rs_why (sc 9) (A_add (ar 1) t nd z))) 10 (rs_det (sc 10) (A_add (ar 1) t nd z))) 11 0) = (us (us (us (us (us (us sc 5 (rs_cw (sc 6) (sc 5) (A_add (ar 1) t nd z))) 7 (rs_ref (A_add (ar 1) t nd z))) 8 (rs_code 3 (A_add (ar 1) t nd z))) 9 (rs_why (sc 9) (A_add (ar 1) t nd z))) 10 (rs_det (sc 10) (A_add (ar 1) t nd z))) 11 (rs_cau (sc 11) (A_add (ar 1) t nd z))) from congrArg (fun z0 : Int => (us (us (us (us (us (us sc 5 (rs_cw (sc 6) (sc 5) (A_add (ar 1) t nd z))) 7 (rs_ref (A_add (ar 1) t nd z))) 8 (rs_code 3 (A_add (ar 1) t nd z))) 9 (rs_why (sc 9) (A_add (ar 1) t nd z))) 10 (rs_det (sc 10) (A_add (ar 1) t nd z))) 11 z0)) w_52] at hP hD
        have hP : va_P E.1 CL (MW E o (us (us (us (us (us (us sc 5 (rs_cw (sc 6) (sc 5) (A_add (ar 1) t nd z))) 7 (rs_ref (A_add (ar 1) t nd z))) 8 (rs_code 3 (A_add (ar 1) t nd z))) 9 (rs_why (sc 9) (A_add (ar 1) t nd z))) 10 (rs_det (sc 10) (A_add (ar 1) t nd z))) 11 (rs_cau (sc 11) (A_add (ar 1) t nd z))) (ua ar 1 (ar 1))) H := hP
        have hD : va_D A (MW E o (us (us (us (us (us (us sc 5 (rs_cw (sc 6) (sc 5) (A_add (ar 1) t nd z))) 7 (rs_ref (A_add (ar 1) t nd z))) 8 (rs_code 3 (A_add (ar 1) t nd z))) 9 (rs_why (sc 9) (A_add (ar 1) t nd z))) 10 (rs_det (sc 10) (A_add (ar 1) t nd z))) 11 (rs_cau (sc 11) (A_add (ar 1) t nd z))) (ua ar 1 (ar 1))) := hD
        have w_53 : ar 1 = rs_g (ar 1) (A_add (ar 1) t nd z) := by
          first | (rw [hA]; done) | (rw [hA]; rfl) | (rw [hA]; exact if_pos hden) | (rw [hA]; exact if_neg hden) | (rw [hA]; exact rfl) | (rw [hA]; exact rfl)
        rw [show (ua ar 1 (ar 1)) = (ua ar 1 (rs_g (ar 1) (A_add (ar 1) t nd z))) from congrArg (fun z0 : Int → Int => (ua ar 1 z0)) w_53] at hP hD
        have hP : va_P E.1 CL (MW E o (us (us (us (us (us (us sc 5 (rs_cw (sc 6) (sc 5) (A_add (ar 1) t nd z))) 7 (rs_ref (A_add (ar 1) t nd z))) 8 (rs_code 3 (A_add (ar 1) t nd z))) 9 (rs_why (sc 9) (A_add (ar 1) t nd z))) 10 (rs_det (sc 10) (A_add (ar 1) t nd z))) 11 (rs_cau (sc 11) (A_add (ar 1) t nd z))) (ua (ua ar 1 (rs_g (ar 1) (A_add (ar 1) t nd z))) 2 (ar 2))) H := hP
        have hD : va_D A (MW E o (us (us (us (us (us (us sc 5 (rs_cw (sc 6) (sc 5) (A_add (ar 1) t nd z))) 7 (rs_ref (A_add (ar 1) t nd z))) 8 (rs_code 3 (A_add (ar 1) t nd z))) 9 (rs_why (sc 9) (A_add (ar 1) t nd z))) 10 (rs_det (sc 10) (A_add (ar 1) t nd z))) 11 (rs_cau (sc 11) (A_add (ar 1) t nd z))) (ua (ua ar 1 (rs_g (ar 1) (A_add (ar 1) t nd z))) 2 (ar 2))) := hD
        have w_54 : ar 2 = rs_kw (sc 6) (ar 2) (ar 1) (sc 5) (A_add (ar 1) t nd z) := by
          rw [hA]
          first | rfl | exact ear 2
        rw [show (ua (ua ar 1 (rs_g (ar 1) (A_add (ar 1) t nd z))) 2 (ar 2)) = (ua (ua ar 1 (rs_g (ar 1) (A_add (ar 1) t nd z))) 2 (rs_kw (sc 6) (ar 2) (ar 1) (sc 5) (A_add (ar 1) t nd z))) from congrArg (fun z0 : Int → Int => (ua (ua ar 1 (rs_g (ar 1) (A_add (ar 1) t nd z))) 2 z0)) w_54] at hP hD
        exact W.iret (v := iI 0) hx hb hr (fun tt_ ht_ hW_ => ⟨⟨iI 0, (), rfl, (congrArg iI hfin), by rw [ht_]; exact hP, hD⟩, hS.F ht_⟩) hS.2.2 dX5_addNeed_80
    · refine lv_iconst (v := iI 0) hx hb dX5_addNeed_41 rfl ?_
      have hA : A_add (ar 1) t nd z = .inl (c_add (ar 1) t nd) := by
        unfold A_add
        rw [if_pos (by assumption)]
      have hfin : 0 = rs_val 0 (A_add (ar 1) t nd z) := by
        first | (rw [hA]; done) | (rw [hA]; rfl)
      have hP : va_P E.1 CL (MW E o (us (us (us sc 5 (sc 5)) 7 0) 8 (c_add (ar 1) t nd)) ar) H := hP
      have hD : va_D A (MW E o (us (us (us sc 5 (sc 5)) 7 0) 8 (c_add (ar 1) t nd)) ar) := hD
      have w_55 : sc 5 = rs_cw (sc 6) (sc 5) (A_add (ar 1) t nd z) := by
        first | (rw [hA]; done) | (rw [hA]; rfl) | (rw [hA]; exact if_pos hden) | (rw [hA]; exact if_neg hden) | (rw [hA]; exact rfl) | (rw [hA]; exact rfl)
      rw [show (us (us (us sc 5 (sc 5)) 7 0) 8 (c_add (ar 1) t nd)) = (us (us (us sc 5 (rs_cw (sc 6) (sc 5) (A_add (ar 1) t nd z))) 7 0) 8 (c_add (ar 1) t nd)) from congrArg (fun z0 : Int => (us (us (us sc 5 z0) 7 0) 8 (c_add (ar 1) t nd))) w_55] at hP hD
      have w_56 : 0 = rs_ref (A_add (ar 1) t nd z) := by
        first | (rw [hA]; done) | (rw [hA]; rfl) | (rw [hA]; exact if_pos hden) | (rw [hA]; exact if_neg hden) | (rw [hA]; exact rfl) | (rw [hA]; exact rfl)
      rw [show (us (us (us sc 5 (rs_cw (sc 6) (sc 5) (A_add (ar 1) t nd z))) 7 0) 8 (c_add (ar 1) t nd)) = (us (us (us sc 5 (rs_cw (sc 6) (sc 5) (A_add (ar 1) t nd z))) 7 (rs_ref (A_add (ar 1) t nd z))) 8 (c_add (ar 1) t nd)) from congrArg (fun z0 : Int => (us (us (us sc 5 (rs_cw (sc 6) (sc 5) (A_add (ar 1) t nd z))) 7 z0) 8 (c_add (ar 1) t nd))) w_56] at hP hD
      have w_57 : (c_add (ar 1) t nd) = rs_code 3 (A_add (ar 1) t nd z) := by
        first | (rw [hA]; done) | (rw [hA]; rfl) | (rw [hA]; exact if_pos hden) | (rw [hA]; exact if_neg hden) | (rw [hA]; exact rfl) | (rw [hA]; exact rfl)
      rw [show (us (us (us sc 5 (rs_cw (sc 6) (sc 5) (A_add (ar 1) t nd z))) 7 (rs_ref (A_add (ar 1) t nd z))) 8 (c_add (ar 1) t nd)) = (us (us (us sc 5 (rs_cw (sc 6) (sc 5) (A_add (ar 1) t nd z))) 7 (rs_ref (A_add (ar 1) t nd z))) 8 (rs_code 3 (A_add (ar 1) t nd z))) from congrArg (fun z0 : Int => (us (us (us sc 5 (rs_cw (sc 6) (sc 5) (A_add (ar 1) t nd z))) 7 (rs_ref (A_add (ar 1) t nd z))) 8 z0)) w_57] at hP hD
      have hP : va_P E.1 CL (MW E o (us (us (us (us sc 5 (rs_cw (sc 6) (sc 5) (A_add (ar 1) t nd z))) 7 (rs_ref (A_add (ar 1) t nd z))) 8 (rs_code 3 (A_add (ar 1) t nd z))) 9 (sc 9)) ar) H := hP
      have hD : va_D A (MW E o (us (us (us (us sc 5 (rs_cw (sc 6) (sc 5) (A_add (ar 1) t nd z))) 7 (rs_ref (A_add (ar 1) t nd z))) 8 (rs_code 3 (A_add (ar 1) t nd z))) 9 (sc 9)) ar) := hD
      have w_58 : sc 9 = rs_why (sc 9) (A_add (ar 1) t nd z) := by
        first | (rw [hA]; done) | (rw [hA]; rfl) | (rw [hA]; exact if_pos hden) | (rw [hA]; exact if_neg hden) | (rw [hA]; exact rfl) | (rw [hA]; exact rfl)
      rw [show (us (us (us (us sc 5 (rs_cw (sc 6) (sc 5) (A_add (ar 1) t nd z))) 7 (rs_ref (A_add (ar 1) t nd z))) 8 (rs_code 3 (A_add (ar 1) t nd z))) 9 (sc 9)) = (us (us (us (us sc 5 (rs_cw (sc 6) (sc 5) (A_add (ar 1) t nd z))) 7 (rs_ref (A_add (ar 1) t nd z))) 8 (rs_code 3 (A_add (ar 1) t nd z))) 9 (rs_why (sc 9) (A_add (ar 1) t nd z))) from congrArg (fun z0 : Int => (us (us (us (us sc 5 (rs_cw (sc 6) (sc 5) (A_add (ar 1) t nd z))) 7 (rs_ref (A_add (ar 1) t nd z))) 8 (rs_code 3 (A_add (ar 1) t nd z))) 9 z0)) w_58] at hP hD
      have hP : va_P E.1 CL (MW E o (us (us (us (us (us sc 5 (rs_cw (sc 6) (sc 5) (A_add (ar 1) t nd z))) 7 (rs_ref (A_add (ar 1) t nd z))) 8 (rs_code 3 (A_add (ar 1) t nd z))) 9 (rs_why (sc 9) (A_add (ar 1) t nd z))) 10 (sc 10)) ar) H := hP
      have hD : va_D A (MW E o (us (us (us (us (us sc 5 (rs_cw (sc 6) (sc 5) (A_add (ar 1) t nd z))) 7 (rs_ref (A_add (ar 1) t nd z))) 8 (rs_code 3 (A_add (ar 1) t nd z))) 9 (rs_why (sc 9) (A_add (ar 1) t nd z))) 10 (sc 10)) ar) := hD
      have w_59 : sc 10 = rs_det (sc 10) (A_add (ar 1) t nd z) := by
        first | (rw [hA]; done) | (rw [hA]; rfl) | (rw [hA]; exact if_pos hden) | (rw [hA]; exact if_neg hden) | (rw [hA]; exact rfl) | (rw [hA]; exact rfl)
      rw [show (us (us (us (us (us sc 5 (rs_cw (sc 6) (sc 5) (A_add (ar 1) t nd z))) 7 (rs_ref (A_add (ar 1) t nd z))) 8 (rs_code 3 (A_add (ar 1) t nd z))) 9 (rs_why (sc 9) (A_add (ar 1) t nd z))) 10 (sc 10)) = (us (us (us (us (us sc 5 (rs_cw (sc 6) (sc 5) (A_add (ar 1) t nd z))) 7 (rs_ref (A_add (ar 1) t nd z))) 8 (rs_code 3 (A_add (ar 1) t nd z))) 9 (rs_why (sc 9) (A_add (ar 1) t nd z))) 10 (rs_det (sc 10) (A_add (ar 1) t nd z))) from congrArg (fun z0 : Int => (us (us (us (us (us sc 5 (rs_cw (sc 6) (sc 5) (A_add (ar 1) t nd z))) 7 (rs_ref (A_add (ar 1) t nd z))) 8 (rs_code 3 (A_add (ar 1) t nd z))) 9 (rs_why (sc 9) (A_add (ar 1) t nd z))) 10 z0)) w_59] at hP hD
      have hP : va_P E.1 CL (MW E o (us (us (us (us (us (us sc 5 (rs_cw (sc 6) (sc 5) (A_add (ar 1) t nd z))) 7 (rs_ref (A_add (ar 1) t nd z))) 8 (rs_code 3 (A_add (ar 1) t nd z))) 9 (rs_why (sc 9) (A_add (ar 1) t nd z))) 10 (rs_det (sc 10) (A_add (ar 1) t nd z))) 11 (sc 11)) ar) H := hP
      have hD : va_D A (MW E o (us (us (us (us (us (us sc 5 (rs_cw (sc 6) (sc 5) (A_add (ar 1) t nd z))) 7 (rs_ref (A_add (ar 1) t nd z))) 8 (rs_code 3 (A_add (ar 1) t nd z))) 9 (rs_why (sc 9) (A_add (ar 1) t nd z))) 10 (rs_det (sc 10) (A_add (ar 1) t nd z))) 11 (sc 11)) ar) := hD
      have w_60 : sc 11 = rs_cau (sc 11) (A_add (ar 1) t nd z) := by
        first | (rw [hA]; done) | (rw [hA]; rfl) | (rw [hA]; exact if_pos hden) | (rw [hA]; exact if_neg hden) | (rw [hA]; exact rfl) | (rw [hA]; exact rfl)
      rw [show (us (us (us (us (us (us sc 5 (rs_cw (sc 6) (sc 5) (A_add (ar 1) t nd z))) 7 (rs_ref (A_add (ar 1) t nd z))) 8 (rs_code 3 (A_add (ar 1) t nd z))) 9 (rs_why (sc 9) (A_add (ar 1) t nd z))) 10 (rs_det (sc 10) (A_add (ar 1) t nd z))) 11 (sc 11)) = (us (us (us (us (us (us sc 5 (rs_cw (sc 6) (sc 5) (A_add (ar 1) t nd z))) 7 (rs_ref (A_add (ar 1) t nd z))) 8 (rs_code 3 (A_add (ar 1) t nd z))) 9 (rs_why (sc 9) (A_add (ar 1) t nd z))) 10 (rs_det (sc 10) (A_add (ar 1) t nd z))) 11 (rs_cau (sc 11) (A_add (ar 1) t nd z))) from congrArg (fun z0 : Int => (us (us (us (us (us (us sc 5 (rs_cw (sc 6) (sc 5) (A_add (ar 1) t nd z))) 7 (rs_ref (A_add (ar 1) t nd z))) 8 (rs_code 3 (A_add (ar 1) t nd z))) 9 (rs_why (sc 9) (A_add (ar 1) t nd z))) 10 (rs_det (sc 10) (A_add (ar 1) t nd z))) 11 z0)) w_60] at hP hD
      have hP : va_P E.1 CL (MW E o (us (us (us (us (us (us sc 5 (rs_cw (sc 6) (sc 5) (A_add (ar 1) t nd z))) 7 (rs_ref (A_add (ar 1) t nd z))) 8 (rs_code 3 (A_add (ar 1) t nd z))) 9 (rs_why (sc 9) (A_add (ar 1) t nd z))) 10 (rs_det (sc 10) (A_add (ar 1) t nd z))) 11 (rs_cau (sc 11) (A_add (ar 1) t nd z))) (ua ar 1 (ar 1))) H := hP
      have hD : va_D A (MW E o (us (us (us (us (us (us sc 5 (rs_cw (sc 6) (sc 5) (A_add (ar 1) t nd z))) 7 (rs_ref (A_add (ar 1) t nd z))) 8 (rs_code 3 (A_add (ar 1) t nd z))) 9 (rs_why (sc 9) (A_add (ar 1) t nd z))) 10 (rs_det (sc 10) (A_add (ar 1) t nd z))) 11 (rs_cau (sc 11) (A_add (ar 1) t nd z))) (ua ar 1 (ar 1))) := hD
      have w_61 : ar 1 = rs_g (ar 1) (A_add (ar 1) t nd z) := by
        first | (rw [hA]; done) | (rw [hA]; rfl) | (rw [hA]; exact if_pos hden) | (rw [hA]; exact if_neg hden) | (rw [hA]; exact rfl) | (rw [hA]; exact rfl)
      rw [show (ua ar 1 (ar 1)) = (ua ar 1 (rs_g (ar 1) (A_add (ar 1) t nd z))) from congrArg (fun z0 : Int → Int => (ua ar 1 z0)) w_61] at hP hD
      have hP : va_P E.1 CL (MW E o (us (us (us (us (us (us sc 5 (rs_cw (sc 6) (sc 5) (A_add (ar 1) t nd z))) 7 (rs_ref (A_add (ar 1) t nd z))) 8 (rs_code 3 (A_add (ar 1) t nd z))) 9 (rs_why (sc 9) (A_add (ar 1) t nd z))) 10 (rs_det (sc 10) (A_add (ar 1) t nd z))) 11 (rs_cau (sc 11) (A_add (ar 1) t nd z))) (ua (ua ar 1 (rs_g (ar 1) (A_add (ar 1) t nd z))) 2 (ar 2))) H := hP
      have hD : va_D A (MW E o (us (us (us (us (us (us sc 5 (rs_cw (sc 6) (sc 5) (A_add (ar 1) t nd z))) 7 (rs_ref (A_add (ar 1) t nd z))) 8 (rs_code 3 (A_add (ar 1) t nd z))) 9 (rs_why (sc 9) (A_add (ar 1) t nd z))) 10 (rs_det (sc 10) (A_add (ar 1) t nd z))) 11 (rs_cau (sc 11) (A_add (ar 1) t nd z))) (ua (ua ar 1 (rs_g (ar 1) (A_add (ar 1) t nd z))) 2 (ar 2))) := hD
      have w_62 : ar 2 = rs_kw (sc 6) (ar 2) (ar 1) (sc 5) (A_add (ar 1) t nd z) := by
        rw [hA]
        first | rfl | exact ear 2
      rw [show (ua (ua ar 1 (rs_g (ar 1) (A_add (ar 1) t nd z))) 2 (ar 2)) = (ua (ua ar 1 (rs_g (ar 1) (A_add (ar 1) t nd z))) 2 (rs_kw (sc 6) (ar 2) (ar 1) (sc 5) (A_add (ar 1) t nd z))) from congrArg (fun z0 : Int → Int => (ua (ua ar 1 (rs_g (ar 1) (A_add (ar 1) t nd z))) 2 z0)) w_62] at hP hD
      exact W.iret (v := iI 0) hx hb hr (fun tt_ ht_ hW_ => ⟨⟨iI 0, (), rfl, (congrArg iI hfin), by rw [ht_]; exact hP, hD⟩, hS.F ht_⟩) hS.2.2 dX5_addNeed_42
  refine lv_iload_n hx hb dX5_addNeed_1 rfl (lv_at hl 1 rfl) ?_
  refine n_csi (x := b2 (decide (97 ≤ t ∧ t ≤ 104))) (va_runS (As := [iv t]) (rest := [.ref (o 0)]) ⟨hx, hb, hml, hown, hts⟩ (mt_X5_isTool l E o sc ar t (by omega)) (va_cwS 1 hts (lw_S q2107 q2108 q113 q2109) rfl rfl rfl (by decide +kernel) ⟨Nat.le_of_ble_eq_true rfl, Nat.le_of_ble_eq_true rfl⟩) (PW_S hP hK) rfl rfl hl.1 rfl (lv_room (Nat.le_of_ble_eq_true rfl)) dX5_addNeed_2 ⟨Nat.le_of_ble_eq_true rfl, Nat.le_of_ble_eq_true rfl⟩) ?_
  refine n_ifd_eq (tgt := 15) hx hb dX5_addNeed_5 (by decide) (fun c_63 => ?_) (fun c_63 => ?_)
  · refine lv_iconst (v := iI 1) hx hb dX5_addNeed_15 rfl ?_
    refine lv_goto (tgt := 35) hx hb dX5_addNeed_16 (by decide) ?_
    refine n_top (y := c_add (ar 1) t nd) (by (try unfold c_add); (repeat' split) <;> first | rfl | omega | contradiction | (exfalso; omega) | (simp_all; done)) ?_
    exact j_1
  · refine lv_iload_n hx hb dX5_addNeed_8 rfl (lv_at hl 2 rfl) ?_
    refine n_csi (x := b2 (decide (97 ≤ nd ∧ nd ≤ 104))) (va_runS (As := [iv nd]) (rest := [.ref (o 0)]) ⟨hx, hb, hml, hown, hts⟩ (mt_X5_isTool l E o sc ar nd (by omega)) (va_cwS 1 hts (lw_S q2107 q2108 q113 q2109) rfl rfl rfl (by decide +kernel) ⟨Nat.le_of_ble_eq_true rfl, Nat.le_of_ble_eq_true rfl⟩) (PW_S hP hK) rfl rfl hl.1 rfl (lv_room (Nat.le_of_ble_eq_true rfl)) dX5_addNeed_9 ⟨Nat.le_of_ble_eq_true rfl, Nat.le_of_ble_eq_true rfl⟩) ?_
    refine n_ifd_ne (tgt := 19) hx hb dX5_addNeed_12 (by decide) (fun c_64 => ?_) (fun c_64 => ?_)
    · refine lv_aload_n hx hb dX5_addNeed_19 rfl (lv_at hl 0 rfl) ?_
      refine lv_iload_n hx hb dX5_addNeed_20 rfl (lv_at hl 1 rfl) ?_
      refine lv_bipush (v := iI 97) hx hb dX5_addNeed_21 (by decide) ?_
      refine n_isub hx hb dX5_addNeed_23 ?_
      refine n_csi (x := b2 (m_has (ar 1) (t - 97))) (va_runV (As := [iv (t - 97)]) (rest := [.ref (o 0)]) ⟨hx, hb, hml, hown, hts⟩ (mt_X5_has l E o sc ar (t - 97) hB (by omega)) (cwV 1 hts (lw_V q2116 q2118 qs48 q113 q2119) rfl rfl rfl (by decide +kernel) ⟨Nat.le_of_ble_eq_true rfl, Nat.le_of_ble_eq_true rfl⟩) (PW_V hP hK (va_recv hK.1 hP (ci := 0) (q0 := 0) rfl rfl)) rfl rfl hl.1 rfl (lv_room (Nat.le_of_ble_eq_true rfl)) dX5_addNeed_24 ⟨Nat.le_of_ble_eq_true rfl, Nat.le_of_ble_eq_true rfl⟩) ?_
      refine n_ifb_eq (tgt := 34) hx hb dX5_addNeed_27 (by decide) (fun c_65 => ?_) (fun c_65 => ?_)
      · refine lv_iconst (v := iI 2) hx hb dX5_addNeed_34 rfl ?_
        refine n_top (y := c_add (ar 1) t nd) (by (try unfold c_add); (repeat' split) <;> first | rfl | omega | contradiction | (exfalso; omega) | (simp_all; done)) ?_
        exact j_1
      · refine lv_iconst (v := iI 0) hx hb dX5_addNeed_30 rfl ?_
        refine lv_goto (tgt := 35) hx hb dX5_addNeed_31 (by decide) ?_
        refine n_top (y := c_add (ar 1) t nd) (by (try unfold c_add); (repeat' split) <;> first | rfl | omega | contradiction | (exfalso; omega) | (simp_all; done)) ?_
        exact j_1
    · refine lv_iconst (v := iI 1) hx hb dX5_addNeed_15 rfl ?_
      refine lv_goto (tgt := 35) hx hb dX5_addNeed_16 (by decide) ?_
      refine n_top (y := c_add (ar 1) t nd) (by (try unfold c_add); (repeat' split) <;> first | rfl | omega | contradiction | (exfalso; omega) | (simp_all; done)) ?_
      exact j_1
