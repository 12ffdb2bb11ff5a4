set_option maxHeartbeats 1000000 in
set_option maxRecDepth 100000 in
theorem mt_X3_copyFrom (l : Launch) (E : EE) (o : Nat → Nat) (sc : Nat → Int) (ar : Nat → Int → Int) (o2 : Nat → Nat) (sc2 : Nat → Int) (ar2 : Nat → Int → Int) (hf2 : ∀ x, 0 ≤ x → x < 8 → 0 ≤ ar2 2 x ∧ ar2 2 x ≤ 1) (hf3 : ∀ x, 0 ≤ x → x < 8 → 0 ≤ ar2 3 x ∧ ar2 3 x < 65536) (hf7 : ∀ x, 0 ≤ x → x < 24 → 0 ≤ ar2 7 x ∧ ar2 7 x ≤ 1) (sz : Nat) : Met l yX3_copyFrom (ws_ yX3_copyFrom cX3_copyFrom 2 none) { frames := 1, cells := 0, slots := 0, locals := 20 } (va_Pc [.ref (o 1), .ref (o2 1)] (UW E ((BW E o sc ar) ++ (BW E o2 sc2 ar2)) sz)) (UQv E ((BW E o sc (ua (ua (ua (ua (ua (ua (ua ar 2 (cp0 (ar2 2) (ar 2) 8)) 3 (cp0 (ar2 3) (ar 3) 8)) 4 (cp0 (ar2 4) (ar 4) 8)) 5 (cp0 (ar2 5) (ar 5) 8)) 6 (cp0 (ar2 6) (ar 6) 24)) 7 (cp0 (ar2 7) (ar 7) 24)) 8 (cp0 (ar2 8) (ar 8) 8))) ++ (BW E o2 sc2 ar2)) (va_A ((BW E o sc ar) ++ (BW E o2 sc2 ar2)) sz)) 0 0 (va_A ((BW E o sc ar) ++ (BW E o2 sc2 ar2)) sz) := by
  refine Met.ofW (cc := cX3_copyFrom) (maxL := 2) (ret := none) (by decide) rfl ?_
  intro p e s m args below meth c s₁ B hml hv
  obtain ⟨rfl, hsz, hP, hK, hD0⟩ := hv
  have hx := B.exec
  have hb := B.bytes
  have hr := B.returns
  have hts := atoms_spec (ws := (ws_ yX3_copyFrom cX3_copyFrom 2 none)) B.pre
  have hts : ∀ w ∈ lw_all, w.before _ s = true := fun w h => hts w (List.mem_cons_of_mem _ h)
  have hown : s.vm.findClass RX3 = some m.cls := findClass_of_methodNamed B.named
  have hlocks := B.notSynchronized
  subst hsz
  have hD := hD0.self (sz := s.heap.size)
  generalize hAe : va_A ((BW E o sc ar) ++ (BW E o2 sc2 ar2)) s.heap.size = A at hD ⊢
  have hA : ∀ q : Nat, s.heap.size ≤ q → A q := fun q h => by rw [← hAe]; exact Or.inr h
  have hS : va_S A s.heap s.heap [] := va_S.rf
  have hl := lv_entry ([.ref (o 1), .ref (o2 1)]) (n := 2) (Nat.le_of_ble_eq_true rfl)
  rw [lg_entry_eq]
  generalize (lg_sl ([.ref (o 1), .ref (o2 1)]) ++ List.replicate (2 - (lg_sl ([.ref (o 1), .ref (o2 1)])).length) Slot.unset).toArray = ls at hl ⊢
  have hl : lv_has ls 2 [(0, .ref (o 1)), (1, .ref (o2 1))] := hl
  refine lv_aload_n hx hb dX3_copyFrom_0 rfl (lv_at hl 1 rfl) ?_
  refine va_get (D := E.1) (ci := 3) (v := .ref (o2 2)) (C := RX3) (T := TX3) (N := 7) hx hb hts in_X3 hown hK.1 hP 8 rfl rfl 0 (by decide) (hts _ q152) (fun _ h9 => h9) rfl dX3_copyFrom_1 ?_
  refine lv_iconst (v := iI 0) hx hb dX3_copyFrom_4 rfl ?_
  refine lv_aload_n hx hb dX3_copyFrom_5 rfl (lv_at hl 0 rfl) ?_
  refine va_get (D := E.1) (ci := 3) (v := .ref (o 2)) (C := RX3) (T := TX3) (N := 7) hx hb hts in_X3 hown hK.1 hP 0 rfl rfl 0 (by decide) (hts _ q152) (fun _ h9 => h9) rfl dX3_copyFrom_6 ?_
  refine lv_iconst (v := iI 0) hx hb dX3_copyFrom_9 rfl ?_
  refine lv_bipush (v := iI 8) hx hb dX3_copyFrom_10 (by decide) ?_
  refine n_cp0 hx hb (hml.trans hl.1.symm) hown (hts _ q768) (hts _ q470) (hts _ q469) (hts _ q112) hK.1 hP hD hS 9 1 1 (f := ar2 2) (g := ar 2) rfl rfl rfl rfl (n := 8) (by omega) (by omega) (by omega) (fun x h1 h2 => ft_b (hf2 x h1 h2)) (Nat.le_of_ble_eq_true rfl) (Nat.le_of_ble_eq_true rfl) dX3_copyFrom_12 (w2 := (BW E o sc (ua ar 2 (cp0 (ar2 2) (ar 2) 8))) ++ (BW E o2 sc2 ar2)) rfl (fun H locs hP hD hS => ?_)
  refine lv_aload_n hx hb dX3_copyFrom_15 rfl (lv_at hl 1 rfl) ?_
  refine va_get (D := E.1) (ci := 3) (v := .ref (o2 3)) (C := RX3) (T := TX3) (N := 7) hx hb hts in_X3 hown hK.1 hP 8 rfl rfl 1 (by decide) (hts _ q156) (fun _ h9 => h9) rfl dX3_copyFrom_16 ?_
  refine lv_iconst (v := iI 0) hx hb dX3_copyFrom_19 rfl ?_
  refine lv_aload_n hx hb dX3_copyFrom_20 rfl (lv_at hl 0 rfl) ?_
  refine va_get (D := E.1) (ci := 3) (v := .ref (o 3)) (C := RX3) (T := TX3) (N := 7) hx hb hts in_X3 hown hK.1 hP 0 rfl rfl 1 (by decide) (hts _ q156) (fun _ h9 => h9) rfl dX3_copyFrom_21 ?_
  refine lv_iconst (v := iI 0) hx hb dX3_copyFrom_24 rfl ?_
  refine lv_bipush (v := iI 8) hx hb dX3_copyFrom_25 (by decide) ?_
  refine n_cp0 hx hb (hml.trans hl.1.symm) hown (hts _ q768) (hts _ q470) (hts _ q469) (hts _ q112) hK.1 hP hD hS 10 2 2 (f := ar2 3) (g := ar 3) rfl rfl rfl rfl (n := 8) (by omega) (by omega) (by omega) (fun x h1 h2 => ft_c (hf3 x h1 h2)) (Nat.le_of_ble_eq_true rfl) (Nat.le_of_ble_eq_true rfl) dX3_copyFrom_27 (w2 := (BW E o sc (ua (ua ar 2 (cp0 (ar2 2) (ar 2) 8)) 3 (cp0 (ar2 3) (ar 3) 8))) ++ (BW E o2 sc2 ar2)) rfl (fun H locs hP hD hS => ?_)
  refine lv_aload_n hx hb dX3_copyFrom_30 rfl (lv_at hl 1 rfl) ?_
  refine va_get (D := E.1) (ci := 3) (v := .ref (o2 4)) (C := RX3) (T := TX3) (N := 7) hx hb hts in_X3 hown hK.1 hP 8 rfl rfl 2 (by decide) (hts _ q160) (fun _ h9 => h9) rfl dX3_copyFrom_31 ?_
  refine lv_iconst (v := iI 0) hx hb dX3_copyFrom_34 rfl ?_
  refine lv_aload_n hx hb dX3_copyFrom_35 rfl (lv_at hl 0 rfl) ?_
  refine va_get (D := E.1) (ci := 3) (v := .ref (o 4)) (C := RX3) (T := TX3) (N := 7) hx hb hts in_X3 hown hK.1 hP 0 rfl rfl 2 (by decide) (hts _ q160) (fun _ h9 => h9) rfl dX3_copyFrom_36 ?_
  refine lv_iconst (v := iI 0) hx hb dX3_copyFrom_39 rfl ?_
  refine lv_bipush (v := iI 8) hx hb dX3_copyFrom_40 (by decide) ?_
  refine n_cp0 hx hb (hml.trans hl.1.symm) hown (hts _ q768) (hts _ q470) (hts _ q469) (hts _ q112) hK.1 hP hD hS 11 3 0 (f := ar2 4) (g := ar 4) rfl rfl rfl rfl (n := 8) (by omega) (by omega) (by omega) (fun x _ _ => rfl) (Nat.le_of_ble_eq_true rfl) (Nat.le_of_ble_eq_true rfl) dX3_copyFrom_42 (w2 := (BW E o sc (ua (ua (ua ar 2 (cp0 (ar2 2) (ar 2) 8)) 3 (cp0 (ar2 3) (ar 3) 8)) 4 (cp0 (ar2 4) (ar 4) 8))) ++ (BW E o2 sc2 ar2)) rfl (fun H locs hP hD hS => ?_)
  refine lv_aload_n hx hb dX3_copyFrom_45 rfl (lv_at hl 1 rfl) ?_
  refine va_get (D := E.1) (ci := 3) (v := .ref (o2 5)) (C := RX3) (T := TX3) (N := 7) hx hb hts in_X3 hown hK.1 hP 8 rfl rfl 3 (by decide) (hts _ q162) (fun _ h9 => h9) rfl dX3_copyFrom_46 ?_
  refine lv_iconst (v := iI 0) hx hb dX3_copyFrom_49 rfl ?_
  refine lv_aload_n hx hb dX3_copyFrom_50 rfl (lv_at hl 0 rfl) ?_
  refine va_get (D := E.1) (ci := 3) (v := .ref (o 5)) (C := RX3) (T := TX3) (N := 7) hx hb hts in_X3 hown hK.1 hP 0 rfl rfl 3 (by decide) (hts _ q162) (fun _ h9 => h9) rfl dX3_copyFrom_51 ?_
  refine lv_iconst (v := iI 0) hx hb dX3_copyFrom_54 rfl ?_
  refine lv_bipush (v := iI 8) hx hb dX3_copyFrom_55 (by decide) ?_
  refine n_cp0 hx hb (hml.trans hl.1.symm) hown (hts _ q768) (hts _ q470) (hts _ q469) (hts _ q112) hK.1 hP hD hS 12 4 0 (f := ar2 5) (g := ar 5) rfl rfl rfl rfl (n := 8) (by omega) (by omega) (by omega) (fun x _ _ => rfl) (Nat.le_of_ble_eq_true rfl) (Nat.le_of_ble_eq_true rfl) dX3_copyFrom_57 (w2 := (BW E o sc (ua (ua (ua (ua ar 2 (cp0 (ar2 2) (ar 2) 8)) 3 (cp0 (ar2 3) (ar 3) 8)) 4 (cp0 (ar2 4) (ar 4) 8)) 5 (cp0 (ar2 5) (ar 5) 8))) ++ (BW E o2 sc2 ar2)) rfl (fun H locs hP hD hS => ?_)
  refine lv_aload_n hx hb dX3_copyFrom_60 rfl (lv_at hl 1 rfl) ?_
  refine va_get (D := E.1) (ci := 3) (v := .ref (o2 6)) (C := RX3) (T := TX3) (N := 7) hx hb hts in_X3 hown hK.1 hP 8 rfl rfl 4 (by decide) (hts _ q166) (fun _ h9 => h9) rfl dX3_copyFrom_61 ?_
  refine lv_iconst (v := iI 0) hx hb dX3_copyFrom_64 rfl ?_
  refine lv_aload_n hx hb dX3_copyFrom_65 rfl (lv_at hl 0 rfl) ?_
  refine va_get (D := E.1) (ci := 3) (v := .ref (o 6)) (C := RX3) (T := TX3) (N := 7) hx hb hts in_X3 hown hK.1 hP 0 rfl rfl 4 (by decide) (hts _ q166) (fun _ h9 => h9) rfl dX3_copyFrom_66 ?_
  refine lv_iconst (v := iI 0) hx hb dX3_copyFrom_69 rfl ?_
  refine lv_bipush (v := iI 24) hx hb dX3_copyFrom_70 (by decide) ?_
  refine n_cp0 hx hb (hml.trans hl.1.symm) hown (hts _ q768) (hts _ q470) (hts _ q469) (hts _ q112) hK.1 hP hD hS 13 5 0 (f := ar2 6) (g := ar 6) rfl rfl rfl rfl (n := 24) (by omega) (by omega) (by omega) (fun x _ _ => rfl) (Nat.le_of_ble_eq_true rfl) (Nat.le_of_ble_eq_true rfl) dX3_copyFrom_72 (w2 := (BW E o sc (ua (ua (ua (ua (ua ar 2 (cp0 (ar2 2) (ar 2) 8)) 3 (cp0 (ar2 3) (ar 3) 8)) 4 (cp0 (ar2 4) (ar 4) 8)) 5 (cp0 (ar2 5) (ar 5) 8)) 6 (cp0 (ar2 6) (ar 6) 24))) ++ (BW E o2 sc2 ar2)) rfl (fun H locs hP hD hS => ?_)
  refine lv_aload_n hx hb dX3_copyFrom_75 rfl (lv_at hl 1 rfl) ?_
  refine va_get (D := E.1) (ci := 3) (v := .ref (o2 7)) (C := RX3) (T := TX3) (N := 7) hx hb hts in_X3 hown hK.1 hP 8 rfl rfl 5 (by decide) (hts _ q167) (fun _ h9 => h9) rfl dX3_copyFrom_76 ?_
  refine lv_iconst (v := iI 0) hx hb dX3_copyFrom_79 rfl ?_
  refine lv_aload_n hx hb dX3_copyFrom_80 rfl (lv_at hl 0 rfl) ?_
  refine va_get (D := E.1) (ci := 3) (v := .ref (o 7)) (C := RX3) (T := TX3) (N := 7) hx hb hts in_X3 hown hK.1 hP 0 rfl rfl 5 (by decide) (hts _ q167) (fun _ h9 => h9) rfl dX3_copyFrom_81 ?_
  refine lv_iconst (v := iI 0) hx hb dX3_copyFrom_84 rfl ?_
  refine lv_bipush (v := iI 24) hx hb dX3_copyFrom_85 (by decide) ?_
  refine n_cp0 hx hb (hml.trans hl.1.symm) hown (hts _ q768) (hts _ q470) (hts _ q469) (hts _ q112) hK.1 hP hD hS 14 6 1 (f := ar2 7) (g := ar 7) rfl rfl rfl rfl (n := 24) (by omega) (by omega) (by omega) (fun x h1 h2 => ft_b (hf7 x h1 h2)) (Nat.le_of_ble_eq_true rfl) (Nat.le_of_ble_eq_true rfl) dX3_copyFrom_87 (w2 := (BW E o sc (ua (ua (ua (ua (ua (ua ar 2 (cp0 (ar2 2) (ar 2) 8)) 3 (cp0 (ar2 3) (ar 3) 8)) 4 (cp0 (ar2 4) (ar 4) 8)) 5 (cp0 (ar2 5) (ar 5) 8)) 6 (cp0 (ar2 6) (ar 6) 24)) 7 (cp0 (ar2 7) (ar 7) 24))) ++ (BW E o2 sc2 ar2)) rfl (fun H locs hP hD hS => ?_)
  refine lv_aload_n hx hb dX3_copyFrom_90 rfl (lv_at hl 1 rfl) ?_
  refine va_get (D := E.1) (ci := 3) (v := .ref (o2 8)) (C := RX3) (T := TX3) (N := 7) hx hb hts in_X3 hown hK.1 hP 8 rfl rfl 6 (by decide) (hts _ q168) (fun _ h9 => h9) rfl dX3_copyFrom_91 ?_
  refine lv_iconst (v := iI 0) hx hb dX3_copyFrom_94 rfl ?_
  refine lv_aload_n hx hb dX3_copyFrom_95 rfl (lv_at hl 0 rfl) ?_
  refine va_get (D := E.1) (ci := 3) (v := .ref (o 8)) (C := RX3) (T := TX3) (N := 7) hx hb hts in_X3 hown hK.1 hP 0 rfl rfl 6 (by decide) (hts _ q168) (fun _ h9 => h9) rfl dX3_copyFrom_96 ?_
  refine lv_iconst (v := iI 0) hx hb dX3_copyFrom_99 rfl ?_
  refine lv_bipush (v := iI 8) hx hb dX3_copyFrom_100 (by decide) ?_
  refine n_cp0 hx hb (hml.trans hl.1.symm) hown (hts _ q768) (hts _ q470) (hts _ q469) (hts _ q112) hK.1 hP hD hS 15 7 0 (f := ar2 8) (g := ar 8) rfl rfl rfl rfl (n := 8) (by omega) (by omega) (by omega) (fun x _ _ => rfl) (Nat.le_of_ble_eq_true rfl) (Nat.le_of_ble_eq_true rfl) dX3_copyFrom_102 (w2 := (BW E o sc (ua (ua (ua (ua (ua (ua (ua ar 2 (cp0 (ar2 2) (ar 2) 8)) 3 (cp0 (ar2 3) (ar 3) 8)) 4 (cp0 (ar2 4) (ar 4) 8)) 5 (cp0 (ar2 5) (ar 5) 8)) 6 (cp0 (ar2 6) (ar 6) 24)) 7 (cp0 (ar2 7) (ar 7) 24)) 8 (cp0 (ar2 8) (ar 8) 8))) ++ (BW E o2 sc2 ar2)) rfl (fun H locs hP hD hS => ?_)
  exact W.vret hx hb hr (fun tt_ ht_ hW_ => ⟨⟨(), rfl, trivial, by rw [ht_]; exact hP, hD⟩, hS.F ht_⟩) hS.2.2 dX3_copyFrom_105
set_option maxHeartbeats 1000000 in
set_option maxRecDepth 100000 in
theorem mt_X2_copyFrom (l : Launch) (E : EE) (o : Nat → Nat) (sc : Nat → Int) (ar : Nat → Int → Int) (o2 : Nat → Nat) (sc2 : Nat → Int) (ar2 : Nat → Int → Int)  (g : Int → Int) (hsr : SR g sc2 ar2) (how : OY g) (sz : Nat) : Met l yX2_copyFrom (ws_ yX2_copyFrom cX2_copyFrom 2 none) { frames := 2, cells := 0, slots := 0, locals := 41 } (va_Pc [.ref (o 0), .ref (o2 0)] (UW E ((SW E o sc ar) ++ (SW E o2 sc2 ar2)) sz)) (UQxv E (fun u : SU => SR g u.1 u.2) (fun u : SU => (SW E o u.1 u.2) ++ (SW E o2 sc2 ar2)) (va_A ((SW E o sc ar) ++ (SW E o2 sc2 ar2)) sz)) 0 0 (va_A ((SW E o sc ar) ++ (SW E o2 sc2 ar2)) sz) := by
  refine Met.ofW (cc := cX2_copyFrom) (maxL := 2) (ret := none) (by decide) rfl ?_
  intro p e s m args below meth c s₁ B hml hv
  obtain ⟨rfl, hsz, hP, hK, hD0⟩ := hv
  have hx := B.exec
  have hb := B.bytes
  have hr := B.returns
  have hts := atoms_spec (ws := (ws_ yX2_copyFrom cX2_copyFrom 2 none)) B.pre
  have hts : ∀ w ∈ lw_all, w.before _ s = true := fun w h => hts w (List.mem_cons_of_mem _ h)
  have hown : s.vm.findClass RX2 = some m.cls := findClass_of_methodNamed B.named
  have hlocks := B.notSynchronized
  subst hsz
  have hD := hD0.self (sz := s.heap.size)
  generalize hAe : va_A ((SW E o sc ar) ++ (SW E o2 sc2 ar2)) s.heap.size = A at hD ⊢
  have hA : ∀ q : Nat, s.heap.size ≤ q → A q := fun q h => by rw [← hAe]; exact Or.inr h
  have hS : va_S A s.heap s.heap [] := va_S.rf
  have hl := lv_entry ([.ref (o 0), .ref (o2 0)]) (n := 2) (Nat.le_of_ble_eq_true rfl)
  rw [lg_entry_eq]
  generalize (lg_sl ([.ref (o 0), .ref (o2 0)]) ++ List.replicate (2 - (lg_sl ([.ref (o 0), .ref (o2 0)])).length) Slot.unset).toArray = ls at hl ⊢
  have hl : lv_has ls 2 [(0, .ref (o 0)), (1, .ref (o2 0))] := hl
  have hn1 := hsr.n1
  have ho1 := how.1
  have ho2 := how.2.1
  refine lv_aload_n hx hb dX2_copyFrom_0 rfl (lv_at hl 0 rfl) ?_
  refine lv_iconst (v := iI 0) hx hb dX2_copyFrom_1 rfl ?_
  refine va_put (D := E.1) (ci := 2) (v := iv 0) (ty := .int) (C := RX2) (T := TX2) (N := 14) hx hb hts in_X2 tyX2 tyX2_ok nmX2 hown hK.1 hP hD hS 0 rfl rfl 13 (by decide) (hts _ q212) (fun _ h9 => h9) rfl (by decide +kernel) rfl rfl (Nat.le_of_ble_eq_true rfl) dX2_copyFrom_2 (fun H locs hP hD hS => ?_)
  have hP : va_P E.1 CL ((SW E o (us sc 13 0) ar) ++ (SW E o2 sc2 ar2)) H := hP
  have hD : va_D A ((SW E o (us sc 13 0) ar) ++ (SW E o2 sc2 ar2)) := hD
  refine lv_aload_n hx hb dX2_copyFrom_5 rfl (lv_at hl 0 rfl) ?_
  refine va_get (D := E.1) (ci := 2) (v := .ref (o 1)) (C := RX2) (T := TX2) (N := 14) hx hb hts in_X2 hown hK.1 hP 0 rfl rfl 0 (by decide) (hts _ q188) (fun _ h9 => h9) rfl dX2_copyFrom_6 ?_
  refine lv_aload_n hx hb dX2_copyFrom_9 rfl (lv_at hl 1 rfl) ?_
  refine va_get (D := E.1) (ci := 2) (v := .ref (o2 1)) (C := RX2) (T := TX2) (N := 14) hx hb hts in_X2 hown hK.1 hP 17 rfl rfl 0 (by decide) (hts _ q188) (fun _ h9 => h9) rfl dX2_copyFrom_10 ?_
  refine n_cuvS (w2 := (SW E o (us sc 13 0) (ua (ua (ua (ua (ua (ua (ua ar 2 (cp0 (ar2 2) (ar 2) 8)) 3 (cp0 (ar2 3) (ar 3) 8)) 4 (cp0 (ar2 4) (ar 4) 8)) 5 (cp0 (ar2 5) (ar 5) 8)) 6 (cp0 (ar2 6) (ar 6) 24)) 7 (cp0 (ar2 7) (ar 7) 24)) 8 (cp0 (ar2 8) (ar 8) 8))) ++ (SW E o2 sc2 ar2)) (va_runV (As := [.ref (o2 1)]) (rest := []) ⟨hx, hb, hml, hown, hts⟩ (mt_X3_copyFrom l E o (us sc 13 0) ar o2 sc2 ar2  (by exact hsr.br.r2) (by exact hsr.2.1.1) (by exact hsr.2.1.2) _) (cwV 1 hts (lw_V q764 q765 q766 q96 q767) rfl rfl rfl (by decide +kernel) ⟨Nat.le_of_ble_eq_true rfl, Nat.le_of_ble_eq_true rfl⟩) (UW_V (hP.sub (ws' := (BW E o (us sc 13 0) ar) ++ (BW E o2 sc2 ar2)) [1, 2, 3, 4, 5, 6, 7, 8, 18, 19, 20, 21, 22, 23, 24, 25] rfl) hK (hD.sub (ws' := (BW E o (us sc 13 0) ar) ++ (BW E o2 sc2 ar2)) [1, 2, 3, 4, 5, 6, 7, 8, 18, 19, 20, 21, 22, 23, 24, 25] rfl rfl) (va_recv hK.1 hP (ci := 3) (q0 := 1) rfl rfl)) rfl rfl hl.1 rfl (lv_room (Nat.le_of_ble_eq_true rfl)) dX2_copyFrom_13 ⟨Nat.le_of_ble_eq_true rfl, Nat.le_of_ble_eq_true rfl⟩) hP hD hS hA [1, 2, 3, 4, 5, 6, 7, 8, 18, 19, 20, 21, 22, 23, 24, 25] [0, 9, 10, 11, 12, 13, 14, 15, 16, 17, 26, 27, 28, 29, 30, 31, 32, 33] [0, 18, 19, 20, 21, 22, 23, 24, 25, 1, 2, 3, 4, 5, 6, 7, 8, 9, 26, 27, 28, 29, 30, 31, 32, 33, 10, 11, 12, 13, 14, 15, 16, 17] rfl rfl rfl rfl rfl rfl (fun H locs hP hD hS => ?_)
  have hP : va_P E.1 CL ((SW E o (us sc 13 0) (ua (ua (ua (ua (ua (ua (ua ar 2 (cp0 (ar2 2) (ar 2) 8)) 3 (cp0 (ar2 3) (ar 3) 8)) 4 (cp0 (ar2 4) (ar 4) 8)) 5 (cp0 (ar2 5) (ar 5) 8)) 6 (cp0 (ar2 6) (ar 6) 24)) 7 (cp0 (ar2 7) (ar 7) 24)) 8 (cp0 (ar2 8) (ar 8) 8))) ++ (SW E o2 sc2 ar2)) H := hP
  have hD : va_D A ((SW E o (us sc 13 0) (ua (ua (ua (ua (ua (ua (ua ar 2 (cp0 (ar2 2) (ar 2) 8)) 3 (cp0 (ar2 3) (ar 3) 8)) 4 (cp0 (ar2 4) (ar 4) 8)) 5 (cp0 (ar2 5) (ar 5) 8)) 6 (cp0 (ar2 6) (ar 6) 24)) 7 (cp0 (ar2 7) (ar 7) 24)) 8 (cp0 (ar2 8) (ar 8) 8))) ++ (SW E o2 sc2 ar2)) := hD
  refine lv_aload_n hx hb dX2_copyFrom_16 rfl (lv_at hl 1 rfl) ?_
  refine va_get (D := E.1) (ci := 2) (v := .ref (o2 9)) (C := RX2) (T := TX2) (N := 14) hx hb hts in_X2 hown hK.1 hP 17 rfl rfl 1 (by decide) (hts _ q191) (fun _ h9 => h9) rfl dX2_copyFrom_17 ?_
  refine lv_iconst (v := iI 0) hx hb dX2_copyFrom_20 rfl ?_
  refine lv_aload_n hx hb dX2_copyFrom_21 rfl (lv_at hl 0 rfl) ?_
  refine va_get (D := E.1) (ci := 2) (v := .ref (o 9)) (C := RX2) (T := TX2) (N := 14) hx hb hts in_X2 hown hK.1 hP 0 rfl rfl 1 (by decide) (hts _ q191) (fun _ h9 => h9) rfl dX2_copyFrom_22 ?_
  refine lv_iconst (v := iI 0) hx hb dX2_copyFrom_25 rfl ?_
  refine lv_iconst (v := iI 4) hx hb dX2_copyFrom_26 rfl ?_
  refine n_cp0 hx hb (hml.trans hl.1.symm) hown (hts _ q769) (hts _ q470) (hts _ q469) (hts _ q112) hK.1 hP hD hS 26 9 1 (f := ar2 9) (g := ar 9) rfl rfl rfl rfl (n := 4) (by omega) (by omega) (by omega) (fun x h1 h2 => ft_b (hsr.r9 x h1 h2)) (Nat.le_of_ble_eq_true rfl) (Nat.le_of_ble_eq_true rfl) dX2_copyFrom_27 (w2 := (SW E o (us sc 13 0) (ua (ua (ua (ua (ua (ua (ua (ua ar 2 (cp0 (ar2 2) (ar 2) 8)) 3 (cp0 (ar2 3) (ar 3) 8)) 4 (cp0 (ar2 4) (ar 4) 8)) 5 (cp0 (ar2 5) (ar 5) 8)) 6 (cp0 (ar2 6) (ar 6) 24)) 7 (cp0 (ar2 7) (ar 7) 24)) 8 (cp0 (ar2 8) (ar 8) 8)) 9 (cp0 (ar2 9) (ar 9) 4))) ++ (SW E o2 sc2 ar2)) rfl (fun H locs hP hD hS => ?_)
  refine lv_aload_n hx hb dX2_copyFrom_30 rfl (lv_at hl 0 rfl) ?_
  refine lv_aload_n hx hb dX2_copyFrom_31 rfl (lv_at hl 1 rfl) ?_
  refine va_get (D := E.1) (ci := 2) (v := iv (sc2 2)) (C := RX2) (T := TX2) (N := 14) hx hb hts in_X2 hown hK.1 hP 17 rfl rfl 2 (by decide) (hts _ q193) (fun _ h9 => h9) rfl dX2_copyFrom_32 ?_
  refine va_put (D := E.1) (ci := 2) (v := iv (sc2 2)) (ty := .int) (C := RX2) (T := TX2) (N := 14) hx hb hts in_X2 tyX2 tyX2_ok nmX2 hown hK.1 hP hD hS 0 rfl rfl 2 (by decide) (hts _ q193) (fun _ h9 => h9) rfl (by decide +kernel) rfl rfl (Nat.le_of_ble_eq_true rfl) dX2_copyFrom_35 (fun H locs hP hD hS => ?_)
  have hP : va_P E.1 CL ((SW E o (us (us sc 2 (sc2 2)) 13 0) (ua (ua (ua (ua (ua (ua (ua (ua ar 2 (cp0 (ar2 2) (ar 2) 8)) 3 (cp0 (ar2 3) (ar 3) 8)) 4 (cp0 (ar2 4) (ar 4) 8)) 5 (cp0 (ar2 5) (ar 5) 8)) 6 (cp0 (ar2 6) (ar 6) 24)) 7 (cp0 (ar2 7) (ar 7) 24)) 8 (cp0 (ar2 8) (ar 8) 8)) 9 (cp0 (ar2 9) (ar 9) 4))) ++ (SW E o2 sc2 ar2)) H := hP
  have hD : va_D A ((SW E o (us (us sc 2 (sc2 2)) 13 0) (ua (ua (ua (ua (ua (ua (ua (ua ar 2 (cp0 (ar2 2) (ar 2) 8)) 3 (cp0 (ar2 3) (ar 3) 8)) 4 (cp0 (ar2 4) (ar 4) 8)) 5 (cp0 (ar2 5) (ar 5) 8)) 6 (cp0 (ar2 6) (ar 6) 24)) 7 (cp0 (ar2 7) (ar 7) 24)) 8 (cp0 (ar2 8) (ar 8) 8)) 9 (cp0 (ar2 9) (ar 9) 4))) ++ (SW E o2 sc2 ar2)) := hD
  refine lv_aload_n hx hb dX2_copyFrom_38 rfl (lv_at hl 1 rfl) ?_
  refine va_get (D := E.1) (ci := 2) (v := .ref (o2 10)) (C := RX2) (T := TX2) (N := 14) hx hb hts in_X2 hown hK.1 hP 17 rfl rfl 3 (by decide) (hts _ q195) (fun _ h9 => h9) rfl dX2_copyFrom_39 ?_
  refine lv_iconst (v := iI 0) hx hb dX2_copyFrom_42 rfl ?_
  refine lv_aload_n hx hb dX2_copyFrom_43 rfl (lv_at hl 0 rfl) ?_
  refine va_get (D := E.1) (ci := 2) (v := .ref (o 10)) (C := RX2) (T := TX2) (N := 14) hx hb hts in_X2 hown hK.1 hP 0 rfl rfl 3 (by decide) (hts _ q195) (fun _ h9 => h9) rfl dX2_copyFrom_44 ?_
  refine lv_iconst (v := iI 0) hx hb dX2_copyFrom_47 rfl ?_
  refine lv_aload_n hx hb dX2_copyFrom_48 rfl (lv_at hl 0 rfl) ?_
  refine va_get (D := E.1) (ci := 2) (v := iv (sc2 2)) (C := RX2) (T := TX2) (N := 14) hx hb hts in_X2 hown hK.1 hP 0 rfl rfl 2 (by decide) (hts _ q193) (fun _ h9 => h9) rfl dX2_copyFrom_49 ?_
  refine n_cp0 hx hb (hml.trans hl.1.symm) hown (hts _ q769) (hts _ q470) (hts _ q469) (hts _ q112) hK.1 hP hD hS 27 10 0 (f := ar2 10) (g := ar 10) rfl rfl rfl rfl (n := sc2 2) (by omega) (by omega) (by omega) (fun x _ _ => rfl) (Nat.le_of_ble_eq_true rfl) (Nat.le_of_ble_eq_true rfl) dX2_copyFrom_52 (w2 := (SW E o (us (us sc 2 (sc2 2)) 13 0) (ua (ua (ua (ua (ua (ua (ua (ua (ua ar 2 (cp0 (ar2 2) (ar 2) 8)) 3 (cp0 (ar2 3) (ar 3) 8)) 4 (cp0 (ar2 4) (ar 4) 8)) 5 (cp0 (ar2 5) (ar 5) 8)) 6 (cp0 (ar2 6) (ar 6) 24)) 7 (cp0 (ar2 7) (ar 7) 24)) 8 (cp0 (ar2 8) (ar 8) 8)) 9 (cp0 (ar2 9) (ar 9) 4)) 10 (cp0 (ar2 10) (ar 10) (sc2 2)))) ++ (SW E o2 sc2 ar2)) rfl (fun H locs hP hD hS => ?_)
  refine lv_aload_n hx hb dX2_copyFrom_55 rfl (lv_at hl 1 rfl) ?_
  refine va_get (D := E.1) (ci := 2) (v := .ref (o2 11)) (C := RX2) (T := TX2) (N := 14) hx hb hts in_X2 hown hK.1 hP 17 rfl rfl 4 (by decide) (hts _ q197) (fun _ h9 => h9) rfl dX2_copyFrom_56 ?_
  refine lv_iconst (v := iI 0) hx hb dX2_copyFrom_59 rfl ?_
  refine lv_aload_n hx hb dX2_copyFrom_60 rfl (lv_at hl 0 rfl) ?_
  refine va_get (D := E.1) (ci := 2) (v := .ref (o 11)) (C := RX2) (T := TX2) (N := 14) hx hb hts in_X2 hown hK.1 hP 0 rfl rfl 4 (by decide) (hts _ q197) (fun _ h9 => h9) rfl dX2_copyFrom_61 ?_
  refine lv_iconst (v := iI 0) hx hb dX2_copyFrom_64 rfl ?_
  refine lv_aload_n hx hb dX2_copyFrom_65 rfl (lv_at hl 0 rfl) ?_
  refine va_get (D := E.1) (ci := 2) (v := iv (sc2 2)) (C := RX2) (T := TX2) (N := 14) hx hb hts in_X2 hown hK.1 hP 0 rfl rfl 2 (by decide) (hts _ q193) (fun _ h9 => h9) rfl dX2_copyFrom_66 ?_
  refine n_cp0 hx hb (hml.trans hl.1.symm) hown (hts _ q769) (hts _ q470) (hts _ q469) (hts _ q112) hK.1 hP hD hS 28 11 0 (f := ar2 11) (g := ar 11) rfl rfl rfl rfl (n := sc2 2) (by omega) (by omega) (by omega) (fun x _ _ => rfl) (Nat.le_of_ble_eq_true rfl) (Nat.le_of_ble_eq_true rfl) dX2_copyFrom_69 (w2 := (SW E o (us (us sc 2 (sc2 2)) 13 0) (ua (ua (ua (ua (ua (ua (ua (ua (ua (ua ar 2 (cp0 (ar2 2) (ar 2) 8)) 3 (cp0 (ar2 3) (ar 3) 8)) 4 (cp0 (ar2 4) (ar 4) 8)) 5 (cp0 (ar2 5) (ar 5) 8)) 6 (cp0 (ar2 6) (ar 6) 24)) 7 (cp0 (ar2 7) (ar 7) 24)) 8 (cp0 (ar2 8) (ar 8) 8)) 9 (cp0 (ar2 9) (ar 9) 4)) 10 (cp0 (ar2 10) (ar 10) (sc2 2))) 11 (cp0 (ar2 11) (ar 11) (sc2 2)))) ++ (SW E o2 sc2 ar2)) rfl (fun H locs hP hD hS => ?_)
  refine lv_aload_n hx hb dX2_copyFrom_72 rfl (lv_at hl 1 rfl) ?_
  refine va_get (D := E.1) (ci := 2) (v := .ref (o2 12)) (C := RX2) (T := TX2) (N := 14) hx hb hts in_X2 hown hK.1 hP 17 rfl rfl 5 (by decide) (hts _ q199) (fun _ h9 => h9) rfl dX2_copyFrom_73 ?_
  refine lv_iconst (v := iI 0) hx hb dX2_copyFrom_76 rfl ?_
  refine lv_aload_n hx hb dX2_copyFrom_77 rfl (lv_at hl 0 rfl) ?_
  refine va_get (D := E.1) (ci := 2) (v := .ref (o 12)) (C := RX2) (T := TX2) (N := 14) hx hb hts in_X2 hown hK.1 hP 0 rfl rfl 5 (by decide) (hts _ q199) (fun _ h9 => h9) rfl dX2_copyFrom_78 ?_
  refine lv_iconst (v := iI 0) hx hb dX2_copyFrom_81 rfl ?_
  refine lv_aload_n hx hb dX2_copyFrom_82 rfl (lv_at hl 0 rfl) ?_
  refine va_get (D := E.1) (ci := 2) (v := iv (sc2 2)) (C := RX2) (T := TX2) (N := 14) hx hb hts in_X2 hown hK.1 hP 0 rfl rfl 2 (by decide) (hts _ q193) (fun _ h9 => h9) rfl dX2_copyFrom_83 ?_
  refine n_cp0 hx hb (hml.trans hl.1.symm) hown (hts _ q769) (hts _ q470) (hts _ q469) (hts _ q112) hK.1 hP hD hS 29 12 1 (f := ar2 12) (g := ar 12) rfl rfl rfl rfl (n := sc2 2) (by omega) (by omega) (by omega) (fun x h1 h2 => ft_b (hsr.r12 x h1 h2)) (Nat.le_of_ble_eq_true rfl) (Nat.le_of_ble_eq_true rfl) dX2_copyFrom_86 (w2 := (SW E o (us (us sc 2 (sc2 2)) 13 0) (ua (ua (ua (ua (ua (ua (ua (ua (ua (ua (ua ar 2 (cp0 (ar2 2) (ar 2) 8)) 3 (cp0 (ar2 3) (ar 3) 8)) 4 (cp0 (ar2 4) (ar 4) 8)) 5 (cp0 (ar2 5) (ar 5) 8)) 6 (cp0 (ar2 6) (ar 6) 24)) 7 (cp0 (ar2 7) (ar 7) 24)) 8 (cp0 (ar2 8) (ar 8) 8)) 9 (cp0 (ar2 9) (ar 9) 4)) 10 (cp0 (ar2 10) (ar 10) (sc2 2))) 11 (cp0 (ar2 11) (ar 11) (sc2 2))) 12 (cp0 (ar2 12) (ar 12) (sc2 2)))) ++ (SW E o2 sc2 ar2)) rfl (fun H locs hP hD hS => ?_)
  refine lv_aload_n hx hb dX2_copyFrom_89 rfl (lv_at hl 1 rfl) ?_
  refine va_get (D := E.1) (ci := 2) (v := .ref (o2 13)) (C := RX2) (T := TX2) (N := 14) hx hb hts in_X2 hown hK.1 hP 17 rfl rfl 6 (by decide) (hts _ q201) (fun _ h9 => h9) rfl dX2_copyFrom_90 ?_
  refine lv_iconst (v := iI 0) hx hb dX2_copyFrom_93 rfl ?_
  refine lv_aload_n hx hb dX2_copyFrom_94 rfl (lv_at hl 0 rfl) ?_
  refine va_get (D := E.1) (ci := 2) (v := .ref (o 13)) (C := RX2) (T := TX2) (N := 14) hx hb hts in_X2 hown hK.1 hP 0 rfl rfl 6 (by decide) (hts _ q201) (fun _ h9 => h9) rfl dX2_copyFrom_95 ?_
  refine lv_iconst (v := iI 0) hx hb dX2_copyFrom_98 rfl ?_
  refine lv_aload_n hx hb dX2_copyFrom_99 rfl (lv_at hl 0 rfl) ?_
  refine va_get (D := E.1) (ci := 2) (v := iv (sc2 2)) (C := RX2) (T := TX2) (N := 14) hx hb hts in_X2 hown hK.1 hP 0 rfl rfl 2 (by decide) (hts _ q193) (fun _ h9 => h9) rfl dX2_copyFrom_100 ?_
  refine n_cp0 hx hb (hml.trans hl.1.symm) hown (hts _ q769) (hts _ q470) (hts _ q469) (hts _ q112) hK.1 hP hD hS 30 13 0 (f := ar2 13) (g := ar 13) rfl rfl rfl rfl (n := sc2 2) (by omega) (by omega) (by omega) (fun x _ _ => rfl) (Nat.le_of_ble_eq_true rfl) (Nat.le_of_ble_eq_true rfl) dX2_copyFrom_103 (w2 := (SW E o (us (us sc 2 (sc2 2)) 13 0) (ua (ua (ua (ua (ua (ua (ua (ua (ua (ua (ua (ua ar 2 (cp0 (ar2 2) (ar 2) 8)) 3 (cp0 (ar2 3) (ar 3) 8)) 4 (cp0 (ar2 4) (ar 4) 8)) 5 (cp0 (ar2 5) (ar 5) 8)) 6 (cp0 (ar2 6) (ar 6) 24)) 7 (cp0 (ar2 7) (ar 7) 24)) 8 (cp0 (ar2 8) (ar 8) 8)) 9 (cp0 (ar2 9) (ar 9) 4)) 10 (cp0 (ar2 10) (ar 10) (sc2 2))) 11 (cp0 (ar2 11) (ar 11) (sc2 2))) 12 (cp0 (ar2 12) (ar 12) (sc2 2))) 13 (cp0 (ar2 13) (ar 13) (sc2 2)))) ++ (SW E o2 sc2 ar2)) rfl (fun H locs hP hD hS => ?_)
  refine lv_aload_n hx hb dX2_copyFrom_106 rfl (lv_at hl 1 rfl) ?_
  refine va_get (D := E.1) (ci := 2) (v := .ref (o2 14)) (C := RX2) (T := TX2) (N := 14) hx hb hts in_X2 hown hK.1 hP 17 rfl rfl 7 (by decide) (hts _ q202) (fun _ h9 => h9) rfl dX2_copyFrom_107 ?_
  refine lv_iconst (v := iI 0) hx hb dX2_copyFrom_110 rfl ?_
  refine lv_aload_n hx hb dX2_copyFrom_111 rfl (lv_at hl 0 rfl) ?_
  refine va_get (D := E.1) (ci := 2) (v := .ref (o 14)) (C := RX2) (T := TX2) (N := 14) hx hb hts in_X2 hown hK.1 hP 0 rfl rfl 7 (by decide) (hts _ q202) (fun _ h9 => h9) rfl dX2_copyFrom_112 ?_
  refine lv_iconst (v := iI 0) hx hb dX2_copyFrom_115 rfl ?_
  refine lv_aload_n hx hb dX2_copyFrom_116 rfl (lv_at hl 0 rfl) ?_
  refine va_get (D := E.1) (ci := 2) (v := iv (sc2 2)) (C := RX2) (T := TX2) (N := 14) hx hb hts in_X2 hown hK.1 hP 0 rfl rfl 2 (by decide) (hts _ q193) (fun _ h9 => h9) rfl dX2_copyFrom_117 ?_
  refine lv_iconst (v := iI 3) hx hb dX2_copyFrom_120 rfl ?_
  refine n_imul hx hb dX2_copyFrom_121 ?_
  refine n_cp0 hx hb (hml.trans hl.1.symm) hown (hts _ q769) (hts _ q470) (hts _ q469) (hts _ q112) hK.1 hP hD hS 31 14 0 (f := ar2 14) (g := ar 14) rfl rfl rfl rfl (n := (sc2 2) * 3) (by omega) (by omega) (by omega) (fun x _ _ => rfl) (Nat.le_of_ble_eq_true rfl) (Nat.le_of_ble_eq_true rfl) dX2_copyFrom_122 (w2 := (SW E o (us (us sc 2 (sc2 2)) 13 0) (ua (ua (ua (ua (ua (ua (ua (ua (ua (ua (ua (ua (ua ar 2 (cp0 (ar2 2) (ar 2) 8)) 3 (cp0 (ar2 3) (ar 3) 8)) 4 (cp0 (ar2 4) (ar 4) 8)) 5 (cp0 (ar2 5) (ar 5) 8)) 6 (cp0 (ar2 6) (ar 6) 24)) 7 (cp0 (ar2 7) (ar 7) 24)) 8 (cp0 (ar2 8) (ar 8) 8)) 9 (cp0 (ar2 9) (ar 9) 4)) 10 (cp0 (ar2 10) (ar 10) (sc2 2))) 11 (cp0 (ar2 11) (ar 11) (sc2 2))) 12 (cp0 (ar2 12) (ar 12) (sc2 2))) 13 (cp0 (ar2 13) (ar 13) (sc2 2))) 14 (cp0 (ar2 14) (ar 14) ((sc2 2) * 3)))) ++ (SW E o2 sc2 ar2)) rfl (fun H locs hP hD hS => ?_)
  refine lv_aload_n hx hb dX2_copyFrom_125 rfl (lv_at hl 1 rfl) ?_
  refine va_get (D := E.1) (ci := 2) (v := .ref (o2 15)) (C := RX2) (T := TX2) (N := 14) hx hb hts in_X2 hown hK.1 hP 17 rfl rfl 8 (by decide) (hts _ q203) (fun _ h9 => h9) rfl dX2_copyFrom_126 ?_
  refine lv_iconst (v := iI 0) hx hb dX2_copyFrom_129 rfl ?_
  refine lv_aload_n hx hb dX2_copyFrom_130 rfl (lv_at hl 0 rfl) ?_
  refine va_get (D := E.1) (ci := 2) (v := .ref (o 15)) (C := RX2) (T := TX2) (N := 14) hx hb hts in_X2 hown hK.1 hP 0 rfl rfl 8 (by decide) (hts _ q203) (fun _ h9 => h9) rfl dX2_copyFrom_131 ?_
  refine lv_iconst (v := iI 0) hx hb dX2_copyFrom_134 rfl ?_
  refine lv_aload_n hx hb dX2_copyFrom_135 rfl (lv_at hl 0 rfl) ?_
  refine va_get (D := E.1) (ci := 2) (v := iv (sc2 2)) (C := RX2) (T := TX2) (N := 14) hx hb hts in_X2 hown hK.1 hP 0 rfl rfl 2 (by decide) (hts _ q193) (fun _ h9 => h9) rfl dX2_copyFrom_136 ?_
  refine lv_iconst (v := iI 3) hx hb dX2_copyFrom_139 rfl ?_
  refine n_imul hx hb dX2_copyFrom_140 ?_
  refine n_cp0 hx hb (hml.trans hl.1.symm) hown (hts _ q769) (hts _ q470) (hts _ q469) (hts _ q112) hK.1 hP hD hS 32 15 0 (f := ar2 15) (g := ar 15) rfl rfl rfl rfl (n := (sc2 2) * 3) (by omega) (by omega) (by omega) (fun x _ _ => rfl) (Nat.le_of_ble_eq_true rfl) (Nat.le_of_ble_eq_true rfl) dX2_copyFrom_141 (w2 := (SW E o (us (us sc 2 (sc2 2)) 13 0) (ua (ua (ua (ua (ua (ua (ua (ua (ua (ua (ua (ua (ua (ua ar 2 (cp0 (ar2 2) (ar 2) 8)) 3 (cp0 (ar2 3) (ar 3) 8)) 4 (cp0 (ar2 4) (ar 4) 8)) 5 (cp0 (ar2 5) (ar 5) 8)) 6 (cp0 (ar2 6) (ar 6) 24)) 7 (cp0 (ar2 7) (ar 7) 24)) 8 (cp0 (ar2 8) (ar 8) 8)) 9 (cp0 (ar2 9) (ar 9) 4)) 10 (cp0 (ar2 10) (ar 10) (sc2 2))) 11 (cp0 (ar2 11) (ar 11) (sc2 2))) 12 (cp0 (ar2 12) (ar 12) (sc2 2))) 13 (cp0 (ar2 13) (ar 13) (sc2 2))) 14 (cp0 (ar2 14) (ar 14) ((sc2 2) * 3))) 15 (cp0 (ar2 15) (ar 15) ((sc2 2) * 3)))) ++ (SW E o2 sc2 ar2)) rfl (fun H locs hP hD hS => ?_)
  refine lv_aload_n hx hb dX2_copyFrom_144 rfl (lv_at hl 0 rfl) ?_
  refine lv_aload_n hx hb dX2_copyFrom_145 rfl (lv_at hl 1 rfl) ?_
  refine va_get (D := E.1) (ci := 2) (v := iv (sc2 9)) (C := RX2) (T := TX2) (N := 14) hx hb hts in_X2 hown hK.1 hP 17 rfl rfl 9 (by decide) (hts _ q205) (fun _ h9 => h9) rfl dX2_copyFrom_146 ?_
  refine va_put (D := E.1) (ci := 2) (v := iv (sc2 9)) (ty := .int) (C := RX2) (T := TX2) (N := 14) hx hb hts in_X2 tyX2 tyX2_ok nmX2 hown hK.1 hP hD hS 0 rfl rfl 9 (by decide) (hts _ q205) (fun _ h9 => h9) rfl (by decide +kernel) rfl rfl (Nat.le_of_ble_eq_true rfl) dX2_copyFrom_149 (fun H locs hP hD hS => ?_)
  have hP : va_P E.1 CL ((SW E o (us (us (us sc 2 (sc2 2)) 9 (sc2 9)) 13 0) (ua (ua (ua (ua (ua (ua (ua (ua (ua (ua (ua (ua (ua (ua ar 2 (cp0 (ar2 2) (ar 2) 8)) 3 (cp0 (ar2 3) (ar 3) 8)) 4 (cp0 (ar2 4) (ar 4) 8)) 5 (cp0 (ar2 5) (ar 5) 8)) 6 (cp0 (ar2 6) (ar 6) 24)) 7 (cp0 (ar2 7) (ar 7) 24)) 8 (cp0 (ar2 8) (ar 8) 8)) 9 (cp0 (ar2 9) (ar 9) 4)) 10 (cp0 (ar2 10) (ar 10) (sc2 2))) 11 (cp0 (ar2 11) (ar 11) (sc2 2))) 12 (cp0 (ar2 12) (ar 12) (sc2 2))) 13 (cp0 (ar2 13) (ar 13) (sc2 2))) 14 (cp0 (ar2 14) (ar 14) ((sc2 2) * 3))) 15 (cp0 (ar2 15) (ar 15) ((sc2 2) * 3)))) ++ (SW E o2 sc2 ar2)) H := hP
  have hD : va_D A ((SW E o (us (us (us sc 2 (sc2 2)) 9 (sc2 9)) 13 0) (ua (ua (ua (ua (ua (ua (ua (ua (ua (ua (ua (ua (ua (ua ar 2 (cp0 (ar2 2) (ar 2) 8)) 3 (cp0 (ar2 3) (ar 3) 8)) 4 (cp0 (ar2 4) (ar 4) 8)) 5 (cp0 (ar2 5) (ar 5) 8)) 6 (cp0 (ar2 6) (ar 6) 24)) 7 (cp0 (ar2 7) (ar 7) 24)) 8 (cp0 (ar2 8) (ar 8) 8)) 9 (cp0 (ar2 9) (ar 9) 4)) 10 (cp0 (ar2 10) (ar 10) (sc2 2))) 11 (cp0 (ar2 11) (ar 11) (sc2 2))) 12 (cp0 (ar2 12) (ar 12) (sc2 2))) 13 (cp0 (ar2 13) (ar 13) (sc2 2))) 14 (cp0 (ar2 14) (ar 14) ((sc2 2) * 3))) 15 (cp0 (ar2 15) (ar 15) ((sc2 2) * 3)))) ++ (SW E o2 sc2 ar2)) := hD
  refine lv_aload_n hx hb dX2_copyFrom_152 rfl (lv_at hl 0 rfl) ?_
  refine lv_aload_n hx hb dX2_copyFrom_153 rfl (lv_at hl 1 rfl) ?_
  refine va_get (D := E.1) (ci := 2) (v := iv (sc2 10)) (C := RX2) (T := TX2) (N := 14) hx hb hts in_X2 hown hK.1 hP 17 rfl rfl 10 (by decide) (hts _ q207) (fun _ h9 => h9) rfl dX2_copyFrom_154 ?_
  refine va_put (D := E.1) (ci := 2) (v := iv (sc2 10)) (ty := .int) (C := RX2) (T := TX2) (N := 14) hx hb hts in_X2 tyX2 tyX2_ok nmX2 hown hK.1 hP hD hS 0 rfl rfl 10 (by decide) (hts _ q207) (fun _ h9 => h9) rfl (by decide +kernel) rfl rfl (Nat.le_of_ble_eq_true rfl) dX2_copyFrom_157 (fun H locs hP hD hS => ?_)
  have hP : va_P E.1 CL ((SW E o (us (us (us (us sc 2 (sc2 2)) 9 (sc2 9)) 10 (sc2 10)) 13 0) (ua (ua (ua (ua (ua (ua (ua (ua (ua (ua (ua (ua (ua (ua ar 2 (cp0 (ar2 2) (ar 2) 8)) 3 (cp0 (ar2 3) (ar 3) 8)) 4 (cp0 (ar2 4) (ar 4) 8)) 5 (cp0 (ar2 5) (ar 5) 8)) 6 (cp0 (ar2 6) (ar 6) 24)) 7 (cp0 (ar2 7) (ar 7) 24)) 8 (cp0 (ar2 8) (ar 8) 8)) 9 (cp0 (ar2 9) (ar 9) 4)) 10 (cp0 (ar2 10) (ar 10) (sc2 2))) 11 (cp0 (ar2 11) (ar 11) (sc2 2))) 12 (cp0 (ar2 12) (ar 12) (sc2 2))) 13 (cp0 (ar2 13) (ar 13) (sc2 2))) 14 (cp0 (ar2 14) (ar 14) ((sc2 2) * 3))) 15 (cp0 (ar2 15) (ar 15) ((sc2 2) * 3)))) ++ (SW E o2 sc2 ar2)) H := hP
  have hD : va_D A ((SW E o (us (us (us (us sc 2 (sc2 2)) 9 (sc2 9)) 10 (sc2 10)) 13 0) (ua (ua (ua (ua (ua (ua (ua (ua (ua (ua (ua (ua (ua (ua ar 2 (cp0 (ar2 2) (ar 2) 8)) 3 (cp0 (ar2 3) (ar 3) 8)) 4 (cp0 (ar2 4) (ar 4) 8)) 5 (cp0 (ar2 5) (ar 5) 8)) 6 (cp0 (ar2 6) (ar 6) 24)) 7 (cp0 (ar2 7) (ar 7) 24)) 8 (cp0 (ar2 8) (ar 8) 8)) 9 (cp0 (ar2 9) (ar 9) 4)) 10 (cp0 (ar2 10) (ar 10) (sc2 2))) 11 (cp0 (ar2 11) (ar 11) (sc2 2))) 12 (cp0 (ar2 12) (ar 12) (sc2 2))) 13 (cp0 (ar2 13) (ar 13) (sc2 2))) 14 (cp0 (ar2 14) (ar 14) ((sc2 2) * 3))) 15 (cp0 (ar2 15) (ar 15) ((sc2 2) * 3)))) ++ (SW E o2 sc2 ar2)) := hD
  refine lv_aload_n hx hb dX2_copyFrom_160 rfl (lv_at hl 0 rfl) ?_
  refine lv_aload_n hx hb dX2_copyFrom_161 rfl (lv_at hl 1 rfl) ?_
  refine va_get (D := E.1) (ci := 2) (v := jv (sc2 11)) (C := RX2) (T := TX2) (N := 14) hx hb hts in_X2 hown hK.1 hP 17 rfl rfl 11 (by decide) (hts _ q209) (fun _ h9 => h9) rfl dX2_copyFrom_162 ?_
  refine va_put (D := E.1) (ci := 2) (v := jv (sc2 11)) (ty := .long) (C := RX2) (T := TX2) (N := 14) hx hb hts in_X2 tyX2 tyX2_ok nmX2 hown hK.1 hP hD hS 0 rfl rfl 11 (by decide) (hts _ q209) (fun _ h9 => h9) rfl (by decide +kernel) rfl rfl (Nat.le_of_ble_eq_true rfl) dX2_copyFrom_165 (fun H locs hP hD hS => ?_)
  have hP : va_P E.1 CL ((SW E o (us (us (us (us (us sc 2 (sc2 2)) 9 (sc2 9)) 10 (sc2 10)) 11 (sc2 11)) 13 0) (ua (ua (ua (ua (ua (ua (ua (ua (ua (ua (ua (ua (ua (ua ar 2 (cp0 (ar2 2) (ar 2) 8)) 3 (cp0 (ar2 3) (ar 3) 8)) 4 (cp0 (ar2 4) (ar 4) 8)) 5 (cp0 (ar2 5) (ar 5) 8)) 6 (cp0 (ar2 6) (ar 6) 24)) 7 (cp0 (ar2 7) (ar 7) 24)) 8 (cp0 (ar2 8) (ar 8) 8)) 9 (cp0 (ar2 9) (ar 9) 4)) 10 (cp0 (ar2 10) (ar 10) (sc2 2))) 11 (cp0 (ar2 11) (ar 11) (sc2 2))) 12 (cp0 (ar2 12) (ar 12) (sc2 2))) 13 (cp0 (ar2 13) (ar 13) (sc2 2))) 14 (cp0 (ar2 14) (ar 14) ((sc2 2) * 3))) 15 (cp0 (ar2 15) (ar 15) ((sc2 2) * 3)))) ++ (SW E o2 sc2 ar2)) H := hP
  have hD : va_D A ((SW E o (us (us (us (us (us sc 2 (sc2 2)) 9 (sc2 9)) 10 (sc2 10)) 11 (sc2 11)) 13 0) (ua (ua (ua (ua (ua (ua (ua (ua (ua (ua (ua (ua (ua (ua ar 2 (cp0 (ar2 2) (ar 2) 8)) 3 (cp0 (ar2 3) (ar 3) 8)) 4 (cp0 (ar2 4) (ar 4) 8)) 5 (cp0 (ar2 5) (ar 5) 8)) 6 (cp0 (ar2 6) (ar 6) 24)) 7 (cp0 (ar2 7) (ar 7) 24)) 8 (cp0 (ar2 8) (ar 8) 8)) 9 (cp0 (ar2 9) (ar 9) 4)) 10 (cp0 (ar2 10) (ar 10) (sc2 2))) 11 (cp0 (ar2 11) (ar 11) (sc2 2))) 12 (cp0 (ar2 12) (ar 12) (sc2 2))) 13 (cp0 (ar2 13) (ar 13) (sc2 2))) 14 (cp0 (ar2 14) (ar 14) ((sc2 2) * 3))) 15 (cp0 (ar2 15) (ar 15) ((sc2 2) * 3)))) ++ (SW E o2 sc2 ar2)) := hD
  have hsr2 : SR g (us (us (us (us (us sc 2 (sc2 2)) 9 (sc2 9)) 10 (sc2 10)) 11 (sc2 11)) 13 0) (ua (ua (ua (ua (ua (ua (ua (ua (ua (ua (ua (ua (ua (ua ar 2 (cp0 (ar2 2) (ar 2) 8)) 3 (cp0 (ar2 3) (ar 3) 8)) 4 (cp0 (ar2 4) (ar 4) 8)) 5 (cp0 (ar2 5) (ar 5) 8)) 6 (cp0 (ar2 6) (ar 6) 24)) 7 (cp0 (ar2 7) (ar 7) 24)) 8 (cp0 (ar2 8) (ar 8) 8)) 9 (cp0 (ar2 9) (ar 9) 4)) 10 (cp0 (ar2 10) (ar 10) (sc2 2))) 11 (cp0 (ar2 11) (ar 11) (sc2 2))) 12 (cp0 (ar2 12) (ar 12) (sc2 2))) 13 (cp0 (ar2 13) (ar 13) (sc2 2))) 14 (cp0 (ar2 14) (ar 14) ((sc2 2) * 3))) 15 (cp0 (ar2 15) (ar 15) ((sc2 2) * 3))) := SR_cp hsr ⟨rfl, rfl, rfl, rfl, rfl⟩ (fun x a b => ⟨(show cp0 (ar2 2) (ar 2) 8 x = ar2 2 x from cp0_in ⟨a, b⟩), (show cp0 (ar2 3) (ar 3) 8 x = ar2 3 x from cp0_in ⟨a, b⟩), (show cp0 (ar2 4) (ar 4) 8 x = ar2 4 x from cp0_in ⟨a, b⟩), (show cp0 (ar2 5) (ar 5) 8 x = ar2 5 x from cp0_in ⟨a, b⟩), (show cp0 (ar2 8) (ar 8) 8 x = ar2 8 x from cp0_in ⟨a, b⟩)⟩) (fun x a b => ⟨(show cp0 (ar2 6) (ar 6) 24 x = ar2 6 x from cp0_in ⟨a, b⟩), (show cp0 (ar2 7) (ar 7) 24 x = ar2 7 x from cp0_in ⟨a, b⟩)⟩) (fun x a b => (show cp0 (ar2 9) (ar 9) 4 x = ar2 9 x from cp0_in ⟨a, b⟩)) (fun x a b => ⟨(show cp0 (ar2 10) (ar 10) (sc2 2) x = ar2 10 x from cp0_in ⟨a, by rw [hn1.1]; exact b⟩), (show cp0 (ar2 11) (ar 11) (sc2 2) x = ar2 11 x from cp0_in ⟨a, by rw [hn1.1]; exact b⟩), (show cp0 (ar2 12) (ar 12) (sc2 2) x = ar2 12 x from cp0_in ⟨a, by rw [hn1.1]; exact b⟩), (show cp0 (ar2 13) (ar 13) (sc2 2) x = ar2 13 x from cp0_in ⟨a, by rw [hn1.1]; exact b⟩)⟩) (fun x a b => ⟨(show cp0 (ar2 14) (ar 14) (sc2 2 * 3) x = ar2 14 x from cp0_in ⟨a, by rw [hn1.1]; exact b⟩), (show cp0 (ar2 15) (ar 15) (sc2 2 * 3) x = ar2 15 x from cp0_in ⟨a, by rw [hn1.1]; exact b⟩)⟩)
  exact W.vret hx hb hr (fun tt_ ht_ hW_ => ⟨⟨((us (us (us (us (us sc 2 (sc2 2)) 9 (sc2 9)) 10 (sc2 10)) 11 (sc2 11)) 13 0), (ua (ua (ua (ua (ua (ua (ua (ua (ua (ua (ua (ua (ua (ua ar 2 (cp0 (ar2 2) (ar 2) 8)) 3 (cp0 (ar2 3) (ar 3) 8)) 4 (cp0 (ar2 4) (ar 4) 8)) 5 (cp0 (ar2 5) (ar 5) 8)) 6 (cp0 (ar2 6) (ar 6) 24)) 7 (cp0 (ar2 7) (ar 7) 24)) 8 (cp0 (ar2 8) (ar 8) 8)) 9 (cp0 (ar2 9) (ar 9) 4)) 10 (cp0 (ar2 10) (ar 10) (sc2 2))) 11 (cp0 (ar2 11) (ar 11) (sc2 2))) 12 (cp0 (ar2 12) (ar 12) (sc2 2))) 13 (cp0 (ar2 13) (ar 13) (sc2 2))) 14 (cp0 (ar2 14) (ar 14) ((sc2 2) * 3))) 15 (cp0 (ar2 15) (ar 15) ((sc2 2) * 3)))), rfl, hsr2, by rw [ht_]; exact hP, hD⟩, hS.F ht_⟩) hS.2.2 dX2_copyFrom_168
