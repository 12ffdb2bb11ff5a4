set_option maxHeartbeats 1000000 in
set_option maxRecDepth 100000 in
theorem mt_X3_lambda_anyWay_1 (l : Launch) (E : EE) (o : Nat → Nat) (sc : Nat → Int) (ar : Nat → Int → Int) (t : Int) (k : Int) (g : Int → Int) (ht : 0 ≤ t ∧ t < 8) (hk : 0 ≤ k ∧ k < 8) (hbr : BR g ar) (hhn : HN g) (htw : TW g) (hsw : SwOK g) (sz : Nat) : vx_Met l yX3_lambda_anyWay_1 (ws_ yX3_lambda_anyWay_1 cX3_lambda_anyWay_1 3 (some .boolean)) { frames := 2, cells := 0, slots := 0, locals := 46 } (va_Pc [.ref (o 1), iv t, iv k] (UX E (BW E o sc ar) sz)) (UQx E (fun u : Unit => True) (fun u : Unit => b2 (m_edge g true t k)) (fun u : Unit => BW E o sc ar) (va_A (BW E o sc ar) sz)) (UXx E (fun (En : String) (u : Unit) => False) (fun u : Unit => BW E o sc ar) (fun u : Unit => none) (va_A (BW E o sc ar) sz)) 0 0 (va_A (BW E o sc ar) sz) := by
  refine vx_ofW (cc := cX3_lambda_anyWay_1) (maxL := 3) (ret := (some .boolean)) (by decide) rfl ?_
  intro p e s m args below meth c s₁ B hml htb hv
  obtain ⟨rfl, hsz, hP, hK, hD0, hE⟩ := hv
  have hx := B.exec
  have hb := B.bytes
  have hr := B.returns
  have hts := atoms_spec (ws := (ws_ yX3_lambda_anyWay_1 cX3_lambda_anyWay_1 3 (some .boolean))) B.pre
  have hts : ∀ w ∈ lw_all, w.before _ s = true := fun w h => hts w (List.mem_cons_of_mem _ h)
  have hown : s.vm.findClass RX3 = some m.cls := findClass_of_methodNamed B.named
  have hlocks := B.notSynchronized
  subst hsz
  have hD := hD0.self (sz := s.heap.size)
  generalize hAe : va_A (BW E o sc ar) s.heap.size = A at hD hE ⊢
  have hA : ∀ q : Nat, s.heap.size ≤ q → A q := fun q h => by rw [← hAe]; exact Or.inr h
  have hS : va_S A s.heap s.heap [] := va_S.rf
  have hl := lv_entry ([.ref (o 1), iv t, iv k]) (n := 3) (Nat.le_of_ble_eq_true rfl)
  rw [lg_entry_eq]
  generalize (lg_sl ([.ref (o 1), iv t, iv k]) ++ List.replicate (3 - (lg_sl ([.ref (o 1), iv t, iv k])).length) Slot.unset).toArray = ls at hl ⊢
  have hl : lv_has ls 3 [(0, .ref (o 1)), (1, iv t), (2, iv k)] := hl
  refine lv_aload_n hx hb dX3_lambda_anyWay_1_0 rfl (lv_at hl 0 rfl) ?_
  refine lv_iload_n hx hb dX3_lambda_anyWay_1_1 rfl (lv_at hl 1 rfl) ?_
  refine lv_iload_n hx hb dX3_lambda_anyWay_1_2 rfl (lv_at hl 2 rfl) ?_
  refine lv_iconst (v := iI 0) hx hb dX3_lambda_anyWay_1_3 rfl ?_
  refine n_csi (x := b2 (m_edge g (!false) t k)) (va_runV (As := [iv t, iv k, iv 0]) (rest := []) ⟨hx, hb, hml, hown, hts⟩ (mt_X3_leads l E o sc ar t k false g (by omega) (by omega) (by assumption) (by assumption) (by assumption) (by assumption)) (cwV 3 hts (lw_V q533 q535 qs5 q96 q536) rfl rfl rfl (by decide +kernel) ⟨Nat.le_of_ble_eq_true rfl, Nat.le_of_ble_eq_true rfl⟩) (PW_V hP hK (va_recv hK.1 hP (ci := 3) (q0 := 0) rfl rfl)) rfl rfl hl.1 rfl (lv_room (Nat.le_of_ble_eq_true rfl)) dX3_lambda_anyWay_1_4 ⟨Nat.le_of_ble_eq_true rfl, Nat.le_of_ble_eq_true rfl⟩) ?_
  have hfin : b2 (m_edge g (!false) t k) = b2 (m_edge g true t k) := by
    rfl
  refine vx_ret ?_
  exact W.zret (v := iI (b2 (m_edge g (!false) t k))) hx hb hr (nr_b (b2_r _)) (fun tt_ ht_ hW_ => ⟨⟨iI (b2 (m_edge g (!false) t k)), (), rfl, ⟨trivial, (congrArg iI hfin)⟩, by rw [ht_]; exact hP, hD⟩, hS.F ht_⟩) hS.2.2 dX3_lambda_anyWay_1_7
set_option maxHeartbeats 1000000 in
set_option maxRecDepth 100000 in
theorem mt_X3_anyWay (l : Launch) (E : EE) (o : Nat → Nat) (sc : Nat → Int) (ar : Nat → Int → Int) (sz : Nat) : Met l yX3_anyWay (ws_ yX3_anyWay cX3_anyWay 1 (some (.object "ClockworkTailor$Way"))) { frames := 0, cells := 1, slots := 1, locals := 3073 } (va_Pc [.ref (o 1)] (UX E (BW E o sc ar) sz)) (UQxr E (fun u : Nat => True) (fun u : Nat => u) (fun u : Nat => (BW E o sc ar) ++ ([(u, .inl (E.2 (3000 + 1), 1, .inr (.inr (.inr (.inr (fun _ => some (o 1)))))))])) (va_A (BW E o sc ar) sz)) 1 1 (va_A (BW E o sc ar) sz) := by
  refine Met.ofW (cc := cX3_anyWay) (maxL := 1) (ret := (some (.object "ClockworkTailor$Way"))) (by decide) rfl ?_
  intro p e s m args below meth c s₁ B hml hv
  obtain ⟨rfl, hsz, hP, hK, hD0, hE⟩ := hv
  have hx := B.exec
  have hb := B.bytes
  have hr := B.returns
  have hts := atoms_spec (ws := (ws_ yX3_anyWay cX3_anyWay 1 (some (.object "ClockworkTailor$Way")))) B.pre
  have hts : ∀ w ∈ lw_all, w.before _ s = true := fun w h => hts w (List.mem_cons_of_mem _ h)
  have hown : s.vm.findClass RX3 = some m.cls := findClass_of_methodNamed B.named
  have hlocks := B.notSynchronized
  subst hsz
  have hD := hD0.self (sz := s.heap.size)
  generalize hAe : va_A (BW E o sc ar) s.heap.size = A at hD hE ⊢
  have hA : ∀ q : Nat, s.heap.size ≤ q → A q := fun q h => by rw [← hAe]; exact Or.inr h
  have hS : va_S A s.heap s.heap [] := va_S.rf
  have hl := lv_entry ([.ref (o 1)]) (n := 1) (Nat.le_of_ble_eq_true rfl)
  rw [lg_entry_eq]
  generalize (lg_sl ([.ref (o 1)]) ++ List.replicate (1 - (lg_sl ([.ref (o 1)])).length) Slot.unset).toArray = ls at hl ⊢
  have hl : lv_has ls 1 [(0, .ref (o 1))] := hl
  refine lv_aload_n hx hb dX3_anyWay_0 rfl (lv_at hl 0 rfl) ?_
  obtain ⟨_, -, -, hL_d_2, -, -⟩ := lam_fact hK (lam_words hts (State.WarmedH.refl s)) ls_1 rfl (by decide +kernel) lk_1
  refine n_indyM (x := ⟨"ClockworkTailor$Book", "anyWay", "()LClockworkTailor$Way;"⟩) (index := 60) (vals := [.ref (o 1)]) (a0 := (1, .inr (.inr (.inr (.inr (fun _ => some (o 1))))))) (rest := []) hx hb (hl.1.trans hml.symm) (show s.methodNamed? ⟨"ClockworkTailor$Book", "anyWay", "()LClockworkTailor$Way;"⟩ = some m from B.named) ((hK.kx.1 _ ls_1).1 (by decide)) hL_d_2 rfl rfl rfl rfl (n_fits rfl) hP hD hS hA rfl (Nat.le_of_ble_eq_true rfl) (Nat.le_of_ble_eq_true rfl) (Nat.le_of_ble_eq_true rfl) dX3_anyWay_1 (fun q_1 H hP hD hS => ?_)
  have hP : va_P E.1 CL ((BW E o sc ar) ++ ([(q_1, .inl (E.2 (3000 + 1), 1, .inr (.inr (.inr (.inr (fun _ => some (o 1)))))))])) H := hP
  have hD : va_D A ((BW E o sc ar) ++ ([(q_1, .inl (E.2 (3000 + 1), 1, .inr (.inr (.inr (.inr (fun _ => some (o 1)))))))])) := hD
  refine W.widen (k := 1) (n := 1) (Nat.le_of_ble_eq_true rfl) (Nat.le_of_ble_eq_true rfl) ?_
  exact W.aret hx hb hr (Or.inl ⟨_, rfl⟩) (Or.inr ⟨_, rfl⟩) (fun tt_ ht_ hW_ => ⟨⟨q_1, rfl, trivial, by rw [ht_]; exact hP, hD⟩, hS.F ht_⟩) hS.2.2 dX3_anyWay_6
set_option maxHeartbeats 1000000 in
set_option maxRecDepth 100000 in
theorem mt_X3_lambda_directWay_0 (l : Launch) (E : EE) (o : Nat → Nat) (sc : Nat → Int) (ar : Nat → Int → Int) (t : Int) (k : Int) (g : Int → Int) (ht : 0 ≤ t ∧ t < 8) (hk : 0 ≤ k ∧ k < 8) (hbr : BR g ar) (hhn : HN g) (htw : TW g) (hsw : SwOK g) (sz : Nat) : vx_Met l yX3_lambda_directWay_0 (ws_ yX3_lambda_directWay_0 cX3_lambda_directWay_0 3 (some .boolean)) { frames := 2, cells := 0, slots := 0, locals := 46 } (va_Pc [.ref (o 1), iv t, iv k] (UX E (BW E o sc ar) sz)) (UQx E (fun u : Unit => True) (fun u : Unit => b2 (m_edge g false t k)) (fun u : Unit => BW E o sc ar) (va_A (BW E o sc ar) sz)) (UXx E (fun (En : String) (u : Unit) => False) (fun u : Unit => BW E o sc ar) (fun u : Unit => none) (va_A (BW E o sc ar) sz)) 0 0 (va_A (BW E o sc ar) sz) := by
  refine vx_ofW (cc := cX3_lambda_directWay_0) (maxL := 3) (ret := (some .boolean)) (by decide) rfl ?_
  intro p e s m args below meth c s₁ B hml htb hv
  obtain ⟨rfl, hsz, hP, hK, hD0, hE⟩ := hv
  have hx := B.exec
  have hb := B.bytes
  have hr := B.returns
  have hts := atoms_spec (ws := (ws_ yX3_lambda_directWay_0 cX3_lambda_directWay_0 3 (some .boolean))) B.pre
  have hts : ∀ w ∈ lw_all, w.before _ s = true := fun w h => hts w (List.mem_cons_of_mem _ h)
  have hown : s.vm.findClass RX3 = some m.cls := findClass_of_methodNamed B.named
  have hlocks := B.notSynchronized
  subst hsz
  have hD := hD0.self (sz := s.heap.size)
  generalize hAe : va_A (BW E o sc ar) s.heap.size = A at hD hE ⊢
  have hA : ∀ q : Nat, s.heap.size ≤ q → A q := fun q h => by rw [← hAe]; exact Or.inr h
  have hS : va_S A s.heap s.heap [] := va_S.rf
  have hl := lv_entry ([.ref (o 1), iv t, iv k]) (n := 3) (Nat.le_of_ble_eq_true rfl)
  rw [lg_entry_eq]
  generalize (lg_sl ([.ref (o 1), iv t, iv k]) ++ List.replicate (3 - (lg_sl ([.ref (o 1), iv t, iv k])).length) Slot.unset).toArray = ls at hl ⊢
  have hl : lv_has ls 3 [(0, .ref (o 1)), (1, iv t), (2, iv k)] := hl
  refine lv_aload_n hx hb dX3_lambda_directWay_0_0 rfl (lv_at hl 0 rfl) ?_
  refine lv_iload_n hx hb dX3_lambda_directWay_0_1 rfl (lv_at hl 1 rfl) ?_
  refine lv_iload_n hx hb dX3_lambda_directWay_0_2 rfl (lv_at hl 2 rfl) ?_
  refine lv_iconst (v := iI 1) hx hb dX3_lambda_directWay_0_3 rfl ?_
  refine n_csi (x := b2 (m_edge g (!true) t k)) (va_runV (As := [iv t, iv k, iv 1]) (rest := []) ⟨hx, hb, hml, hown, hts⟩ (mt_X3_leads l E o sc ar t k true g (by omega) (by omega) (by assumption) (by assumption) (by assumption) (by assumption)) (cwV 3 hts (lw_V q533 q535 qs5 q96 q536) rfl rfl rfl (by decide +kernel) ⟨Nat.le_of_ble_eq_true rfl, Nat.le_of_ble_eq_true rfl⟩) (PW_V hP hK (va_recv hK.1 hP (ci := 3) (q0 := 0) rfl rfl)) rfl rfl hl.1 rfl (lv_room (Nat.le_of_ble_eq_true rfl)) dX3_lambda_directWay_0_4 ⟨Nat.le_of_ble_eq_true rfl, Nat.le_of_ble_eq_true rfl⟩) ?_
  have hfin : b2 (m_edge g (!true) t k) = b2 (m_edge g false t k) := by
    rfl
  refine vx_ret ?_
  exact W.zret (v := iI (b2 (m_edge g (!true) t k))) hx hb hr (nr_b (b2_r _)) (fun tt_ ht_ hW_ => ⟨⟨iI (b2 (m_edge g (!true) t k)), (), rfl, ⟨trivial, (congrArg iI hfin)⟩, by rw [ht_]; exact hP, hD⟩, hS.F ht_⟩) hS.2.2 dX3_lambda_directWay_0_7
set_option maxHeartbeats 1000000 in
set_option maxRecDepth 100000 in
theorem mt_X3_directWay (l : Launch) (E : EE) (o : Nat → Nat) (sc : Nat → Int) (ar : Nat → Int → Int) (sz : Nat) : Met l yX3_directWay (ws_ yX3_directWay cX3_directWay 1 (some (.object "ClockworkTailor$Way"))) { frames := 0, cells := 1, slots := 1, locals := 3073 } (va_Pc [.ref (o 1)] (UX E (BW E o sc ar) sz)) (UQxr E (fun u : Nat => True) (fun u : Nat => u) (fun u : Nat => (BW E o sc ar) ++ ([(u, .inl (E.2 (3000 + 2), 1, .inr (.inr (.inr (.inr (fun _ => some (o 1)))))))])) (va_A (BW E o sc ar) sz)) 1 1 (va_A (BW E o sc ar) sz) := by
  refine Met.ofW (cc := cX3_directWay) (maxL := 1) (ret := (some (.object "ClockworkTailor$Way"))) (by decide) rfl ?_
  intro p e s m args below meth c s₁ B hml hv
  obtain ⟨rfl, hsz, hP, hK, hD0, hE⟩ := hv
  have hx := B.exec
  have hb := B.bytes
  have hr := B.returns
  have hts := atoms_spec (ws := (ws_ yX3_directWay cX3_directWay 1 (some (.object "ClockworkTailor$Way")))) B.pre
  have hts : ∀ w ∈ lw_all, w.before _ s = true := fun w h => hts w (List.mem_cons_of_mem _ h)
  have hown : s.vm.findClass RX3 = some m.cls := findClass_of_methodNamed B.named
  have hlocks := B.notSynchronized
  subst hsz
  have hD := hD0.self (sz := s.heap.size)
  generalize hAe : va_A (BW E o sc ar) s.heap.size = A at hD hE ⊢
  have hA : ∀ q : Nat, s.heap.size ≤ q → A q := fun q h => by rw [← hAe]; exact Or.inr h
  have hS : va_S A s.heap s.heap [] := va_S.rf
  have hl := lv_entry ([.ref (o 1)]) (n := 1) (Nat.le_of_ble_eq_true rfl)
  rw [lg_entry_eq]
  generalize (lg_sl ([.ref (o 1)]) ++ List.replicate (1 - (lg_sl ([.ref (o 1)])).length) Slot.unset).toArray = ls at hl ⊢
  have hl : lv_has ls 1 [(0, .ref (o 1))] := hl
  refine lv_aload_n hx hb dX3_directWay_0 rfl (lv_at hl 0 rfl) ?_
  obtain ⟨_, -, -, hL_d_2, -, -⟩ := lam_fact hK (lam_words hts (State.WarmedH.refl s)) ls_2 rfl (by decide +kernel) lk_2
  refine n_indyM (x := ⟨"ClockworkTailor$Book", "directWay", "()LClockworkTailor$Way;"⟩) (index := 56) (vals := [.ref (o 1)]) (a0 := (1, .inr (.inr (.inr (.inr (fun _ => some (o 1))))))) (rest := []) hx hb (hl.1.trans hml.symm) (show s.methodNamed? ⟨"ClockworkTailor$Book", "directWay", "()LClockworkTailor$Way;"⟩ = some m from B.named) ((hK.kx.1 _ ls_2).1 (by decide)) hL_d_2 rfl rfl rfl rfl (n_fits rfl) hP hD hS hA rfl (Nat.le_of_ble_eq_true rfl) (Nat.le_of_ble_eq_true rfl) (Nat.le_of_ble_eq_true rfl) dX3_directWay_1 (fun q_1 H hP hD hS => ?_)
  have hP : va_P E.1 CL ((BW E o sc ar) ++ ([(q_1, .inl (E.2 (3000 + 2), 1, .inr (.inr (.inr (.inr (fun _ => some (o 1)))))))])) H := hP
  have hD : va_D A ((BW E o sc ar) ++ ([(q_1, .inl (E.2 (3000 + 2), 1, .inr (.inr (.inr (.inr (fun _ => some (o 1)))))))])) := hD
  refine W.widen (k := 1) (n := 1) (Nat.le_of_ble_eq_true rfl) (Nat.le_of_ble_eq_true rfl) ?_
  exact W.aret hx hb hr (Or.inl ⟨_, rfl⟩) (Or.inr ⟨_, rfl⟩) (fun tt_ ht_ hW_ => ⟨⟨q_1, rfl, trivial, by rw [ht_]; exact hP, hD⟩, hS.F ht_⟩) hS.2.2 dX3_directWay_6
set_option maxHeartbeats 2000000 in
set_option maxRecDepth 100000 in
theorem mt_X3_steps1 (l : Launch) (E : EE) (o : Nat → Nat) (sc : Nat → Int) (ar : Nat → Int → Int) (wy : Nat) (t : Int) (g : Int → Int) (ht : 0 ≤ t ∧ t < 8) (hbr : BR g ar) (hhn : HN g) (htw : TW g) (hsw : SwOK g) (sz : Nat) : Met l yX3_steps (ws_ yX3_steps cX3_steps 7 (some (.array .int))) { frames := 4, cells := 4, slots := 36, locals := 82 } (va_Pc [iv t, .ref wy] (UX E ((BW E o sc ar) ++ ([(wy, .inl (E.2 (3000 + 1), 1, .inr (.inr (.inr (.inr (fun _ => some (o 1)))))))])) sz)) (UQxr E (fun u : Nat × (Int → Int) => BE g true t u.2) (fun u : Nat × (Int → Int) => u.1) (fun u : Nat × (Int → Int) => (BW E o sc ar) ++ ([(wy, .inl (E.2 (3000 + 1), 1, .inr (.inr (.inr (.inr (fun _ => some (o 1)))))))]) ++ ([(u.1, ia (E.2 0) 8 u.2)])) (va_A ((BW E o sc ar) ++ ([(wy, .inl (E.2 (3000 + 1), 1, .inr (.inr (.inr (.inr (fun _ => some (o 1)))))))])) sz)) 4 36 (va_A ((BW E o sc ar) ++ ([(wy, .inl (E.2 (3000 + 1), 1, .inr (.inr (.inr (.inr (fun _ => some (o 1)))))))])) sz) := by
  refine Met.ofW (cc := cX3_steps) (maxL := 7) (ret := (some (.array .int))) (by decide) rfl ?_
  intro p e s m args below meth c s₁ B hml hv
  obtain ⟨rfl, hsz, hP, hK, hD0, hE⟩ := hv
  have hx := B.exec
  have hb := B.bytes
  have hr := B.returns
  have hts := atoms_spec (ws := (ws_ yX3_steps cX3_steps 7 (some (.array .int)))) B.pre
  have hts : ∀ w ∈ lw_all, w.before _ s = true := fun w h => hts w (List.mem_cons_of_mem _ h)
  have hown : s.vm.findClass RX3 = some m.cls := findClass_of_methodNamed B.named
  have hlocks := B.notSynchronized
  subst hsz
  have hD := hD0.self (sz := s.heap.size)
  generalize hAe : va_A ((BW E o sc ar) ++ ([(wy, .inl (E.2 (3000 + 1), 1, .inr (.inr (.inr (.inr (fun _ => some (o 1)))))))])) s.heap.size = A at hD hE ⊢
  have hA : ∀ q : Nat, s.heap.size ≤ q → A q := fun q h => by rw [← hAe]; exact Or.inr h
  have hS : va_S A s.heap s.heap [] := va_S.rf
  have hl := lv_entry ([iv t, .ref wy]) (n := 7) (Nat.le_of_ble_eq_true rfl)
  rw [lg_entry_eq]
  generalize (lg_sl ([iv t, .ref wy]) ++ List.replicate (7 - (lg_sl ([iv t, .ref wy])).length) Slot.unset).toArray = ls at hl ⊢
  have hl : lv_has ls 7 [(0, iv t), (1, .ref wy)] := hl
  refine lv_bipush (v := iI 8) hx hb dX3_steps_0 (by decide) ?_
  refine n_newa hx hb (ty := .int) rfl (hts _ q187) 0 rfl rfl hK hP hD hS hA (N' := 8) rfl (by decide) (by decide) (Nat.le_of_ble_eq_true rfl) (Nat.le_of_ble_eq_true rfl) dX3_steps_2 (fun q_1 H hP hD hS => ?_)
  have hP : va_P E.1 CL ((BW E o sc ar) ++ ([(wy, .inl (E.2 (3000 + 1), 1, .inr (.inr (.inr (.inr (fun _ => some (o 1)))))))]) ++ ([(q_1, ia (E.2 0) 8 (fun _ => 0))])) H := hP
  have hD : va_D A ((BW E o sc ar) ++ ([(wy, .inl (E.2 (3000 + 1), 1, .inr (.inr (.inr (.inr (fun _ => some (o 1)))))))]) ++ ([(q_1, ia (E.2 0) 8 (fun _ => 0))])) := hD
  refine lv_astore_n (lv' := [(2, .ref q_1), (0, iv t), (1, .ref wy)]) hx hb dX3_steps_4 rfl hl (by decide) rfl (fun ls hl => ?_)
  have hz9_q_2 : s.heap.size ≤ (H).size := hS.1
  refine n_newK (ci := 9) (fs := [.null, iv 0, iv 0]) (C := RJ1) (T := TJ1) (N := 3) hx hb hts in_J1 tyJ1 tyJ1_ok hown (hts _ q556) (hts _ q243) (hts _ q98) hK hP hD hS hA rfl (fun j hj => by rcases (show j = 0 ∨ j = 1 ∨ j = 2 by omega) with rfl | rfl | rfl <;> rfl) (Nat.le_of_ble_eq_true rfl) (Nat.le_of_ble_eq_true rfl) dX3_steps_5 (fun q_2 H hfr_q_2 o_3 hsz_q_2 hP hD hS => ?_)
  have hge_q_2 : s.heap.size ≤ q_2 := Nat.le_trans hz9_q_2 hsz_q_2
  have hP : va_P E.1 CL ((BW E o sc ar) ++ ([(wy, .inl (E.2 (3000 + 1), 1, .inr (.inr (.inr (.inr (fun _ => some (o 1)))))))]) ++ ([(q_1, ia (E.2 0) 8 (fun _ => 0))]) ++ ([(q_2, .inr (9, [.null, iv 0, iv 0]))])) H := hP
  have hD : va_D A ((BW E o sc ar) ++ ([(wy, .inl (E.2 (3000 + 1), 1, .inr (.inr (.inr (.inr (fun _ => some (o 1)))))))]) ++ ([(q_1, ia (E.2 0) 8 (fun _ => 0))]) ++ ([(q_2, .inr (9, [.null, iv 0, iv 0]))])) := hD
  refine lv_dup hx hb dX3_steps_8 rfl ?_
  refine n_cuxvS (w2 := fun u_4 => (BW E o sc ar) ++ ([(wy, .inl (E.2 (3000 + 1), 1, .inr (.inr (.inr (.inr (fun _ => some (o 1)))))))]) ++ ([(q_1, ia (E.2 0) 8 (fun _ => 0))]) ++ ([(q_2, .inr (9, [.ref u_4, iv 0, iv 0]))]) ++ ([(u_4, qa (E.2 4) 17 (fun _ => none))])) (va_runI (As := []) (rest := [.ref q_2]) ⟨hx, hb, hml, hown, hts⟩ (mt_J1_init l E q_2  _) (n_cwI 0 hts q557 q245 q98 q246 rfl rfl rfl (by decide +kernel) ⟨Nat.le_of_ble_eq_true rfl, Nat.le_of_ble_eq_true rfl⟩) (UW_S (hP.sub (ws' := [(q_2, .inr (9, [.null, iv 0, iv 0]))]) [10] rfl) hK (hD.sub (ws' := [(q_2, .inr (9, [.null, iv 0, iv 0]))]) [10] rfl rfl)) rfl rfl hl.1 rfl (lv_room (Nat.le_of_ble_eq_true rfl)) dX3_steps_9 ⟨Nat.le_of_ble_eq_true rfl, Nat.le_of_ble_eq_true rfl⟩) hP hD hS hA [10] [0, 1, 2, 3, 4, 5, 6, 7, 8, 9] [0, 1, 2, 3, 4, 5, 6, 7, 8, 9, 10, 11] rfl rfl rfl rfl rfl (fun _ => rfl) (fun u_4 H locs hu_4 hP hD hS => ?_)
  have hu_4 : True := hu_4
  have hP : va_P E.1 CL ((BW E o sc ar) ++ ([(wy, .inl (E.2 (3000 + 1), 1, .inr (.inr (.inr (.inr (fun _ => some (o 1)))))))]) ++ ([(q_1, ia (E.2 0) 8 (fun _ => 0))]) ++ ([(q_2, .inr (9, [.ref u_4, iv 0, iv 0]))]) ++ ([(u_4, qa (E.2 4) 17 (fun _ => none))])) H := hP
  have hD : va_D A ((BW E o sc ar) ++ ([(wy, .inl (E.2 (3000 + 1), 1, .inr (.inr (.inr (.inr (fun _ => some (o 1)))))))]) ++ ([(q_1, ia (E.2 0) 8 (fun _ => 0))]) ++ ([(q_2, .inr (9, [.ref u_4, iv 0, iv 0]))]) ++ ([(u_4, qa (E.2 4) 17 (fun _ => none))])) := hD
  refine lv_astore_n (lv' := [(3, .ref q_2), (2, .ref q_1), (0, iv t), (1, .ref wy)]) hx hb dX3_steps_12 rfl hl (by decide) rfl (fun ls hl => ?_)
  refine lv_aload_n hx hb dX3_steps_13 rfl (lv_at hl 0 rfl) ?_
  refine lv_iload_n hx hb dX3_steps_14 rfl (lv_at hl 2 rfl) ?_
  refine n_csr (x := BX E t) (va_runS (As := [iv t]) (rest := [.ref q_2]) ⟨hx, hb, hml, hown, hts⟩ (mt_J18_valueOf l E t (by omega)) (va_cwS 1 hts (lw_S q558 q559 q119 q560) rfl rfl rfl (by decide +kernel) ⟨Nat.le_of_ble_eq_true rfl, Nat.le_of_ble_eq_true rfl⟩) (PX_S (hP.sub (ws' := []) [] rfl) hK hE hS) rfl rfl hl.1 rfl (lv_room (Nat.le_of_ble_eq_true rfl)) dX3_steps_15 ⟨Nat.le_of_ble_eq_true rfl, Nat.le_of_ble_eq_true rfl⟩) ?_
  refine n_cuvS (w2 := (BW E o sc ar) ++ ([(wy, .inl (E.2 (3000 + 1), 1, .inr (.inr (.inr (.inr (fun _ => some (o 1)))))))]) ++ ([(q_1, ia (E.2 0) 8 (fun _ => 0))]) ++ ([(q_2, .inr (9, [.ref u_4, iv 0, iv (if 0 + 1 < 17 then 0 + 1 else 0)]))]) ++ ([(u_4, qa (E.2 4) 17 (uq (fun _ => none) 0 (some (BX E t))))])) (va_runV (As := [.ref (BX E t)]) (rest := []) ⟨hx, hb, hml, hown, hts⟩ (mt_J1_addLastI l E q_2 0 0 u_4 (fun _ => none) t (by omega) (by omega) (by omega) (by decide) _) (cwV 1 hts (lw_V q578 q340 q341 q98 q342) rfl rfl rfl (by decide +kernel) ⟨Nat.le_of_ble_eq_true rfl, Nat.le_of_ble_eq_true rfl⟩) (UX_V (hP.sub (ws' := ([(q_2, .inr (9, [.ref u_4, iv 0, iv 0]))]) ++ ([(u_4, qa (E.2 4) 17 (fun _ => none))])) [10, 11] rfl) hK (hD.sub (ws' := ([(q_2, .inr (9, [.ref u_4, iv 0, iv 0]))]) ++ ([(u_4, qa (E.2 4) 17 (fun _ => none))])) [10, 11] rfl rfl) hE hS (va_sub_free hD hS hA [10, 11] rfl) (va_recv hK.1 hP (ci := 9) (q0 := 10) rfl rfl)) rfl rfl hl.1 rfl (lv_room (Nat.le_of_ble_eq_true rfl)) dX3_steps_18 ⟨Nat.le_of_ble_eq_true rfl, Nat.le_of_ble_eq_true rfl⟩) hP hD hS hA [10, 11] [0, 1, 2, 3, 4, 5, 6, 7, 8, 9] [0, 1, 2, 3, 4, 5, 6, 7, 8, 9, 10, 11] rfl rfl rfl rfl rfl rfl (fun H locs hP hD hS => ?_)
  have hP : va_P E.1 CL ((BW E o sc ar) ++ ([(wy, .inl (E.2 (3000 + 1), 1, .inr (.inr (.inr (.inr (fun _ => some (o 1)))))))]) ++ ([(q_1, ia (E.2 0) 8 (fun _ => 0))]) ++ ([(q_2, .inr (9, [.ref u_4, iv 0, iv (if 0 + 1 < 17 then 0 + 1 else 0)]))]) ++ ([(u_4, qa (E.2 4) 17 (uq (fun _ => none) 0 (some (BX E t))))])) H := hP
  have hD : va_D A ((BW E o sc ar) ++ ([(wy, .inl (E.2 (3000 + 1), 1, .inr (.inr (.inr (.inr (fun _ => some (o 1)))))))]) ++ ([(q_1, ia (E.2 0) 8 (fun _ => 0))]) ++ ([(q_2, .inr (9, [.ref u_4, iv 0, iv (if 0 + 1 < 17 then 0 + 1 else 0)]))]) ++ ([(u_4, qa (E.2 4) 17 (uq (fun _ => none) 0 (some (BX E t))))])) := hD
  refine lv_bipush (v := iI 8) hx hb dX3_steps_21 (by decide) ?_
  refine n_newa hx hb (ty := .int) rfl (hts _ q187) 0 rfl rfl hK hP hD hS hA (N' := 8) rfl (by decide) (by decide) (Nat.le_of_ble_eq_true rfl) (Nat.le_of_ble_eq_true rfl) dX3_steps_23 (fun q_5 H hP hD hS => ?_)
  have hP : va_P E.1 CL ((BW E o sc ar) ++ ([(wy, .inl (E.2 (3000 + 1), 1, .inr (.inr (.inr (.inr (fun _ => some (o 1)))))))]) ++ ([(q_1, ia (E.2 0) 8 (fun _ => 0))]) ++ ([(q_2, .inr (9, [.ref u_4, iv 0, iv (if 0 + 1 < 17 then 0 + 1 else 0)]))]) ++ ([(u_4, qa (E.2 4) 17 (uq (fun _ => none) 0 (some (BX E t))))]) ++ ([(q_5, ia (E.2 0) 8 (fun _ => 0))])) H := hP
  have hD : va_D A ((BW E o sc ar) ++ ([(wy, .inl (E.2 (3000 + 1), 1, .inr (.inr (.inr (.inr (fun _ => some (o 1)))))))]) ++ ([(q_1, ia (E.2 0) 8 (fun _ => 0))]) ++ ([(q_2, .inr (9, [.ref u_4, iv 0, iv (if 0 + 1 < 17 then 0 + 1 else 0)]))]) ++ ([(u_4, qa (E.2 4) 17 (uq (fun _ => none) 0 (some (BX E t))))]) ++ ([(q_5, ia (E.2 0) 8 (fun _ => 0))])) := hD
  have w_6 : ((if 0 + 1 < 17 then 0 + 1 else 0) : Int) = 1 := by rfl
  rw [w_6] at hP hD
  have hP : va_P E.1 CL ((BW E o sc ar) ++ ([(wy, .inl (E.2 (3000 + 1), 1, .inr (.inr (.inr (.inr (fun _ => some (o 1)))))))]) ++ ([(q_1, ia (E.2 0) 8 (fun _ => 0))]) ++ ([(q_2, .inr (9, [.ref u_4, iv 0, iv 1]))]) ++ ([(u_4, qa (E.2 4) 17 (uq (fun _ => none) 0 (some (BX E t))))]) ++ ([(q_5, ia (E.2 0) 8 (fun _ => 0))])) H := hP
  have hD : va_D A ((BW E o sc ar) ++ ([(wy, .inl (E.2 (3000 + 1), 1, .inr (.inr (.inr (.inr (fun _ => some (o 1)))))))]) ++ ([(q_1, ia (E.2 0) 8 (fun _ => 0))]) ++ ([(q_2, .inr (9, [.ref u_4, iv 0, iv 1]))]) ++ ([(u_4, qa (E.2 4) 17 (uq (fun _ => none) 0 (some (BX E t))))]) ++ ([(q_5, ia (E.2 0) 8 (fun _ => 0))])) := hD
  refine lv_astore (lv' := [(4, .ref q_5), (3, .ref q_2), (2, .ref q_1), (0, iv t), (1, .ref wy)]) hx hb dX3_steps_25 hl (by decide) rfl (fun ls hl => ?_)
  have l27 : ∀ (fu : Nat) (hd : Int) (tl : Int) (st : Int → Int) (fq : Int → Option Nat) (fr : Int → Int) (qv : Int → Int), (BI g true t st hd 0 tl qv) → (∀ y, 0 ≤ y → y < 8 → 0 ≤ st y ∧ st y ≤ 8) → (∀ y, 0 ≤ y → y < 8 → fr y = st y) → (∀ i, hd ≤ i → i < tl → fq i = some (BX E (qv i))) → (0 ≤ hd ∧ hd ≤ tl ∧ 1 ≤ tl ∧ tl ≤ 9) → (9 - hd < (fu : Int)) → ∀ (H : Heap) (locs : List Loc), va_P E.1 CL ((BW E o sc ar) ++ ([(wy, .inl (E.2 (3000 + 1), 1, .inr (.inr (.inr (.inr (fun _ => some (o 1)))))))]) ++ ([(q_1, ia (E.2 0) 8 st)]) ++ ([(q_2, .inr (9, [.ref u_4, iv hd, iv tl]))]) ++ ([(u_4, qa (E.2 4) 17 fq)]) ++ ([(q_5, ia (E.2 0) 8 fr)])) H → va_D A ((BW E o sc ar) ++ ([(wy, .inl (E.2 (3000 + 1), 1, .inr (.inr (.inr (.inr (fun _ => some (o 1)))))))]) ++ ([(q_1, ia (E.2 0) 8 st)]) ++ ([(q_2, .inr (9, [.ref u_4, iv hd, iv tl]))]) ++ ([(u_4, qa (E.2 4) 17 fq)]) ++ ([(q_5, ia (E.2 0) 8 fr)])) → va_S A s.heap H locs → ∀ ls : Array Slot, lv_has ls 7 [(4, .ref q_5), (3, .ref q_2), (2, .ref q_1), (0, iv t), (1, .ref wy)] → W p l e (headSpec (ws_ yX3_steps cX3_steps 7 (some (.array .int))) { frames := 4, cells := 4, slots := 36, locals := 82 }).room s m ([iv t, .ref wy] : List Value).toArray below meth c H locs 4 36 (MQ below (UQxr E (fun u : Nat × (Int → Int) => BE g true t u.2) (fun u : Nat × (Int → Int) => u.1) (fun u : Nat × (Int → Int) => (BW E o sc ar) ++ ([(wy, .inl (E.2 (3000 + 1), 1, .inr (.inr (.inr (.inr (fun _ => some (o 1)))))))]) ++ ([(u.1, ia (E.2 0) 8 u.2)])) A) ([iv t, .ref wy] : List Value).toArray s 4 36 A) (F0 m 27 ls []) := by
    intro fu
    induction fu with
    | zero =>
      intro hd tl st fq fr qv il27_0 il27_1 il27_2 il27_3 il27_4 hm
      exfalso; omega
    | succ fu ih =>
      intro hd tl st fq fr qv il27_0 il27_1 il27_2 il27_3 il27_4 hm H locs hP hD hS ls hl
      have ihl27 := ih
      refine lv_aload_n hx hb dX3_steps_27 rfl (lv_at hl 1 rfl) ?_
      refine n_csi (x := b2 (decide (hd = tl))) (va_runV (As := []) (rest := []) ⟨hx, hb, hml, hown, hts⟩ (mt_J1_isEmpty l E q_2 hd tl u_4 fq  (by omega) (by omega)) (cwV 0 hts (lw_V q579 q580 q581 q98 q582) rfl rfl rfl (by decide +kernel) ⟨Nat.le_of_ble_eq_true rfl, Nat.le_of_ble_eq_true rfl⟩) (PW_V (hP.sub (ws' := ([(q_2, .inr (9, [.ref u_4, iv hd, iv tl]))]) ++ ([(u_4, qa (E.2 4) 17 fq)])) [10, 11] rfl) hK (va_recv hK.1 hP (ci := 9) (q0 := 10) rfl rfl)) rfl rfl hl.1 rfl (lv_room (Nat.le_of_ble_eq_true rfl)) dX3_steps_28 ⟨Nat.le_of_ble_eq_true rfl, Nat.le_of_ble_eq_true rfl⟩) ?_
      refine n_ifd_ne (tgt := 114) hx hb dX3_steps_31 (by decide) (fun c_7 => ?_) (fun c_7 => ?_)
      · have hbe := il27_0.fin (by assumption)
        refine lv_aload_n hx hb dX3_steps_114 rfl (lv_at hl 2 rfl) ?_
        have hP := hP.sub (ws' := (BW E o sc ar) ++ ([(wy, .inl (E.2 (3000 + 1), 1, .inr (.inr (.inr (.inr (fun _ => some (o 1)))))))]) ++ ([(q_1, ia (E.2 0) 8 st)])) [0, 1, 2, 3, 4, 5, 6, 7, 8, 9] rfl
        have hD := hD.sub (ws' := (BW E o sc ar) ++ ([(wy, .inl (E.2 (3000 + 1), 1, .inr (.inr (.inr (.inr (fun _ => some (o 1)))))))]) ++ ([(q_1, ia (E.2 0) 8 st)])) [0, 1, 2, 3, 4, 5, 6, 7, 8, 9] (by decide) rfl
        refine W.widen (k := 4) (n := 36) (Nat.le_of_ble_eq_true rfl) (Nat.le_of_ble_eq_true rfl) ?_
        exact W.aret hx hb hr (Or.inr ⟨_, rfl⟩) (Or.inr ⟨_, rfl⟩) (fun tt_ ht_ hW_ => ⟨⟨(q_1, st), rfl, hbe, by rw [ht_]; exact hP, hD⟩, hS.F ht_⟩) hS.2.2 dX3_steps_115
      · refine lv_aload_n hx hb dX3_steps_34 rfl (lv_at hl 1 rfl) ?_
        have hqr := il27_0.qr (i := hd) (by omega)
        refine n_cuxrS (x := fun u_8 => (BX E (qv hd))) (w2 := fun u_8 => (BW E o sc ar) ++ ([(wy, .inl (E.2 (3000 + 1), 1, .inr (.inr (.inr (.inr (fun _ => some (o 1)))))))]) ++ ([(q_1, ia (E.2 0) 8 st)]) ++ ([(q_2, .inr (9, [.ref u_4, iv (if hd + 1 < 17 then hd + 1 else 0), iv tl]))]) ++ ([(u_4, qa (E.2 4) 17 (uq fq hd none))]) ++ ([(q_5, ia (E.2 0) 8 fr)])) (va_runV (As := []) (rest := []) ⟨hx, hb, hml, hown, hts⟩ (mt_J1_pollFirst l E q_2 hd tl u_4 fq  (BX E (qv hd)) (by omega) (by omega) (by exact il27_3 hd (by omega) (by omega)) _) (cwV 0 hts (lw_V q583 q584 q585 q98 q586) rfl rfl rfl (by decide +kernel) ⟨Nat.le_of_ble_eq_true rfl, Nat.le_of_ble_eq_true rfl⟩) (UW_V (hP.sub (ws' := ([(q_2, .inr (9, [.ref u_4, iv hd, iv tl]))]) ++ ([(u_4, qa (E.2 4) 17 fq)])) [10, 11] rfl) hK (hD.sub (ws' := ([(q_2, .inr (9, [.ref u_4, iv hd, iv tl]))]) ++ ([(u_4, qa (E.2 4) 17 fq)])) [10, 11] rfl rfl) (va_recv hK.1 hP (ci := 9) (q0 := 10) rfl rfl)) rfl rfl hl.1 rfl (lv_room (Nat.le_of_ble_eq_true rfl)) dX3_steps_35 ⟨Nat.le_of_ble_eq_true rfl, Nat.le_of_ble_eq_true rfl⟩) hP hD hS hA [10, 11] [0, 1, 2, 3, 4, 5, 6, 7, 8, 9, 12] [0, 1, 2, 3, 4, 5, 6, 7, 8, 9, 11, 12, 10] rfl rfl rfl rfl rfl (fun _ => rfl) (fun u_8 H locs hu_8 hP hD hS => ?_)
        have hu_8 : True := hu_8
        have hP : va_P E.1 CL ((BW E o sc ar) ++ ([(wy, .inl (E.2 (3000 + 1), 1, .inr (.inr (.inr (.inr (fun _ => some (o 1)))))))]) ++ ([(q_1, ia (E.2 0) 8 st)]) ++ ([(q_2, .inr (9, [.ref u_4, iv (if hd + 1 < 17 then hd + 1 else 0), iv tl]))]) ++ ([(u_4, qa (E.2 4) 17 (uq fq hd none))]) ++ ([(q_5, ia (E.2 0) 8 fr)])) H := hP
        have hD : va_D A ((BW E o sc ar) ++ ([(wy, .inl (E.2 (3000 + 1), 1, .inr (.inr (.inr (.inr (fun _ => some (o 1)))))))]) ++ ([(q_1, ia (E.2 0) 8 st)]) ++ ([(q_2, .inr (9, [.ref u_4, iv (if hd + 1 < 17 then hd + 1 else 0), iv tl]))]) ++ ([(u_4, qa (E.2 4) 17 (uq fq hd none))]) ++ ([(q_5, ia (E.2 0) 8 fr)])) := hD
        have w_9 : ((if hd + 1 < 17 then hd + 1 else 0) : Int) = hd + 1 := by exact if_pos (by omega)
        rw [w_9] at hP hD
        have hP : va_P E.1 CL ((BW E o sc ar) ++ ([(wy, .inl (E.2 (3000 + 1), 1, .inr (.inr (.inr (.inr (fun _ => some (o 1)))))))]) ++ ([(q_1, ia (E.2 0) 8 st)]) ++ ([(q_2, .inr (9, [.ref u_4, iv (hd + 1), iv tl]))]) ++ ([(u_4, qa (E.2 4) 17 (uq fq hd none))]) ++ ([(q_5, ia (E.2 0) 8 fr)])) H := hP
        have hD : va_D A ((BW E o sc ar) ++ ([(wy, .inl (E.2 (3000 + 1), 1, .inr (.inr (.inr (.inr (fun _ => some (o 1)))))))]) ++ ([(q_1, ia (E.2 0) 8 st)]) ++ ([(q_2, .inr (9, [.ref u_4, iv (hd + 1), iv tl]))]) ++ ([(u_4, qa (E.2 4) 17 (uq fq hd none))]) ++ ([(q_5, ia (E.2 0) 8 fr)])) := hD
        refine va_castE hx hb hown (hts _ q590) (bx_recv hE hS (by omega)) dX3_steps_38 ?_
        refine n_csi (x := qv hd) (va_runV (As := []) (rest := []) ⟨hx, hb, hml, hown, hts⟩ (mt_J18_intValue l E (qv hd) (by omega)) (cwV 0 hts (lw_V q591 q592 q593 q119 q594) rfl rfl rfl (by decide +kernel) ⟨Nat.le_of_ble_eq_true rfl, Nat.le_of_ble_eq_true rfl⟩) (PX_V (hP.sub (ws' := []) [] rfl) hK hE hS (bx_recv hE hS (by omega))) rfl rfl hl.1 rfl (lv_room (Nat.le_of_ble_eq_true rfl)) dX3_steps_41 ⟨Nat.le_of_ble_eq_true rfl, Nat.le_of_ble_eq_true rfl⟩) ?_
        refine lv_istore (lv' := [(5, iv (qv hd)), (4, .ref q_5), (3, .ref q_2), (2, .ref q_1), (0, iv t), (1, .ref wy)]) hx hb dX3_steps_44 hl (by decide) rfl (fun ls hl => ?_)
        have hq49 : ∀ i, hd + 1 ≤ i → i < tl → uq fq hd none i = some (BX E (qv i)) := fun i h1 h2 => (uq_n (by omega)).trans (il27_3 i (by omega) h2)
        refine lv_iconst (v := iI 0) hx hb dX3_steps_46 rfl ?_
        refine lv_istore (lv' := [(6, iv 0), (5, iv (qv hd)), (4, .ref q_5), (3, .ref q_2), (2, .ref q_1), (0, iv t), (1, .ref wy)]) hx hb dX3_steps_47 hl (by decide) rfl (fun ls hl => ?_)
        have l49 : ∀ (fu : Nat) (x6 : Int) (tm : Int) (sm : Int → Int) (qf : Int → Option Nat) (fm : Int → Int) (qm : Int → Int), (BI g true t sm hd x6 tm qm) → (∀ y, 0 ≤ y → y < 8 → 0 ≤ sm y ∧ sm y ≤ 8) → (∀ y, 0 ≤ y → y < 8 → fm y = sm y) → (∀ i, hd + 1 ≤ i → i < tm → qf i = some (BX E (qm i))) → (0 ≤ x6 ∧ x6 ≤ 8 ∧ hd < tm ∧ tm ≤ 9) → (qm hd = qv hd) → (8 - x6 < (fu : Int)) → ∀ (H : Heap) (locs : List Loc), va_P E.1 CL ((BW E o sc ar) ++ ([(wy, .inl (E.2 (3000 + 1), 1, .inr (.inr (.inr (.inr (fun _ => some (o 1)))))))]) ++ ([(q_1, ia (E.2 0) 8 sm)]) ++ ([(q_2, .inr (9, [.ref u_4, iv (hd + 1), iv tm]))]) ++ ([(u_4, qa (E.2 4) 17 qf)]) ++ ([(q_5, ia (E.2 0) 8 fm)])) H → va_D A ((BW E o sc ar) ++ ([(wy, .inl (E.2 (3000 + 1), 1, .inr (.inr (.inr (.inr (fun _ => some (o 1)))))))]) ++ ([(q_1, ia (E.2 0) 8 sm)]) ++ ([(q_2, .inr (9, [.ref u_4, iv (hd + 1), iv tm]))]) ++ ([(u_4, qa (E.2 4) 17 qf)]) ++ ([(q_5, ia (E.2 0) 8 fm)])) → va_S A s.heap H locs → ∀ ls : Array Slot, lv_has ls 7 [(6, iv x6), (5, iv (qv hd)), (4, .ref q_5), (3, .ref q_2), (2, .ref q_1), (0, iv t), (1, .ref wy)] → W p l e (headSpec (ws_ yX3_steps cX3_steps 7 (some (.array .int))) { frames := 4, cells := 4, slots := 36, locals := 82 }).room s m ([iv t, .ref wy] : List Value).toArray below meth c H locs 4 36 (MQ below (UQxr E (fun u : Nat × (Int → Int) => BE g true t u.2) (fun u : Nat × (Int → Int) => u.1) (fun u : Nat × (Int → Int) => (BW E o sc ar) ++ ([(wy, .inl (E.2 (3000 + 1), 1, .inr (.inr (.inr (.inr (fun _ => some (o 1)))))))]) ++ ([(u.1, ia (E.2 0) 8 u.2)])) A) ([iv t, .ref wy] : List Value).toArray s 4 36 A) (F0 m 49 ls []) := by
          intro fu
          induction fu with
          | zero =>
            intro x6 tm sm qf fm qm il49_0 il49_1 il49_2 il49_3 il49_4 il49_5 hm
            exfalso; omega
          | succ fu ih =>
            intro x6 tm sm qf fm qm il49_0 il49_1 il49_2 il49_3 il49_4 il49_5 hm H locs hP hD hS ls hl
            have ihl49 := ih
            refine lv_iload hx hb dX3_steps_49 (lv_at hl 0 rfl) ?_
            refine lv_bipush (v := iI 8) hx hb dX3_steps_51 (by decide) ?_
            refine n_icmp_ge (tgt := 111) hx hb dX3_steps_53 (by decide) (by omega) (by omega) (fun c_10 => ?_) (fun c_10 => ?_)
            · have h8 : x6 = 8 := by omega
              subst h8
              have hB := il49_0.next (by omega)
              have hQ := il49_3
              have hF := il49_2
              refine lv_goto (tgt := 27) hx hb dX3_steps_111 (by decide) ?_
              exact ihl27 (hd + 1) tm sm qf fm qm (by exact hB) (by exact fun y a b => hB.str ⟨a, b⟩) (by exact hF) (by exact hQ) (by have := hB.tl8; have := hB.1; omega) (by omega) H locs hP hD hS ls (lv_sub hl [2, 3, 4, 5, 6] rfl)
            · refine lv_aload_n hx hb dX3_steps_56 rfl (lv_at hl 4 rfl) ?_
              refine lv_iload hx hb dX3_steps_57 (lv_at hl 0 rfl) ?_
              refine n_iald (f := sm) hx hb hK.1 hP 9 0 rfl rfl (by omega) (by decide) dX3_steps_59 ?_
              have b_11 := il49_1 x6 (by omega) (by omega)
              refine n_if_ne (tgt := 105) hx hb dX3_steps_60 (by decide) (by omega) (fun c_12 => ?_) (fun c_12 => ?_)
              · have hB : BI g true t sm hd (x6 + 1) tm qm := il49_0.skip (by omega) (by omega) (by first | exact Or.inl (by assumption) | exact Or.inr (by rw [il49_5]; assumption))
                have hqm := il49_5
                have hQ := il49_3
                have hF := il49_2
                refine lv_iinc (v := iI (x6 + 1)) (lv' := [(6, iv (x6 + 1)), (5, iv (qv hd)), (4, .ref q_5), (3, .ref q_2), (2, .ref q_1), (0, iv t), (1, .ref wy)]) hx hb dX3_steps_105 hl (k := 0) rfl (iI_add _ _) (by decide) rfl (fun ls hl => ?_)
                refine lv_goto (tgt := 49) hx hb dX3_steps_108 (by decide) ?_
                exact ihl49 (x6 + 1) tm sm qf fm qm (by exact hB) (by exact fun y a b => hB.str ⟨a, b⟩) (by exact hF) (by exact hQ) (by have := hB.tl8; omega) (by exact hqm) (by omega) H locs hP hD hS ls (lv_sub hl [0, 1, 2, 3, 4, 5, 6] rfl)
              · refine lv_aload_n hx hb dX3_steps_63 rfl (lv_at hl 6 rfl) ?_
                refine lv_iload hx hb dX3_steps_64 (lv_at hl 1 rfl) ?_
                refine lv_iload hx hb dX3_steps_66 (lv_at hl 0 rfl) ?_
                refine n_tx5S (x := fun _ : Unit => b2 (m_edge g true (qv hd) x6)) (w2 := fun _ => (BW E o sc ar) ++ ([(wy, .inl (E.2 (3000 + 1), 1, .inr (.inr (.inr (.inr (fun _ => some (o 1)))))))]) ++ ([(q_1, ia (E.2 0) 8 sm)]) ++ ([(q_2, .inr (9, [.ref u_4, iv (hd + 1), iv tm]))]) ++ ([(u_4, qa (E.2 4) 17 qf)]) ++ ([(q_5, ia (E.2 0) 8 fm)])) (w3 := fun _ : Unit => (BW E o sc ar) ++ ([(wy, .inl (E.2 (3000 + 1), 1, .inr (.inr (.inr (.inr (fun _ => some (o 1)))))))]) ++ ([(q_1, ia (E.2 0) 8 sm)]) ++ ([(q_2, .inr (9, [.ref u_4, iv (hd + 1), iv tm]))]) ++ ([(u_4, qa (E.2 4) 17 qf)]) ++ ([(q_5, ia (E.2 0) 8 fm)])) (n_fwZ0 (rest := []) hx hb (hl.1.trans hml.symm) hts hK hown (hts _ q596) ls_1 rfl (by decide +kernel) lk_1 ⟨rfl, rfl, by decide +kernel⟩ (y := yX3_lambda_anyWay_1) ⟨rfl, rfl, by decide +kernel, rfl⟩ ⟨by decide +kernel, by decide +kernel⟩ q532 q96 (sig := ⟨[.int, .int], some .boolean⟩) (by decide +kernel) rfl (mt_X3_lambda_anyWay_1 l E o sc ar (qv hd) x6 g (by omega) (by omega) (by assumption) (by assumption) (by assumption) (by assumption) _) rfl rfl q531 qs4 (hP 8 _ rfl) rfl rfl rfl (UX_V (hP.sub (ws' := BW E o sc ar) [0, 1, 2, 3, 4, 5, 6, 7] rfl) hK (hD.sub (ws' := BW E o sc ar) [0, 1, 2, 3, 4, 5, 6, 7] rfl rfl) hE hS (va_sub_free hD hS hA [0, 1, 2, 3, 4, 5, 6, 7] rfl) (va_recv hK.1 hP (ci := 3) (q0 := 0) rfl rfl)) (Nat.le_of_ble_eq_true rfl) (Nat.le_of_ble_eq_true rfl) (Nat.le_of_ble_eq_true rfl) (Nat.le_of_ble_eq_true rfl) dX3_steps_68) hP hD hS hA [0, 1, 2, 3, 4, 5, 6, 7] [8, 9, 10, 11, 12] [5, 6, 7, 8, 9, 10, 11, 12, 0, 1, 2, 3, 4] [5, 6, 7, 8, 9, 10, 11, 12, 0, 1, 2, 3, 4] rfl rfl rfl rfl rfl (fun _ => rfl) rfl (fun _ => rfl) (fun _ _ _ _ _ _ h9 => (show False from h9).elim) (fun u_13 H locs hu_13 hP hD hS => ?_)
                have hP : va_P E.1 CL ((BW E o sc ar) ++ ([(wy, .inl (E.2 (3000 + 1), 1, .inr (.inr (.inr (.inr (fun _ => some (o 1)))))))]) ++ ([(q_1, ia (E.2 0) 8 sm)]) ++ ([(q_2, .inr (9, [.ref u_4, iv (hd + 1), iv tm]))]) ++ ([(u_4, qa (E.2 4) 17 qf)]) ++ ([(q_5, ia (E.2 0) 8 fm)])) H := hP
                have hD : va_D A ((BW E o sc ar) ++ ([(wy, .inl (E.2 (3000 + 1), 1, .inr (.inr (.inr (.inr (fun _ => some (o 1)))))))]) ++ ([(q_1, ia (E.2 0) 8 sm)]) ++ ([(q_2, .inr (9, [.ref u_4, iv (hd + 1), iv tm]))]) ++ ([(u_4, qa (E.2 4) 17 qf)]) ++ ([(q_5, ia (E.2 0) 8 fm)])) := hD
                refine n_ifb_eq (tgt := 105) hx hb dX3_steps_73 (by decide) (fun c_14 => ?_) (fun c_14 => ?_)
                · have hB : BI g true t sm hd (x6 + 1) tm qm := il49_0.skip (by omega) (by omega) (by first | exact Or.inl (by assumption) | exact Or.inr (by rw [il49_5]; assumption))
                  have hqm := il49_5
                  have hQ := il49_3
                  have hF := il49_2
                  refine lv_iinc (v := iI (x6 + 1)) (lv' := [(6, iv (x6 + 1)), (5, iv (qv hd)), (4, .ref q_5), (3, .ref q_2), (2, .ref q_1), (0, iv t), (1, .ref wy)]) hx hb dX3_steps_105 hl (k := 0) rfl (iI_add _ _) (by decide) rfl (fun ls hl => ?_)
                  refine lv_goto (tgt := 49) hx hb dX3_steps_108 (by decide) ?_
                  exact ihl49 (x6 + 1) tm sm qf fm qm (by exact hB) (by exact fun y a b => hB.str ⟨a, b⟩) (by exact hF) (by exact hQ) (by have := hB.tl8; omega) (by exact hqm) (by omega) H locs hP hD hS ls (lv_sub hl [0, 1, 2, 3, 4, 5, 6] rfl)
                · refine lv_aload_n hx hb dX3_steps_76 rfl (lv_at hl 4 rfl) ?_
                  refine lv_iload hx hb dX3_steps_77 (lv_at hl 0 rfl) ?_
                  refine lv_aload hx hb dX3_steps_79 (lv_at hl 2 rfl) ?_
                  refine lv_iload hx hb dX3_steps_81 (lv_at hl 1 rfl) ?_
                  refine n_iald (f := fm) hx hb hK.1 hP 12 0 rfl rfl (by omega) (by decide) dX3_steps_83 ?_
                  rw [il49_2 (qv hd) (by omega) (by omega)]
                  refine lv_iconst (v := iI 1) hx hb dX3_steps_84 rfl ?_
                  refine n_iadd hx hb dX3_steps_85 ?_
                  refine n_iast (f := sm) hx hb hK.1 hP hD hS 9 0 rfl rfl (by omega) (by decide) dX3_steps_86 (ws2 := (BW E o sc ar) ++ ([(wy, .inl (E.2 (3000 + 1), 1, .inr (.inr (.inr (.inr (fun _ => some (o 1)))))))]) ++ ([(q_1, ia (E.2 0) 8 (ui sm x6 ((sm (qv hd)) + 1)))]) ++ ([(q_2, .inr (9, [.ref u_4, iv (hd + 1), iv tm]))]) ++ ([(u_4, qa (E.2 4) 17 qf)]) ++ ([(q_5, ia (E.2 0) 8 fm)])) rfl (fun H locs hP hD hS => ?_)
                  refine lv_aload hx hb dX3_steps_87 (lv_at hl 2 rfl) ?_
                  refine lv_iload hx hb dX3_steps_89 (lv_at hl 0 rfl) ?_
                  refine lv_aload_n hx hb dX3_steps_91 rfl (lv_at hl 4 rfl) ?_
                  refine lv_iload hx hb dX3_steps_92 (lv_at hl 0 rfl) ?_
                  refine n_iald (f := ui sm x6 ((sm (qv hd)) + 1)) hx hb hK.1 hP 9 0 rfl rfl (by omega) (by decide) dX3_steps_94 ?_
                  refine n_iast (f := fm) hx hb hK.1 hP hD hS 12 0 rfl rfl (by omega) (by decide) dX3_steps_95 (ws2 := (BW E o sc ar) ++ ([(wy, .inl (E.2 (3000 + 1), 1, .inr (.inr (.inr (.inr (fun _ => some (o 1)))))))]) ++ ([(q_1, ia (E.2 0) 8 (ui sm x6 ((sm (qv hd)) + 1)))]) ++ ([(q_2, .inr (9, [.ref u_4, iv (hd + 1), iv tm]))]) ++ ([(u_4, qa (E.2 4) 17 qf)]) ++ ([(q_5, ia (E.2 0) 8 (ui fm x6 ((ui sm x6 ((sm (qv hd)) + 1)) x6)))])) rfl (fun H locs hP hD hS => ?_)
                  refine lv_aload_n hx hb dX3_steps_96 rfl (lv_at hl 3 rfl) ?_
                  refine lv_iload hx hb dX3_steps_97 (lv_at hl 0 rfl) ?_
                  refine n_csr (x := BX E x6) (va_runS (As := [iv x6]) (rest := [.ref q_2]) ⟨hx, hb, hml, hown, hts⟩ (mt_J18_valueOf l E x6 (by omega)) (va_cwS 1 hts (lw_S q558 q559 q119 q560) rfl rfl rfl (by decide +kernel) ⟨Nat.le_of_ble_eq_true rfl, Nat.le_of_ble_eq_true rfl⟩) (PX_S (hP.sub (ws' := []) [] rfl) hK hE hS) rfl rfl hl.1 rfl (lv_room (Nat.le_of_ble_eq_true rfl)) dX3_steps_99 ⟨Nat.le_of_ble_eq_true rfl, Nat.le_of_ble_eq_true rfl⟩) ?_
                  have ht8 := il49_0.tl7 (y := x6) (by omega) (by omega)
                  refine n_cuvS (w2 := (BW E o sc ar) ++ ([(wy, .inl (E.2 (3000 + 1), 1, .inr (.inr (.inr (.inr (fun _ => some (o 1)))))))]) ++ ([(q_1, ia (E.2 0) 8 (ui sm x6 ((sm (qv hd)) + 1)))]) ++ ([(q_2, .inr (9, [.ref u_4, iv (hd + 1), iv (if tm + 1 < 17 then tm + 1 else 0)]))]) ++ ([(u_4, qa (E.2 4) 17 (uq qf tm (some (BX E x6))))]) ++ ([(q_5, ia (E.2 0) 8 (ui fm x6 ((ui sm x6 ((sm (qv hd)) + 1)) x6)))])) (va_runV (As := [.ref (BX E x6)]) (rest := []) ⟨hx, hb, hml, hown, hts⟩ (mt_J1_addLastI l E q_2 (hd + 1) tm u_4 qf x6 (by omega) (by omega) (by omega) (by split <;> omega) _) (cwV 1 hts (lw_V q578 q340 q341 q98 q342) rfl rfl rfl (by decide +kernel) ⟨Nat.le_of_ble_eq_true rfl, Nat.le_of_ble_eq_true rfl⟩) (UX_V (hP.sub (ws' := ([(q_2, .inr (9, [.ref u_4, iv (hd + 1), iv tm]))]) ++ ([(u_4, qa (E.2 4) 17 qf)])) [10, 11] rfl) hK (hD.sub (ws' := ([(q_2, .inr (9, [.ref u_4, iv (hd + 1), iv tm]))]) ++ ([(u_4, qa (E.2 4) 17 qf)])) [10, 11] rfl rfl) hE hS (va_sub_free hD hS hA [10, 11] rfl) (va_recv hK.1 hP (ci := 9) (q0 := 10) rfl rfl)) rfl rfl hl.1 rfl (lv_room (Nat.le_of_ble_eq_true rfl)) dX3_steps_102 ⟨Nat.le_of_ble_eq_true rfl, Nat.le_of_ble_eq_true rfl⟩) hP hD hS hA [10, 11] [0, 1, 2, 3, 4, 5, 6, 7, 8, 9, 12] [0, 1, 2, 3, 4, 5, 6, 7, 8, 9, 11, 12, 10] rfl rfl rfl rfl rfl rfl (fun H locs hP hD hS => ?_)
                  have hP : va_P E.1 CL ((BW E o sc ar) ++ ([(wy, .inl (E.2 (3000 + 1), 1, .inr (.inr (.inr (.inr (fun _ => some (o 1)))))))]) ++ ([(q_1, ia (E.2 0) 8 (ui sm x6 ((sm (qv hd)) + 1)))]) ++ ([(q_2, .inr (9, [.ref u_4, iv (hd + 1), iv (if tm + 1 < 17 then tm + 1 else 0)]))]) ++ ([(u_4, qa (E.2 4) 17 (uq qf tm (some (BX E x6))))]) ++ ([(q_5, ia (E.2 0) 8 (ui fm x6 ((ui sm x6 ((sm (qv hd)) + 1)) x6)))])) H := hP
                  have hD : va_D A ((BW E o sc ar) ++ ([(wy, .inl (E.2 (3000 + 1), 1, .inr (.inr (.inr (.inr (fun _ => some (o 1)))))))]) ++ ([(q_1, ia (E.2 0) 8 (ui sm x6 ((sm (qv hd)) + 1)))]) ++ ([(q_2, .inr (9, [.ref u_4, iv (hd + 1), iv (if tm + 1 < 17 then tm + 1 else 0)]))]) ++ ([(u_4, qa (E.2 4) 17 (uq qf tm (some (BX E x6))))]) ++ ([(q_5, ia (E.2 0) 8 (ui fm x6 ((ui sm x6 ((sm (qv hd)) + 1)) x6)))])) := hD
                  have w_15 : ((if tm + 1 < 17 then tm + 1 else 0) : Int) = tm + 1 := by exact if_pos (by omega)
                  rw [w_15] at hP hD
                  have hP : va_P E.1 CL ((BW E o sc ar) ++ ([(wy, .inl (E.2 (3000 + 1), 1, .inr (.inr (.inr (.inr (fun _ => some (o 1)))))))]) ++ ([(q_1, ia (E.2 0) 8 (ui sm x6 ((sm (qv hd)) + 1)))]) ++ ([(q_2, .inr (9, [.ref u_4, iv (hd + 1), iv (tm + 1)]))]) ++ ([(u_4, qa (E.2 4) 17 (uq qf tm (some (BX E x6))))]) ++ ([(q_5, ia (E.2 0) 8 (ui fm x6 ((ui sm x6 ((sm (qv hd)) + 1)) x6)))])) H := hP
                  have hD : va_D A ((BW E o sc ar) ++ ([(wy, .inl (E.2 (3000 + 1), 1, .inr (.inr (.inr (.inr (fun _ => some (o 1)))))))]) ++ ([(q_1, ia (E.2 0) 8 (ui sm x6 ((sm (qv hd)) + 1)))]) ++ ([(q_2, .inr (9, [.ref u_4, iv (hd + 1), iv (tm + 1)]))]) ++ ([(u_4, qa (E.2 4) 17 (uq qf tm (some (BX E x6))))]) ++ ([(q_5, ia (E.2 0) 8 (ui fm x6 ((ui sm x6 ((sm (qv hd)) + 1)) x6)))])) := hD
                  have hB : BI g true t (ui sm x6 (sm (qv hd) + 1)) hd (x6 + 1) (tm + 1) (ui qm tm x6) := by have q9 := il49_0.hit (x := x6) (by omega) (by omega) (by omega) (by rw [il49_5]; assumption); rw [il49_5] at q9; exact q9
                  have hqm : ui qm tm x6 hd = qv hd := by rw [ui_n (by omega)]; exact il49_5
                  have hQ : ∀ i, hd + 1 ≤ i → i < tm + 1 → uq qf tm (some (BX E x6)) i = some (BX E (ui qm tm x6 i)) := by
                    intro i h1 h2; unfold uq ui; by_cases hi : i = tm
                    · rw [if_pos hi, if_pos hi]
                    · rw [if_neg hi, if_neg hi]; exact il49_3 i h1 (by omega)
                  have hF : ∀ y, 0 ≤ y → y < 8 → ui fm x6 (ui sm x6 (sm (qv hd) + 1) x6) y = ui sm x6 (sm (qv hd) + 1) y := by
                    intro y h1 h2; unfold ui; by_cases hy : y = x6
                    · rw [if_pos hy, if_pos hy, if_pos rfl]
                    · rw [if_neg hy, if_neg hy]; exact il49_2 y h1 h2
                  refine lv_iinc (v := iI (x6 + 1)) (lv' := [(6, iv (x6 + 1)), (5, iv (qv hd)), (4, .ref q_5), (3, .ref q_2), (2, .ref q_1), (0, iv t), (1, .ref wy)]) hx hb dX3_steps_105 hl (k := 0) rfl (iI_add _ _) (by decide) rfl (fun ls hl => ?_)
                  refine lv_goto (tgt := 49) hx hb dX3_steps_108 (by decide) ?_
                  exact ihl49 (x6 + 1) (tm + 1) (ui sm x6 ((sm (qv hd)) + 1)) (uq qf tm (some (BX E x6))) (ui fm x6 ((ui sm x6 ((sm (qv hd)) + 1)) x6)) (ui qm tm x6) (by exact hB) (by exact fun y a b => hB.str ⟨a, b⟩) (by exact hF) (by exact hQ) (by have := hB.tl8; omega) (by exact hqm) (by omega) H locs hP hD hS ls (lv_sub hl [0, 1, 2, 3, 4, 5, 6] rfl)
        exact l49 9 0 tl st (uq fq hd none) fr qv (by exact il27_0) (by exact il27_1) (by exact il27_2) (by exact hq49) (by have := il27_4; omega) (by rfl) (by omega) H locs hP hD hS ls hl
  exact l27 10 0 1 (fun _ => 0) (uq (fun _ => none) 0 (some (BX E t))) (fun _ => 0) (fun _ => t) (by exact BI_init ht rfl) (by exact fun _ _ _ => ⟨by decide, by decide⟩) (by exact fun _ _ _ => rfl) (by intro i h1 h2; rw [show i = 0 by omega]; rfl) (by decide) (by omega) H locs hP hD hS ls hl
set_option maxHeartbeats 2000000 in
set_option maxRecDepth 100000 in
theorem mt_X3_steps2 (l : Launch) (E : EE) (o : Nat → Nat) (sc : Nat → Int) (ar : Nat → Int → Int) (wy : Nat) (t : Int) (g : Int → Int) (ht : 0 ≤ t ∧ t < 8) (hbr : BR g ar) (hhn : HN g) (htw : TW g) (hsw : SwOK g) (sz : Nat) : Met l yX3_steps (ws_ yX3_steps cX3_steps 7 (some (.array .int))) { frames := 4, cells := 4, slots := 36, locals := 82 } (va_Pc [iv t, .ref wy] (UX E ((BW E o sc ar) ++ ([(wy, .inl (E.2 (3000 + 2), 1, .inr (.inr (.inr (.inr (fun _ => some (o 1)))))))])) sz)) (UQxr E (fun u : Nat × (Int → Int) => BE g false t u.2) (fun u : Nat × (Int → Int) => u.1) (fun u : Nat × (Int → Int) => (BW E o sc ar) ++ ([(wy, .inl (E.2 (3000 + 2), 1, .inr (.inr (.inr (.inr (fun _ => some (o 1)))))))]) ++ ([(u.1, ia (E.2 0) 8 u.2)])) (va_A ((BW E o sc ar) ++ ([(wy, .inl (E.2 (3000 + 2), 1, .inr (.inr (.inr (.inr (fun _ => some (o 1)))))))])) sz)) 4 36 (va_A ((BW E o sc ar) ++ ([(wy, .inl (E.2 (3000 + 2), 1, .inr (.inr (.inr (.inr (fun _ => some (o 1)))))))])) sz) := by
  refine Met.ofW (cc := cX3_steps) (maxL := 7) (ret := (some (.array .int))) (by decide) rfl ?_
  intro p e s m args below meth c s₁ B hml hv
  obtain ⟨rfl, hsz, hP, hK, hD0, hE⟩ := hv
  have hx := B.exec
  have hb := B.bytes
  have hr := B.returns
  have hts := atoms_spec (ws := (ws_ yX3_steps cX3_steps 7 (some (.array .int)))) B.pre
  have hts : ∀ w ∈ lw_all, w.before _ s = true := fun w h => hts w (List.mem_cons_of_mem _ h)
  have hown : s.vm.findClass RX3 = some m.cls := findClass_of_methodNamed B.named
  have hlocks := B.notSynchronized
  subst hsz
  have hD := hD0.self (sz := s.heap.size)
  generalize hAe : va_A ((BW E o sc ar) ++ ([(wy, .inl (E.2 (3000 + 2), 1, .inr (.inr (.inr (.inr (fun _ => some (o 1)))))))])) s.heap.size = A at hD hE ⊢
  have hA : ∀ q : Nat, s.heap.size ≤ q → A q := fun q h => by rw [← hAe]; exact Or.inr h
  have hS : va_S A s.heap s.heap [] := va_S.rf
  have hl := lv_entry ([iv t, .ref wy]) (n := 7) (Nat.le_of_ble_eq_true rfl)
  rw [lg_entry_eq]
  generalize (lg_sl ([iv t, .ref wy]) ++ List.replicate (7 - (lg_sl ([iv t, .ref wy])).length) Slot.unset).toArray = ls at hl ⊢
  have hl : lv_has ls 7 [(0, iv t), (1, .ref wy)] := hl
  refine lv_bipush (v := iI 8) hx hb dX3_steps_0 (by decide) ?_
  refine n_newa hx hb (ty := .int) rfl (hts _ q187) 0 rfl rfl hK hP hD hS hA (N' := 8) rfl (by decide) (by decide) (Nat.le_of_ble_eq_true rfl) (Nat.le_of_ble_eq_true rfl) dX3_steps_2 (fun q_1 H hP hD hS => ?_)
  have hP : va_P E.1 CL ((BW E o sc ar) ++ ([(wy, .inl (E.2 (3000 + 2), 1, .inr (.inr (.inr (.inr (fun _ => some (o 1)))))))]) ++ ([(q_1, ia (E.2 0) 8 (fun _ => 0))])) H := hP
  have hD : va_D A ((BW E o sc ar) ++ ([(wy, .inl (E.2 (3000 + 2), 1, .inr (.inr (.inr (.inr (fun _ => some (o 1)))))))]) ++ ([(q_1, ia (E.2 0) 8 (fun _ => 0))])) := hD
  refine lv_astore_n (lv' := [(2, .ref q_1), (0, iv t), (1, .ref wy)]) hx hb dX3_steps_4 rfl hl (by decide) rfl (fun ls hl => ?_)
  have hz9_q_2 : s.heap.size ≤ (H).size := hS.1
  refine n_newK (ci := 9) (fs := [.null, iv 0, iv 0]) (C := RJ1) (T := TJ1) (N := 3) hx hb hts in_J1 tyJ1 tyJ1_ok hown (hts _ q556) (hts _ q243) (hts _ q98) hK hP hD hS hA rfl (fun j hj => by rcases (show j = 0 ∨ j = 1 ∨ j = 2 by omega) with rfl | rfl | rfl <;> rfl) (Nat.le_of_ble_eq_true rfl) (Nat.le_of_ble_eq_true rfl) dX3_steps_5 (fun q_2 H hfr_q_2 o_3 hsz_q_2 hP hD hS => ?_)
  have hge_q_2 : s.heap.size ≤ q_2 := Nat.le_trans hz9_q_2 hsz_q_2
  have hP : va_P E.1 CL ((BW E o sc ar) ++ ([(wy, .inl (E.2 (3000 + 2), 1, .inr (.inr (.inr (.inr (fun _ => some (o 1)))))))]) ++ ([(q_1, ia (E.2 0) 8 (fun _ => 0))]) ++ ([(q_2, .inr (9, [.null, iv 0, iv 0]))])) H := hP
  have hD : va_D A ((BW E o sc ar) ++ ([(wy, .inl (E.2 (3000 + 2), 1, .inr (.inr (.inr (.inr (fun _ => some (o 1)))))))]) ++ ([(q_1, ia (E.2 0) 8 (fun _ => 0))]) ++ ([(q_2, .inr (9, [.null, iv 0, iv 0]))])) := hD
  refine lv_dup hx hb dX3_steps_8 rfl ?_
  refine n_cuxvS (w2 := fun u_4 => (BW E o sc ar) ++ ([(wy, .inl (E.2 (3000 + 2), 1, .inr (.inr (.inr (.inr (fun _ => some (o 1)))))))]) ++ ([(q_1, ia (E.2 0) 8 (fun _ => 0))]) ++ ([(q_2, .inr (9, [.ref u_4, iv 0, iv 0]))]) ++ ([(u_4, qa (E.2 4) 17 (fun _ => none))])) (va_runI (As := []) (rest := [.ref q_2]) ⟨hx, hb, hml, hown, hts⟩ (mt_J1_init l E q_2  _) (n_cwI 0 hts q557 q245 q98 q246 rfl rfl rfl (by decide +kernel) ⟨Nat.le_of_ble_eq_true rfl, Nat.le_of_ble_eq_true rfl⟩) (UW_S (hP.sub (ws' := [(q_2, .inr (9, [.null, iv 0, iv 0]))]) [10] rfl) hK (hD.sub (ws' := [(q_2, .inr (9, [.null, iv 0, iv 0]))]) [10] rfl rfl)) rfl rfl hl.1 rfl (lv_room (Nat.le_of_ble_eq_true rfl)) dX3_steps_9 ⟨Nat.le_of_ble_eq_true rfl, Nat.le_of_ble_eq_true rfl⟩) hP hD hS hA [10] [0, 1, 2, 3, 4, 5, 6, 7, 8, 9] [0, 1, 2, 3, 4, 5, 6, 7, 8, 9, 10, 11] rfl rfl rfl rfl rfl (fun _ => rfl) (fun u_4 H locs hu_4 hP hD hS => ?_)
  have hu_4 : True := hu_4
  have hP : va_P E.1 CL ((BW E o sc ar) ++ ([(wy, .inl (E.2 (3000 + 2), 1, .inr (.inr (.inr (.inr (fun _ => some (o 1)))))))]) ++ ([(q_1, ia (E.2 0) 8 (fun _ => 0))]) ++ ([(q_2, .inr (9, [.ref u_4, iv 0, iv 0]))]) ++ ([(u_4, qa (E.2 4) 17 (fun _ => none))])) H := hP
  have hD : va_D A ((BW E o sc ar) ++ ([(wy, .inl (E.2 (3000 + 2), 1, .inr (.inr (.inr (.inr (fun _ => some (o 1)))))))]) ++ ([(q_1, ia (E.2 0) 8 (fun _ => 0))]) ++ ([(q_2, .inr (9, [.ref u_4, iv 0, iv 0]))]) ++ ([(u_4, qa (E.2 4) 17 (fun _ => none))])) := hD
  refine lv_astore_n (lv' := [(3, .ref q_2), (2, .ref q_1), (0, iv t), (1, .ref wy)]) hx hb dX3_steps_12 rfl hl (by decide) rfl (fun ls hl => ?_)
  refine lv_aload_n hx hb dX3_steps_13 rfl (lv_at hl 0 rfl) ?_
  refine lv_iload_n hx hb dX3_steps_14 rfl (lv_at hl 2 rfl) ?_
  refine n_csr (x := BX E t) (va_runS (As := [iv t]) (rest := [.ref q_2]) ⟨hx, hb, hml, hown, hts⟩ (mt_J18_valueOf l E t (by omega)) (va_cwS 1 hts (lw_S q558 q559 q119 q560) rfl rfl rfl (by decide +kernel) ⟨Nat.le_of_ble_eq_true rfl, Nat.le_of_ble_eq_true rfl⟩) (PX_S (hP.sub (ws' := []) [] rfl) hK hE hS) rfl rfl hl.1 rfl (lv_room (Nat.le_of_ble_eq_true rfl)) dX3_steps_15 ⟨Nat.le_of_ble_eq_true rfl, Nat.le_of_ble_eq_true rfl⟩) ?_
  refine n_cuvS (w2 := (BW E o sc ar) ++ ([(wy, .inl (E.2 (3000 + 2), 1, .inr (.inr (.inr (.inr (fun _ => some (o 1)))))))]) ++ ([(q_1, ia (E.2 0) 8 (fun _ => 0))]) ++ ([(q_2, .inr (9, [.ref u_4, iv 0, iv (if 0 + 1 < 17 then 0 + 1 else 0)]))]) ++ ([(u_4, qa (E.2 4) 17 (uq (fun _ => none) 0 (some (BX E t))))])) (va_runV (As := [.ref (BX E t)]) (rest := []) ⟨hx, hb, hml, hown, hts⟩ (mt_J1_addLastI l E q_2 0 0 u_4 (fun _ => none) t (by omega) (by omega) (by omega) (by decide) _) (cwV 1 hts (lw_V q578 q340 q341 q98 q342) rfl rfl rfl (by decide +kernel) ⟨Nat.le_of_ble_eq_true rfl, Nat.le_of_ble_eq_true rfl⟩) (UX_V (hP.sub (ws' := ([(q_2, .inr (9, [.ref u_4, iv 0, iv 0]))]) ++ ([(u_4, qa (E.2 4) 17 (fun _ => none))])) [10, 11] rfl) hK (hD.sub (ws' := ([(q_2, .inr (9, [.ref u_4, iv 0, iv 0]))]) ++ ([(u_4, qa (E.2 4) 17 (fun _ => none))])) [10, 11] rfl rfl) hE hS (va_sub_free hD hS hA [10, 11] rfl) (va_recv hK.1 hP (ci := 9) (q0 := 10) rfl rfl)) rfl rfl hl.1 rfl (lv_room (Nat.le_of_ble_eq_true rfl)) dX3_steps_18 ⟨Nat.le_of_ble_eq_true rfl, Nat.le_of_ble_eq_true rfl⟩) hP hD hS hA [10, 11] [0, 1, 2, 3, 4, 5, 6, 7, 8, 9] [0, 1, 2, 3, 4, 5, 6, 7, 8, 9, 10, 11] rfl rfl rfl rfl rfl rfl (fun H locs hP hD hS => ?_)
  have hP : va_P E.1 CL ((BW E o sc ar) ++ ([(wy, .inl (E.2 (3000 + 2), 1, .inr (.inr (.inr (.inr (fun _ => some (o 1)))))))]) ++ ([(q_1, ia (E.2 0) 8 (fun _ => 0))]) ++ ([(q_2, .inr (9, [.ref u_4, iv 0, iv (if 0 + 1 < 17 then 0 + 1 else 0)]))]) ++ ([(u_4, qa (E.2 4) 17 (uq (fun _ => none) 0 (some (BX E t))))])) H := hP
  have hD : va_D A ((BW E o sc ar) ++ ([(wy, .inl (E.2 (3000 + 2), 1, .inr (.inr (.inr (.inr (fun _ => some (o 1)))))))]) ++ ([(q_1, ia (E.2 0) 8 (fun _ => 0))]) ++ ([(q_2, .inr (9, [.ref u_4, iv 0, iv (if 0 + 1 < 17 then 0 + 1 else 0)]))]) ++ ([(u_4, qa (E.2 4) 17 (uq (fun _ => none) 0 (some (BX E t))))])) := hD
  refine lv_bipush (v := iI 8) hx hb dX3_steps_21 (by decide) ?_
  refine n_newa hx hb (ty := .int) rfl (hts _ q187) 0 rfl rfl hK hP hD hS hA (N' := 8) rfl (by decide) (by decide) (Nat.le_of_ble_eq_true rfl) (Nat.le_of_ble_eq_true rfl) dX3_steps_23 (fun q_5 H hP hD hS => ?_)
  have hP : va_P E.1 CL ((BW E o sc ar) ++ ([(wy, .inl (E.2 (3000 + 2), 1, .inr (.inr (.inr (.inr (fun _ => some (o 1)))))))]) ++ ([(q_1, ia (E.2 0) 8 (fun _ => 0))]) ++ ([(q_2, .inr (9, [.ref u_4, iv 0, iv (if 0 + 1 < 17 then 0 + 1 else 0)]))]) ++ ([(u_4, qa (E.2 4) 17 (uq (fun _ => none) 0 (some (BX E t))))]) ++ ([(q_5, ia (E.2 0) 8 (fun _ => 0))])) H := hP
  have hD : va_D A ((BW E o sc ar) ++ ([(wy, .inl (E.2 (3000 + 2), 1, .inr (.inr (.inr (.inr (fun _ => some (o 1)))))))]) ++ ([(q_1, ia (E.2 0) 8 (fun _ => 0))]) ++ ([(q_2, .inr (9, [.ref u_4, iv 0, iv (if 0 + 1 < 17 then 0 + 1 else 0)]))]) ++ ([(u_4, qa (E.2 4) 17 (uq (fun _ => none) 0 (some (BX E t))))]) ++ ([(q_5, ia (E.2 0) 8 (fun _ => 0))])) := hD
  have w_6 : ((if 0 + 1 < 17 then 0 + 1 else 0) : Int) = 1 := by rfl
  rw [w_6] at hP hD
  have hP : va_P E.1 CL ((BW E o sc ar) ++ ([(wy, .inl (E.2 (3000 + 2), 1, .inr (.inr (.inr (.inr (fun _ => some (o 1)))))))]) ++ ([(q_1, ia (E.2 0) 8 (fun _ => 0))]) ++ ([(q_2, .inr (9, [.ref u_4, iv 0, iv 1]))]) ++ ([(u_4, qa (E.2 4) 17 (uq (fun _ => none) 0 (some (BX E t))))]) ++ ([(q_5, ia (E.2 0) 8 (fun _ => 0))])) H := hP
  have hD : va_D A ((BW E o sc ar) ++ ([(wy, .inl (E.2 (3000 + 2), 1, .inr (.inr (.inr (.inr (fun _ => some (o 1)))))))]) ++ ([(q_1, ia (E.2 0) 8 (fun _ => 0))]) ++ ([(q_2, .inr (9, [.ref u_4, iv 0, iv 1]))]) ++ ([(u_4, qa (E.2 4) 17 (uq (fun _ => none) 0 (some (BX E t))))]) ++ ([(q_5, ia (E.2 0) 8 (fun _ => 0))])) := hD
  refine lv_astore (lv' := [(4, .ref q_5), (3, .ref q_2), (2, .ref q_1), (0, iv t), (1, .ref wy)]) hx hb dX3_steps_25 hl (by decide) rfl (fun ls hl => ?_)
  have l27 : ∀ (fu : Nat) (hd : Int) (tl : Int) (st : Int → Int) (fq : Int → Option Nat) (fr : Int → Int) (qv : Int → Int), (BI g false t st hd 0 tl qv) → (∀ y, 0 ≤ y → y < 8 → 0 ≤ st y ∧ st y ≤ 8) → (∀ y, 0 ≤ y → y < 8 → fr y = st y) → (∀ i, hd ≤ i → i < tl → fq i = some (BX E (qv i))) → (0 ≤ hd ∧ hd ≤ tl ∧ 1 ≤ tl ∧ tl ≤ 9) → (9 - hd < (fu : Int)) → ∀ (H : Heap) (locs : List Loc), va_P E.1 CL ((BW E o sc ar) ++ ([(wy, .inl (E.2 (3000 + 2), 1, .inr (.inr (.inr (.inr (fun _ => some (o 1)))))))]) ++ ([(q_1, ia (E.2 0) 8 st)]) ++ ([(q_2, .inr (9, [.ref u_4, iv hd, iv tl]))]) ++ ([(u_4, qa (E.2 4) 17 fq)]) ++ ([(q_5, ia (E.2 0) 8 fr)])) H → va_D A ((BW E o sc ar) ++ ([(wy, .inl (E.2 (3000 + 2), 1, .inr (.inr (.inr (.inr (fun _ => some (o 1)))))))]) ++ ([(q_1, ia (E.2 0) 8 st)]) ++ ([(q_2, .inr (9, [.ref u_4, iv hd, iv tl]))]) ++ ([(u_4, qa (E.2 4) 17 fq)]) ++ ([(q_5, ia (E.2 0) 8 fr)])) → va_S A s.heap H locs → ∀ ls : Array Slot, lv_has ls 7 [(4, .ref q_5), (3, .ref q_2), (2, .ref q_1), (0, iv t), (1, .ref wy)] → W p l e (headSpec (ws_ yX3_steps cX3_steps 7 (some (.array .int))) { frames := 4, cells := 4, slots := 36, locals := 82 }).room s m ([iv t, .ref wy] : List Value).toArray below meth c H locs 4 36 (MQ below (UQxr E (fun u : Nat × (Int → Int) => BE g false t u.2) (fun u : Nat × (Int → Int) => u.1) (fun u : Nat × (Int → Int) => (BW E o sc ar) ++ ([(wy, .inl (E.2 (3000 + 2), 1, .inr (.inr (.inr (.inr (fun _ => some (o 1)))))))]) ++ ([(u.1, ia (E.2 0) 8 u.2)])) A) ([iv t, .ref wy] : List Value).toArray s 4 36 A) (F0 m 27 ls []) := by
    intro fu
    induction fu with
    | zero =>
      intro hd tl st fq fr qv il27_0 il27_1 il27_2 il27_3 il27_4 hm
      exfalso; omega
    | succ fu ih =>
      intro hd tl st fq fr qv il27_0 il27_1 il27_2 il27_3 il27_4 hm H locs hP hD hS ls hl
      have ihl27 := ih
      refine lv_aload_n hx hb dX3_steps_27 rfl (lv_at hl 1 rfl) ?_
      refine n_csi (x := b2 (decide (hd = tl))) (va_runV (As := []) (rest := []) ⟨hx, hb, hml, hown, hts⟩ (mt_J1_isEmpty l E q_2 hd tl u_4 fq  (by omega) (by omega)) (cwV 0 hts (lw_V q579 q580 q581 q98 q582) rfl rfl rfl (by decide +kernel) ⟨Nat.le_of_ble_eq_true rfl, Nat.le_of_ble_eq_true rfl⟩) (PW_V (hP.sub (ws' := ([(q_2, .inr (9, [.ref u_4, iv hd, iv tl]))]) ++ ([(u_4, qa (E.2 4) 17 fq)])) [10, 11] rfl) hK (va_recv hK.1 hP (ci := 9) (q0 := 10) rfl rfl)) rfl rfl hl.1 rfl (lv_room (Nat.le_of_ble_eq_true rfl)) dX3_steps_28 ⟨Nat.le_of_ble_eq_true rfl, Nat.le_of_ble_eq_true rfl⟩) ?_
      refine n_ifd_ne (tgt := 114) hx hb dX3_steps_31 (by decide) (fun c_7 => ?_) (fun c_7 => ?_)
      · have hbe := il27_0.fin (by assumption)
        refine lv_aload_n hx hb dX3_steps_114 rfl (lv_at hl 2 rfl) ?_
        have hP := hP.sub (ws' := (BW E o sc ar) ++ ([(wy, .inl (E.2 (3000 + 2), 1, .inr (.inr (.inr (.inr (fun _ => some (o 1)))))))]) ++ ([(q_1, ia (E.2 0) 8 st)])) [0, 1, 2, 3, 4, 5, 6, 7, 8, 9] rfl
        have hD := hD.sub (ws' := (BW E o sc ar) ++ ([(wy, .inl (E.2 (3000 + 2), 1, .inr (.inr (.inr (.inr (fun _ => some (o 1)))))))]) ++ ([(q_1, ia (E.2 0) 8 st)])) [0, 1, 2, 3, 4, 5, 6, 7, 8, 9] (by decide) rfl
        refine W.widen (k := 4) (n := 36) (Nat.le_of_ble_eq_true rfl) (Nat.le_of_ble_eq_true rfl) ?_
        exact W.aret hx hb hr (Or.inr ⟨_, rfl⟩) (Or.inr ⟨_, rfl⟩) (fun tt_ ht_ hW_ => ⟨⟨(q_1, st), rfl, hbe, by rw [ht_]; exact hP, hD⟩, hS.F ht_⟩) hS.2.2 dX3_steps_115
      · refine lv_aload_n hx hb dX3_steps_34 rfl (lv_at hl 1 rfl) ?_
        have hqr := il27_0.qr (i := hd) (by omega)
        refine n_cuxrS (x := fun u_8 => (BX E (qv hd))) (w2 := fun u_8 => (BW E o sc ar) ++ ([(wy, .inl (E.2 (3000 + 2), 1, .inr (.inr (.inr (.inr (fun _ => some (o 1)))))))]) ++ ([(q_1, ia (E.2 0) 8 st)]) ++ ([(q_2, .inr (9, [.ref u_4, iv (if hd + 1 < 17 then hd + 1 else 0), iv tl]))]) ++ ([(u_4, qa (E.2 4) 17 (uq fq hd none))]) ++ ([(q_5, ia (E.2 0) 8 fr)])) (va_runV (As := []) (rest := []) ⟨hx, hb, hml, hown, hts⟩ (mt_J1_pollFirst l E q_2 hd tl u_4 fq  (BX E (qv hd)) (by omega) (by omega) (by exact il27_3 hd (by omega) (by omega)) _) (cwV 0 hts (lw_V q583 q584 q585 q98 q586) rfl rfl rfl (by decide +kernel) ⟨Nat.le_of_ble_eq_true rfl, Nat.le_of_ble_eq_true rfl⟩) (UW_V (hP.sub (ws' := ([(q_2, .inr (9, [.ref u_4, iv hd, iv tl]))]) ++ ([(u_4, qa (E.2 4) 17 fq)])) [10, 11] rfl) hK (hD.sub (ws' := ([(q_2, .inr (9, [.ref u_4, iv hd, iv tl]))]) ++ ([(u_4, qa (E.2 4) 17 fq)])) [10, 11] rfl rfl) (va_recv hK.1 hP (ci := 9) (q0 := 10) rfl rfl)) rfl rfl hl.1 rfl (lv_room (Nat.le_of_ble_eq_true rfl)) dX3_steps_35 ⟨Nat.le_of_ble_eq_true rfl, Nat.le_of_ble_eq_true rfl⟩) hP hD hS hA [10, 11] [0, 1, 2, 3, 4, 5, 6, 7, 8, 9, 12] [0, 1, 2, 3, 4, 5, 6, 7, 8, 9, 11, 12, 10] rfl rfl rfl rfl rfl (fun _ => rfl) (fun u_8 H locs hu_8 hP hD hS => ?_)
        have hu_8 : True := hu_8
        have hP : va_P E.1 CL ((BW E o sc ar) ++ ([(wy, .inl (E.2 (3000 + 2), 1, .inr (.inr (.inr (.inr (fun _ => some (o 1)))))))]) ++ ([(q_1, ia (E.2 0) 8 st)]) ++ ([(q_2, .inr (9, [.ref u_4, iv (if hd + 1 < 17 then hd + 1 else 0), iv tl]))]) ++ ([(u_4, qa (E.2 4) 17 (uq fq hd none))]) ++ ([(q_5, ia (E.2 0) 8 fr)])) H := hP
        have hD : va_D A ((BW E o sc ar) ++ ([(wy, .inl (E.2 (3000 + 2), 1, .inr (.inr (.inr (.inr (fun _ => some (o 1)))))))]) ++ ([(q_1, ia (E.2 0) 8 st)]) ++ ([(q_2, .inr (9, [.ref u_4, iv (if hd + 1 < 17 then hd + 1 else 0), iv tl]))]) ++ ([(u_4, qa (E.2 4) 17 (uq fq hd none))]) ++ ([(q_5, ia (E.2 0) 8 fr)])) := hD
        have w_9 : ((if hd + 1 < 17 then hd + 1 else 0) : Int) = hd + 1 := by exact if_pos (by omega)
        rw [w_9] at hP hD
        have hP : va_P E.1 CL ((BW E o sc ar) ++ ([(wy, .inl (E.2 (3000 + 2), 1, .inr (.inr (.inr (.inr (fun _ => some (o 1)))))))]) ++ ([(q_1, ia (E.2 0) 8 st)]) ++ ([(q_2, .inr (9, [.ref u_4, iv (hd + 1), iv tl]))]) ++ ([(u_4, qa (E.2 4) 17 (uq fq hd none))]) ++ ([(q_5, ia (E.2 0) 8 fr)])) H := hP
        have hD : va_D A ((BW E o sc ar) ++ ([(wy, .inl (E.2 (3000 + 2), 1, .inr (.inr (.inr (.inr (fun _ => some (o 1)))))))]) ++ ([(q_1, ia (E.2 0) 8 st)]) ++ ([(q_2, .inr (9, [.ref u_4, iv (hd + 1), iv tl]))]) ++ ([(u_4, qa (E.2 4) 17 (uq fq hd none))]) ++ ([(q_5, ia (E.2 0) 8 fr)])) := hD
        refine va_castE hx hb hown (hts _ q590) (bx_recv hE hS (by omega)) dX3_steps_38 ?_
        refine n_csi (x := qv hd) (va_runV (As := []) (rest := []) ⟨hx, hb, hml, hown, hts⟩ (mt_J18_intValue l E (qv hd) (by omega)) (cwV 0 hts (lw_V q591 q592 q593 q119 q594) rfl rfl rfl (by decide +kernel) ⟨Nat.le_of_ble_eq_true rfl, Nat.le_of_ble_eq_true rfl⟩) (PX_V (hP.sub (ws' := []) [] rfl) hK hE hS (bx_recv hE hS (by omega))) rfl rfl hl.1 rfl (lv_room (Nat.le_of_ble_eq_true rfl)) dX3_steps_41 ⟨Nat.le_of_ble_eq_true rfl, Nat.le_of_ble_eq_true rfl⟩) ?_
        refine lv_istore (lv' := [(5, iv (qv hd)), (4, .ref q_5), (3, .ref q_2), (2, .ref q_1), (0, iv t), (1, .ref wy)]) hx hb dX3_steps_44 hl (by decide) rfl (fun ls hl => ?_)
        have hq49 : ∀ i, hd + 1 ≤ i → i < tl → uq fq hd none i = some (BX E (qv i)) := fun i h1 h2 => (uq_n (by omega)).trans (il27_3 i (by omega) h2)
        refine lv_iconst (v := iI 0) hx hb dX3_steps_46 rfl ?_
        refine lv_istore (lv' := [(6, iv 0), (5, iv (qv hd)), (4, .ref q_5), (3, .ref q_2), (2, .ref q_1), (0, iv t), (1, .ref wy)]) hx hb dX3_steps_47 hl (by decide) rfl (fun ls hl => ?_)
        have l49 : ∀ (fu : Nat) (x6 : Int) (tm : Int) (sm : Int → Int) (qf : Int → Option Nat) (fm : Int → Int) (qm : Int → Int), (BI g false t sm hd x6 tm qm) → (∀ y, 0 ≤ y → y < 8 → 0 ≤ sm y ∧ sm y ≤ 8) → (∀ y, 0 ≤ y → y < 8 → fm y = sm y) → (∀ i, hd + 1 ≤ i → i < tm → qf i = some (BX E (qm i))) → (0 ≤ x6 ∧ x6 ≤ 8 ∧ hd < tm ∧ tm ≤ 9) → (qm hd = qv hd) → (8 - x6 < (fu : Int)) → ∀ (H : Heap) (locs : List Loc), va_P E.1 CL ((BW E o sc ar) ++ ([(wy, .inl (E.2 (3000 + 2), 1, .inr (.inr (.inr (.inr (fun _ => some (o 1)))))))]) ++ ([(q_1, ia (E.2 0) 8 sm)]) ++ ([(q_2, .inr (9, [.ref u_4, iv (hd + 1), iv tm]))]) ++ ([(u_4, qa (E.2 4) 17 qf)]) ++ ([(q_5, ia (E.2 0) 8 fm)])) H → va_D A ((BW E o sc ar) ++ ([(wy, .inl (E.2 (3000 + 2), 1, .inr (.inr (.inr (.inr (fun _ => some (o 1)))))))]) ++ ([(q_1, ia (E.2 0) 8 sm)]) ++ ([(q_2, .inr (9, [.ref u_4, iv (hd + 1), iv tm]))]) ++ ([(u_4, qa (E.2 4) 17 qf)]) ++ ([(q_5, ia (E.2 0) 8 fm)])) → va_S A s.heap H locs → ∀ ls : Array Slot, lv_has ls 7 [(6, iv x6), (5, iv (qv hd)), (4, .ref q_5), (3, .ref q_2), (2, .ref q_1), (0, iv t), (1, .ref wy)] → W p l e (headSpec (ws_ yX3_steps cX3_steps 7 (some (.array .int))) { frames := 4, cells := 4, slots := 36, locals := 82 }).room s m ([iv t, .ref wy] : List Value).toArray below meth c H locs 4 36 (MQ below (UQxr E (fun u : Nat × (Int → Int) => BE g false t u.2) (fun u : Nat × (Int → Int) => u.1) (fun u : Nat × (Int → Int) => (BW E o sc ar) ++ ([(wy, .inl (E.2 (3000 + 2), 1, .inr (.inr (.inr (.inr (fun _ => some (o 1)))))))]) ++ ([(u.1, ia (E.2 0) 8 u.2)])) A) ([iv t, .ref wy] : List Value).toArray s 4 36 A) (F0 m 49 ls []) := by
          intro fu
          induction fu with
          | zero =>
            intro x6 tm sm qf fm qm il49_0 il49_1 il49_2 il49_3 il49_4 il49_5 hm
            exfalso; omega
          | succ fu ih =>
            intro x6 tm sm qf fm qm il49_0 il49_1 il49_2 il49_3 il49_4 il49_5 hm H locs hP hD hS ls hl
            have ihl49 := ih
            refine lv_iload hx hb dX3_steps_49 (lv_at hl 0 rfl) ?_
            refine lv_bipush (v := iI 8) hx hb dX3_steps_51 (by decide) ?_
            refine n_icmp_ge (tgt := 111) hx hb dX3_steps_53 (by decide) (by omega) (by omega) (fun c_10 => ?_) (fun c_10 => ?_)
            · have h8 : x6 = 8 := by omega
              subst h8
              have hB := il49_0.next (by omega)
              have hQ := il49_3
              have hF := il49_2
              refine lv_goto (tgt := 27) hx hb dX3_steps_111 (by decide) ?_
              exact ihl27 (hd + 1) tm sm qf fm qm (by exact hB) (by exact fun y a b => hB.str ⟨a, b⟩) (by exact hF) (by exact hQ) (by have := hB.tl8; have := hB.1; omega) (by omega) H locs hP hD hS ls (lv_sub hl [2, 3, 4, 5, 6] rfl)
            · refine lv_aload_n hx hb dX3_steps_56 rfl (lv_at hl 4 rfl) ?_
              refine lv_iload hx hb dX3_steps_57 (lv_at hl 0 rfl) ?_
              refine n_iald (f := sm) hx hb hK.1 hP 9 0 rfl rfl (by omega) (by decide) dX3_steps_59 ?_
              have b_11 := il49_1 x6 (by omega) (by omega)
              refine n_if_ne (tgt := 105) hx hb dX3_steps_60 (by decide) (by omega) (fun c_12 => ?_) (fun c_12 => ?_)
              · have hB : BI g false t sm hd (x6 + 1) tm qm := il49_0.skip (by omega) (by omega) (by first | exact Or.inl (by assumption) | exact Or.inr (by rw [il49_5]; assumption))
                have hqm := il49_5
                have hQ := il49_3
                have hF := il49_2
                refine lv_iinc (v := iI (x6 + 1)) (lv' := [(6, iv (x6 + 1)), (5, iv (qv hd)), (4, .ref q_5), (3, .ref q_2), (2, .ref q_1), (0, iv t), (1, .ref wy)]) hx hb dX3_steps_105 hl (k := 0) rfl (iI_add _ _) (by decide) rfl (fun ls hl => ?_)
                refine lv_goto (tgt := 49) hx hb dX3_steps_108 (by decide) ?_
                exact ihl49 (x6 + 1) tm sm qf fm qm (by exact hB) (by exact fun y a b => hB.str ⟨a, b⟩) (by exact hF) (by exact hQ) (by have := hB.tl8; omega) (by exact hqm) (by omega) H locs hP hD hS ls (lv_sub hl [0, 1, 2, 3, 4, 5, 6] rfl)
              · refine lv_aload_n hx hb dX3_steps_63 rfl (lv_at hl 6 rfl) ?_
                refine lv_iload hx hb dX3_steps_64 (lv_at hl 1 rfl) ?_
                refine lv_iload hx hb dX3_steps_66 (lv_at hl 0 rfl) ?_
                refine n_tx5S (x := fun _ : Unit => b2 (m_edge g false (qv hd) x6)) (w2 := fun _ => (BW E o sc ar) ++ ([(wy, .inl (E.2 (3000 + 2), 1, .inr (.inr (.inr (.inr (fun _ => some (o 1)))))))]) ++ ([(q_1, ia (E.2 0) 8 sm)]) ++ ([(q_2, .inr (9, [.ref u_4, iv (hd + 1), iv tm]))]) ++ ([(u_4, qa (E.2 4) 17 qf)]) ++ ([(q_5, ia (E.2 0) 8 fm)])) (w3 := fun _ : Unit => (BW E o sc ar) ++ ([(wy, .inl (E.2 (3000 + 2), 1, .inr (.inr (.inr (.inr (fun _ => some (o 1)))))))]) ++ ([(q_1, ia (E.2 0) 8 sm)]) ++ ([(q_2, .inr (9, [.ref u_4, iv (hd + 1), iv tm]))]) ++ ([(u_4, qa (E.2 4) 17 qf)]) ++ ([(q_5, ia (E.2 0) 8 fm)])) (n_fwZ0 (rest := []) hx hb (hl.1.trans hml.symm) hts hK hown (hts _ q596) ls_2 rfl (by decide +kernel) lk_2 ⟨rfl, rfl, by decide +kernel⟩ (y := yX3_lambda_directWay_0) ⟨rfl, rfl, by decide +kernel, rfl⟩ ⟨by decide +kernel, by decide +kernel⟩ q737 q96 (sig := ⟨[.int, .int], some .boolean⟩) (by decide +kernel) rfl (mt_X3_lambda_directWay_0 l E o sc ar (qv hd) x6 g (by omega) (by omega) (by assumption) (by assumption) (by assumption) (by assumption) _) rfl rfl q736 qs9 (hP 8 _ rfl) rfl rfl rfl (UX_V (hP.sub (ws' := BW E o sc ar) [0, 1, 2, 3, 4, 5, 6, 7] rfl) hK (hD.sub (ws' := BW E o sc ar) [0, 1, 2, 3, 4, 5, 6, 7] rfl rfl) hE hS (va_sub_free hD hS hA [0, 1, 2, 3, 4, 5, 6, 7] rfl) (va_recv hK.1 hP (ci := 3) (q0 := 0) rfl rfl)) (Nat.le_of_ble_eq_true rfl) (Nat.le_of_ble_eq_true rfl) (Nat.le_of_ble_eq_true rfl) (Nat.le_of_ble_eq_true rfl) dX3_steps_68) hP hD hS hA [0, 1, 2, 3, 4, 5, 6, 7] [8, 9, 10, 11, 12] [5, 6, 7, 8, 9, 10, 11, 12, 0, 1, 2, 3, 4] [5, 6, 7, 8, 9, 10, 11, 12, 0, 1, 2, 3, 4] rfl rfl rfl rfl rfl (fun _ => rfl) rfl (fun _ => rfl) (fun _ _ _ _ _ _ h9 => (show False from h9).elim) (fun u_13 H locs hu_13 hP hD hS => ?_)
                have hP : va_P E.1 CL ((BW E o sc ar) ++ ([(wy, .inl (E.2 (3000 + 2), 1, .inr (.inr (.inr (.inr (fun _ => some (o 1)))))))]) ++ ([(q_1, ia (E.2 0) 8 sm)]) ++ ([(q_2, .inr (9, [.ref u_4, iv (hd + 1), iv tm]))]) ++ ([(u_4, qa (E.2 4) 17 qf)]) ++ ([(q_5, ia (E.2 0) 8 fm)])) H := hP
                have hD : va_D A ((BW E o sc ar) ++ ([(wy, .inl (E.2 (3000 + 2), 1, .inr (.inr (.inr (.inr (fun _ => some (o 1)))))))]) ++ ([(q_1, ia (E.2 0) 8 sm)]) ++ ([(q_2, .inr (9, [.ref u_4, iv (hd + 1), iv tm]))]) ++ ([(u_4, qa (E.2 4) 17 qf)]) ++ ([(q_5, ia (E.2 0) 8 fm)])) := hD
                refine n_ifb_eq (tgt := 105) hx hb dX3_steps_73 (by decide) (fun c_14 => ?_) (fun c_14 => ?_)
                · have hB : BI g false t sm hd (x6 + 1) tm qm := il49_0.skip (by omega) (by omega) (by first | exact Or.inl (by assumption) | exact Or.inr (by rw [il49_5]; assumption))
                  have hqm := il49_5
                  have hQ := il49_3
                  have hF := il49_2
                  refine lv_iinc (v := iI (x6 + 1)) (lv' := [(6, iv (x6 + 1)), (5, iv (qv hd)), (4, .ref q_5), (3, .ref q_2), (2, .ref q_1), (0, iv t), (1, .ref wy)]) hx hb dX3_steps_105 hl (k := 0) rfl (iI_add _ _) (by decide) rfl (fun ls hl => ?_)
                  refine lv_goto (tgt := 49) hx hb dX3_steps_108 (by decide) ?_
                  exact ihl49 (x6 + 1) tm sm qf fm qm (by exact hB) (by exact fun y a b => hB.str ⟨a, b⟩) (by exact hF) (by exact hQ) (by have := hB.tl8; omega) (by exact hqm) (by omega) H locs hP hD hS ls (lv_sub hl [0, 1, 2, 3, 4, 5, 6] rfl)
                · refine lv_aload_n hx hb dX3_steps_76 rfl (lv_at hl 4 rfl) ?_
                  refine lv_iload hx hb dX3_steps_77 (lv_at hl 0 rfl) ?_
                  refine lv_aload hx hb dX3_steps_79 (lv_at hl 2 rfl) ?_
                  refine lv_iload hx hb dX3_steps_81 (lv_at hl 1 rfl) ?_
                  refine n_iald (f := fm) hx hb hK.1 hP 12 0 rfl rfl (by omega) (by decide) dX3_steps_83 ?_
                  rw [il49_2 (qv hd) (by omega) (by omega)]
                  refine lv_iconst (v := iI 1) hx hb dX3_steps_84 rfl ?_
                  refine n_iadd hx hb dX3_steps_85 ?_
                  refine n_iast (f := sm) hx hb hK.1 hP hD hS 9 0 rfl rfl (by omega) (by decide) dX3_steps_86 (ws2 := (BW E o sc ar) ++ ([(wy, .inl (E.2 (3000 + 2), 1, .inr (.inr (.inr (.inr (fun _ => some (o 1)))))))]) ++ ([(q_1, ia (E.2 0) 8 (ui sm x6 ((sm (qv hd)) + 1)))]) ++ ([(q_2, .inr (9, [.ref u_4, iv (hd + 1), iv tm]))]) ++ ([(u_4, qa (E.2 4) 17 qf)]) ++ ([(q_5, ia (E.2 0) 8 fm)])) rfl (fun H locs hP hD hS => ?_)
                  refine lv_aload hx hb dX3_steps_87 (lv_at hl 2 rfl) ?_
                  refine lv_iload hx hb dX3_steps_89 (lv_at hl 0 rfl) ?_
                  refine lv_aload_n hx hb dX3_steps_91 rfl (lv_at hl 4 rfl) ?_
                  refine lv_iload hx hb dX3_steps_92 (lv_at hl 0 rfl) ?_
                  refine n_iald (f := ui sm x6 ((sm (qv hd)) + 1)) hx hb hK.1 hP 9 0 rfl rfl (by omega) (by decide) dX3_steps_94 ?_
                  refine n_iast (f := fm) hx hb hK.1 hP hD hS 12 0 rfl rfl (by omega) (by decide) dX3_steps_95 (ws2 := (BW E o sc ar) ++ ([(wy, .inl (E.2 (3000 + 2), 1, .inr (.inr (.inr (.inr (fun _ => some (o 1)))))))]) ++ ([(q_1, ia (E.2 0) 8 (ui sm x6 ((sm (qv hd)) + 1)))]) ++ ([(q_2, .inr (9, [.ref u_4, iv (hd + 1), iv tm]))]) ++ ([(u_4, qa (E.2 4) 17 qf)]) ++ ([(q_5, ia (E.2 0) 8 (ui fm x6 ((ui sm x6 ((sm (qv hd)) + 1)) x6)))])) rfl (fun H locs hP hD hS => ?_)
                  refine lv_aload_n hx hb dX3_steps_96 rfl (lv_at hl 3 rfl) ?_
                  refine lv_iload hx hb dX3_steps_97 (lv_at hl 0 rfl) ?_
                  refine n_csr (x := BX E x6) (va_runS (As := [iv x6]) (rest := [.ref q_2]) ⟨hx, hb, hml, hown, hts⟩ (mt_J18_valueOf l E x6 (by omega)) (va_cwS 1 hts (lw_S q558 q559 q119 q560) rfl rfl rfl (by decide +kernel) ⟨Nat.le_of_ble_eq_true rfl, Nat.le_of_ble_eq_true rfl⟩) (PX_S (hP.sub (ws' := []) [] rfl) hK hE hS) rfl rfl hl.1 rfl (lv_room (Nat.le_of_ble_eq_true rfl)) dX3_steps_99 ⟨Nat.le_of_ble_eq_true rfl, Nat.le_of_ble_eq_true rfl⟩) ?_
                  have ht8 := il49_0.tl7 (y := x6) (by omega) (by omega)
                  refine n_cuvS (w2 := (BW E o sc ar) ++ ([(wy, .inl (E.2 (3000 + 2), 1, .inr (.inr (.inr (.inr (fun _ => some (o 1)))))))]) ++ ([(q_1, ia (E.2 0) 8 (ui sm x6 ((sm (qv hd)) + 1)))]) ++ ([(q_2, .inr (9, [.ref u_4, iv (hd + 1), iv (if tm + 1 < 17 then tm + 1 else 0)]))]) ++ ([(u_4, qa (E.2 4) 17 (uq qf tm (some (BX E x6))))]) ++ ([(q_5, ia (E.2 0) 8 (ui fm x6 ((ui sm x6 ((sm (qv hd)) + 1)) x6)))])) (va_runV (As := [.ref (BX E x6)]) (rest := []) ⟨hx, hb, hml, hown, hts⟩ (mt_J1_addLastI l E q_2 (hd + 1) tm u_4 qf x6 (by omega) (by omega) (by omega) (by split <;> omega) _) (cwV 1 hts (lw_V q578 q340 q341 q98 q342) rfl rfl rfl (by decide +kernel) ⟨Nat.le_of_ble_eq_true rfl, Nat.le_of_ble_eq_true rfl⟩) (UX_V (hP.sub (ws' := ([(q_2, .inr (9, [.ref u_4, iv (hd + 1), iv tm]))]) ++ ([(u_4, qa (E.2 4) 17 qf)])) [10, 11] rfl) hK (hD.sub (ws' := ([(q_2, .inr (9, [.ref u_4, iv (hd + 1), iv tm]))]) ++ ([(u_4, qa (E.2 4) 17 qf)])) [10, 11] rfl rfl) hE hS (va_sub_free hD hS hA [10, 11] rfl) (va_recv hK.1 hP (ci := 9) (q0 := 10) rfl rfl)) rfl rfl hl.1 rfl (lv_room (Nat.le_of_ble_eq_true rfl)) dX3_steps_102 ⟨Nat.le_of_ble_eq_true rfl, Nat.le_of_ble_eq_true rfl⟩) hP hD hS hA [10, 11] [0, 1, 2, 3, 4, 5, 6, 7, 8, 9, 12] [0, 1, 2, 3, 4, 5, 6, 7, 8, 9, 11, 12, 10] rfl rfl rfl rfl rfl rfl (fun H locs hP hD hS => ?_)
                  have hP : va_P E.1 CL ((BW E o sc ar) ++ ([(wy, .inl (E.2 (3000 + 2), 1, .inr (.inr (.inr (.inr (fun _ => some (o 1)))))))]) ++ ([(q_1, ia (E.2 0) 8 (ui sm x6 ((sm (qv hd)) + 1)))]) ++ ([(q_2, .inr (9, [.ref u_4, iv (hd + 1), iv (if tm + 1 < 17 then tm + 1 else 0)]))]) ++ ([(u_4, qa (E.2 4) 17 (uq qf tm (some (BX E x6))))]) ++ ([(q_5, ia (E.2 0) 8 (ui fm x6 ((ui sm x6 ((sm (qv hd)) + 1)) x6)))])) H := hP
                  have hD : va_D A ((BW E o sc ar) ++ ([(wy, .inl (E.2 (3000 + 2), 1, .inr (.inr (.inr (.inr (fun _ => some (o 1)))))))]) ++ ([(q_1, ia (E.2 0) 8 (ui sm x6 ((sm (qv hd)) + 1)))]) ++ ([(q_2, .inr (9, [.ref u_4, iv (hd + 1), iv (if tm + 1 < 17 then tm + 1 else 0)]))]) ++ ([(u_4, qa (E.2 4) 17 (uq qf tm (some (BX E x6))))]) ++ ([(q_5, ia (E.2 0) 8 (ui fm x6 ((ui sm x6 ((sm (qv hd)) + 1)) x6)))])) := hD
                  have w_15 : ((if tm + 1 < 17 then tm + 1 else 0) : Int) = tm + 1 := by exact if_pos (by omega)
                  rw [w_15] at hP hD
                  have hP : va_P E.1 CL ((BW E o sc ar) ++ ([(wy, .inl (E.2 (3000 + 2), 1, .inr (.inr (.inr (.inr (fun _ => some (o 1)))))))]) ++ ([(q_1, ia (E.2 0) 8 (ui sm x6 ((sm (qv hd)) + 1)))]) ++ ([(q_2, .inr (9, [.ref u_4, iv (hd + 1), iv (tm + 1)]))]) ++ ([(u_4, qa (E.2 4) 17 (uq qf tm (some (BX E x6))))]) ++ ([(q_5, ia (E.2 0) 8 (ui fm x6 ((ui sm x6 ((sm (qv hd)) + 1)) x6)))])) H := hP
                  have hD : va_D A ((BW E o sc ar) ++ ([(wy, .inl (E.2 (3000 + 2), 1, .inr (.inr (.inr (.inr (fun _ => some (o 1)))))))]) ++ ([(q_1, ia (E.2 0) 8 (ui sm x6 ((sm (qv hd)) + 1)))]) ++ ([(q_2, .inr (9, [.ref u_4, iv (hd + 1), iv (tm + 1)]))]) ++ ([(u_4, qa (E.2 4) 17 (uq qf tm (some (BX E x6))))]) ++ ([(q_5, ia (E.2 0) 8 (ui fm x6 ((ui sm x6 ((sm (qv hd)) + 1)) x6)))])) := hD
                  have hB : BI g false t (ui sm x6 (sm (qv hd) + 1)) hd (x6 + 1) (tm + 1) (ui qm tm x6) := by have q9 := il49_0.hit (x := x6) (by omega) (by omega) (by omega) (by rw [il49_5]; assumption); rw [il49_5] at q9; exact q9
                  have hqm : ui qm tm x6 hd = qv hd := by rw [ui_n (by omega)]; exact il49_5
                  have hQ : ∀ i, hd + 1 ≤ i → i < tm + 1 → uq qf tm (some (BX E x6)) i = some (BX E (ui qm tm x6 i)) := by
                    intro i h1 h2; unfold uq ui; by_cases hi : i = tm
                    · rw [if_pos hi, if_pos hi]
                    · rw [if_neg hi, if_neg hi]; exact il49_3 i h1 (by omega)
                  have hF : ∀ y, 0 ≤ y → y < 8 → ui fm x6 (ui sm x6 (sm (qv hd) + 1) x6) y = ui sm x6 (sm (qv hd) + 1) y := by
                    intro y h1 h2; unfold ui; by_cases hy : y = x6
                    · rw [if_pos hy, if_pos hy, if_pos rfl]
                    · rw [if_neg hy, if_neg hy]; exact il49_2 y h1 h2
                  refine lv_iinc (v := iI (x6 + 1)) (lv' := [(6, iv (x6 + 1)), (5, iv (qv hd)), (4, .ref q_5), (3, .ref q_2), (2, .ref q_1), (0, iv t), (1, .ref wy)]) hx hb dX3_steps_105 hl (k := 0) rfl (iI_add _ _) (by decide) rfl (fun ls hl => ?_)
                  refine lv_goto (tgt := 49) hx hb dX3_steps_108 (by decide) ?_
                  exact ihl49 (x6 + 1) (tm + 1) (ui sm x6 ((sm (qv hd)) + 1)) (uq qf tm (some (BX E x6))) (ui fm x6 ((ui sm x6 ((sm (qv hd)) + 1)) x6)) (ui qm tm x6) (by exact hB) (by exact fun y a b => hB.str ⟨a, b⟩) (by exact hF) (by exact hQ) (by have := hB.tl8; omega) (by exact hqm) (by omega) H locs hP hD hS ls (lv_sub hl [0, 1, 2, 3, 4, 5, 6] rfl)
        exact l49 9 0 tl st (uq fq hd none) fr qv (by exact il27_0) (by exact il27_1) (by exact il27_2) (by exact hq49) (by have := il27_4; omega) (by rfl) (by omega) H locs hP hD hS ls hl
  exact l27 10 0 1 (fun _ => 0) (uq (fun _ => none) 0 (some (BX E t))) (fun _ => 0) (fun _ => t) (by exact BI_init ht rfl) (by exact fun _ _ _ => ⟨by decide, by decide⟩) (by exact fun _ _ _ => rfl) (by intro i h1 h2; rw [show i = 0 by omega]; rfl) (by decide) (by omega) H locs hP hD hS ls hl
