set_option maxHeartbeats 4000000 in
set_option maxRecDepth 100000 in
theorem mt_J2_length (l : Launch) (E : EE) (sb : Nat) (sv : Nat) (sm : Int) (sn : Int) : Met l yJ2_length (ws_ yJ2_length cJ2_length 1 (some .int)) { frames := 0, cells := 0, slots := 0, locals := 0 } (va_Pc [.ref sb] (PW E ([(sb, .inr (10, [.ref sv, iv 0, iv sm, iv sn]))]))) (NP sn) 0 0 (fun _ => False) := by
  refine Met.ofW (cc := cJ2_length) (maxL := 1) (ret := (some .int)) (by decide) rfl ?_
  intro p e s m args below meth c s₁ B hml hv
  obtain ⟨rfl, hP, hK⟩ := hv
  have hx := B.exec
  have hb := B.bytes
  have hr := B.returns
  have hts := atoms_spec (ws := (ws_ yJ2_length cJ2_length 1 (some .int))) B.pre
  have hts : ∀ w ∈ lw_all, w.before _ s = true := fun w h => hts w (List.mem_cons_of_mem _ h)
  have hown : s.vm.findClass RJ2 = some m.cls := findClass_of_methodNamed B.named
  have hlocks := B.notSynchronized
  have hl := lv_entry ([.ref sb]) (n := 1) (Nat.le_of_ble_eq_true rfl)
  rw [lg_entry_eq]
  generalize (lg_sl ([.ref sb]) ++ List.replicate (1 - (lg_sl ([.ref sb])).length) Slot.unset).toArray = ls at hl ⊢
  have hl : lv_has ls 1 [(0, .ref sb)] := hl
  refine lv_aload_n hx hb dJ2_length_0 rfl (lv_at hl 0 rfl) ?_
  refine va_get (D := E.1) (ci := 10) (v := iv sn) (C := RJ3) (T := TJ3) (N := 4) hx hb hts in_J3 hown hK.1 hP 0 rfl rfl 3 (by decide) (hts _ q285) (fun _ h9 => h9) rfl dJ2_length_1 ?_
  exact W.iret (v := iI sn) hx hb hr (fun tt_ ht_ hW_ => ⟨iI sn, rfl, rfl, ht_⟩) (fun q h => by cases h) dJ2_length_4
set_option maxHeartbeats 4000000 in
set_option maxRecDepth 100000 in
theorem mt_J3_length (l : Launch) (E : EE) (sb : Nat) (sv : Nat) (sm : Int) (sn : Int) : Met l yJ3_length (ws_ yJ3_length cJ3_length 1 (some .int)) { frames := 1, cells := 0, slots := 0, locals := 20 } (va_Pc [.ref sb] (PW E ([(sb, .inr (10, [.ref sv, iv 0, iv sm, iv sn]))]))) (NP sn) 0 0 (fun _ => False) := by
  refine Met.ofW (cc := cJ3_length) (maxL := 1) (ret := (some .int)) (by decide) rfl ?_
  intro p e s m args below meth c s₁ B hml hv
  obtain ⟨rfl, hP, hK⟩ := hv
  have hx := B.exec
  have hb := B.bytes
  have hr := B.returns
  have hts := atoms_spec (ws := (ws_ yJ3_length cJ3_length 1 (some .int))) B.pre
  have hts : ∀ w ∈ lw_all, w.before _ s = true := fun w h => hts w (List.mem_cons_of_mem _ h)
  have hown : s.vm.findClass RJ3 = some m.cls := findClass_of_methodNamed B.named
  have hlocks := B.notSynchronized
  have hl := lv_entry ([.ref sb]) (n := 1) (Nat.le_of_ble_eq_true rfl)
  rw [lg_entry_eq]
  generalize (lg_sl ([.ref sb]) ++ List.replicate (1 - (lg_sl ([.ref sb])).length) Slot.unset).toArray = ls at hl ⊢
  have hl : lv_has ls 1 [(0, .ref sb)] := hl
  refine lv_aload_n hx hb dJ3_length_0 rfl (lv_at hl 0 rfl) ?_
  refine n_csi (x := sn) (va_runSU (As := []) (rest := []) ((hK.1.1 10 _ rfl).2) ⟨hx, hb, hml, hown, hts⟩ (mt_J2_length l E sb sv sm sn ) (va_cwSU 0 hts (lw_SU q1587 q1583 q294 q1582 q99 q1588) rfl rfl rfl (by decide +kernel) ⟨Nat.le_of_ble_eq_true rfl, Nat.le_of_ble_eq_true rfl⟩) (PW_V hP hK (va_recv hK.1 hP (ci := 10) (q0 := 0) rfl rfl)) rfl rfl hl.1 rfl (lv_room (Nat.le_of_ble_eq_true rfl)) dJ3_length_1 ⟨Nat.le_of_ble_eq_true rfl, Nat.le_of_ble_eq_true rfl⟩) ?_
  exact W.iret (v := iI sn) hx hb hr (fun tt_ ht_ hW_ => ⟨iI sn, rfl, rfl, ht_⟩) (fun q h => by cases h) dJ3_length_4
set_option maxHeartbeats 4000000 in
set_option maxRecDepth 100000 in
theorem mt_J2_isLatin1 (l : Launch) (E : EE) (sb : Nat) (sv : Nat) (sm : Int) (sn : Int) : Met l yJ2_isLatin1 (ws_ yJ2_isLatin1 cJ2_isLatin1 1 (some .boolean)) { frames := 0, cells := 0, slots := 0, locals := 0 } (va_Pc [.ref sb] (PX E ([(sb, .inr (10, [.ref sv, iv 0, iv sm, iv sn]))]))) (NP 1) 0 0 (fun _ => False) := by
  refine Met.ofW (cc := cJ2_isLatin1) (maxL := 1) (ret := (some .boolean)) (by decide) rfl ?_
  intro p e s m args below meth c s₁ B hml hv
  obtain ⟨rfl, hP, hK, hE⟩ := hv
  have hS : va_S (fun _ => False) s.heap s.heap [] := va_S.rf
  have hx := B.exec
  have hb := B.bytes
  have hr := B.returns
  have hts := atoms_spec (ws := (ws_ yJ2_isLatin1 cJ2_isLatin1 1 (some .boolean))) B.pre
  have hts : ∀ w ∈ lw_all, w.before _ s = true := fun w h => hts w (List.mem_cons_of_mem _ h)
  have hown : s.vm.findClass RJ2 = some m.cls := findClass_of_methodNamed B.named
  have hlocks := B.notSynchronized
  have hl := lv_entry ([.ref sb]) (n := 1) (Nat.le_of_ble_eq_true rfl)
  rw [lg_entry_eq]
  generalize (lg_sl ([.ref sb]) ++ List.replicate (1 - (lg_sl ([.ref sb])).length) Slot.unset).toArray = ls at hl ⊢
  have hl : lv_has ls 1 [(0, .ref sb)] := hl
  refine va_gets (v := iv 1) hx hb hE.cs hS hown (hts _ q272) (fun _ h9 => h9) dJ2_isLatin1_0 ?_
  refine n_if_eq (tgt := 17) hx hb dJ2_isLatin1_3 (by decide) (by omega) (fun c_1 => absurd c_1 (by decide)) (fun _ => ?_)
  refine lv_aload_n hx hb dJ2_isLatin1_6 rfl (lv_at hl 0 rfl) ?_
  refine va_get (D := E.1) (ci := 10) (v := iv 0) (C := RJ3) (T := TJ3) (N := 4) hx hb hts in_J3 hown hK.1 hP 0 rfl rfl 1 (by decide) (hts _ q282) (fun _ h9 => h9) rfl dJ2_isLatin1_7 ?_
  refine n_if_ne (tgt := 17) hx hb dJ2_isLatin1_10 (by decide) (by omega) (fun c_2 => absurd c_2 (by decide)) (fun _ => ?_)
  refine lv_iconst (v := iI 1) hx hb dJ2_isLatin1_13 rfl ?_
  refine lv_goto (tgt := 18) hx hb dJ2_isLatin1_14 (by decide) ?_
  exact W.zret (v := iI 1) hx hb hr (nr_b (by decide)) (fun tt_ ht_ hW_ => ⟨iI 1, rfl, rfl, ht_⟩) (fun q h => by cases h) dJ2_isLatin1_18
set_option maxHeartbeats 4000000 in
set_option maxRecDepth 100000 in
theorem mt_J25_canEncode (l : Launch) (E : EE)  (v : Int) (hv : 0 ≤ v ∧ v < 128) : Met l yJ25_canEncode (ws_ yJ25_canEncode cJ25_canEncode 1 (some .boolean)) { frames := 0, cells := 0, slots := 0, locals := 0 } (va_Pc [iv v] (PW E ([]))) (NP 1) 0 0 (fun _ => False) := by
  refine Met.ofW (cc := cJ25_canEncode) (maxL := 1) (ret := (some .boolean)) (by decide) rfl ?_
  intro p e s m args below meth c s₁ B hml hv
  obtain ⟨rfl, hP, hK⟩ := hv
  have hx := B.exec
  have hb := B.bytes
  have hr := B.returns
  have hts := atoms_spec (ws := (ws_ yJ25_canEncode cJ25_canEncode 1 (some .boolean))) B.pre
  have hts : ∀ w ∈ lw_all, w.before _ s = true := fun w h => hts w (List.mem_cons_of_mem _ h)
  have hown : s.vm.findClass RJ25 = some m.cls := findClass_of_methodNamed B.named
  have hlocks := B.notSynchronized
  have hl := lv_entry ([iv v]) (n := 1) (Nat.le_of_ble_eq_true rfl)
  rw [lg_entry_eq]
  generalize (lg_sl ([iv v]) ++ List.replicate (1 - (lg_sl ([iv v])).length) Slot.unset).toArray = ls at hl ⊢
  have hl : lv_has ls 1 [(0, iv v)] := hl
  refine lv_iload_n hx hb dJ25_canEncode_0 rfl (lv_at hl 0 rfl) ?_
  refine lv_sipush (v := iI 255) hx hb dJ25_canEncode_1 (by decide) ?_
  refine n_icmp_gt (tgt := 11) hx hb dJ25_canEncode_4 (by decide) (by omega) (by omega) (fun c_1 => ?_) (fun c_1 => ?_)
  · exfalso; omega
  · refine lv_iconst (v := iI 1) hx hb dJ25_canEncode_7 rfl ?_
    refine lv_goto (tgt := 12) hx hb dJ25_canEncode_8 (by decide) ?_
    exact W.zret (v := iI 1) hx hb hr (nr_b (by decide)) (fun tt_ ht_ hW_ => ⟨iI 1, rfl, rfl, ht_⟩) (fun q h => by cases h) dJ25_canEncode_12
set_option maxHeartbeats 4000000 in
set_option maxRecDepth 100000 in
theorem mt_J2_ensureCapacityInternal (l : Launch) (E : EE) (sb : Nat) (sm : Int) (sn : Int) (sv : Nat) (sf : Int → Int) (i : Int) (bn : Nat) (hi : 0 ≤ i ∧ i ≤ (bn : Int)) (hbn : bn ≤ 64) : Met l yJ2_ensureCapacityInternal (ws_ yJ2_ensureCapacityInternal cJ2_ensureCapacityInternal 3 none) { frames := 0, cells := 0, slots := 0, locals := 0 } (va_Pc [.ref sb, iv i] (PW E (([(sb, .inr (10, [.ref sv, iv 0, iv sm, iv sn]))] : va_W) ++ ([(sv, ia (E.2 3) bn sf)] : va_W)))) NPv 0 0 (fun _ => False) := by
  refine Met.ofW (cc := cJ2_ensureCapacityInternal) (maxL := 3) (ret := none) (by decide) rfl ?_
  intro p e s m args below meth c s₁ B hml hv
  obtain ⟨rfl, hP, hK⟩ := hv
  have hx := B.exec
  have hb := B.bytes
  have hr := B.returns
  have hts := atoms_spec (ws := (ws_ yJ2_ensureCapacityInternal cJ2_ensureCapacityInternal 3 none)) B.pre
  have hts : ∀ w ∈ lw_all, w.before _ s = true := fun w h => hts w (List.mem_cons_of_mem _ h)
  have hown : s.vm.findClass RJ2 = some m.cls := findClass_of_methodNamed B.named
  have hlocks := B.notSynchronized
  have hl := lv_entry ([.ref sb, iv i]) (n := 3) (Nat.le_of_ble_eq_true rfl)
  rw [lg_entry_eq]
  generalize (lg_sl ([.ref sb, iv i]) ++ List.replicate (3 - (lg_sl ([.ref sb, iv i])).length) Slot.unset).toArray = ls at hl ⊢
  have hl : lv_has ls 3 [(0, .ref sb), (1, iv i)] := hl
  refine lv_aload_n hx hb dJ2_ensureCapacityInternal_0 rfl (lv_at hl 0 rfl) ?_
  refine va_get (D := E.1) (ci := 10) (v := .ref sv) (C := RJ3) (T := TJ3) (N := 4) hx hb hts in_J3 hown hK.1 hP 0 rfl rfl 0 (by decide) (hts _ q281) (fun _ h9 => h9) rfl dJ2_ensureCapacityInternal_1 ?_
  refine va_alen (v := iI ((bn : Nat) : Int)) hx hb hK.1 hP 1 3 rfl rfl (iI_ofNat _) dJ2_ensureCapacityInternal_4 ?_
  refine lv_aload_n hx hb dJ2_ensureCapacityInternal_5 rfl (lv_at hl 0 rfl) ?_
  refine va_get (D := E.1) (ci := 10) (v := iv 0) (C := RJ3) (T := TJ3) (N := 4) hx hb hts in_J3 hown hK.1 hP 0 rfl rfl 1 (by decide) (hts _ q282) (fun _ h9 => h9) rfl dJ2_ensureCapacityInternal_6 ?_
  refine n_ishr0 hx hb (by omega) dJ2_ensureCapacityInternal_9 ?_
  refine lv_istore_n (lv' := [(2, iv (bn : Int)), (0, .ref sb), (1, iv i)]) hx hb dJ2_ensureCapacityInternal_10 rfl hl (by decide) rfl (fun ls hl => ?_)
  refine lv_iload_n hx hb dJ2_ensureCapacityInternal_11 rfl (lv_at hl 2 rfl) ?_
  refine lv_iload_n hx hb dJ2_ensureCapacityInternal_12 rfl (lv_at hl 0 rfl) ?_
  refine n_isub hx hb dJ2_ensureCapacityInternal_13 ?_
  refine n_if_le (tgt := 38) hx hb dJ2_ensureCapacityInternal_14 (by decide) (by omega) (fun c_1 => ?_) (fun c_1 => ?_)
  · exact W.vret hx hb hr (fun tt_ ht_ hW_ => ⟨rfl, ht_⟩) (fun q h => by cases h) dJ2_ensureCapacityInternal_38
  · exfalso; omega
set_option maxHeartbeats 1000000 in
set_option maxRecDepth 100000 in
theorem mt_J2_appendC (l : Launch) (E : EE) (sb : Nat) (sm : Int) (sn : Int) (sv : Nat) (sf : Int → Int) (v : Int) (bn : Nat) (hv : 0 ≤ v ∧ v < 128) (hsn : 0 ≤ sn ∧ sn < (bn : Int)) (hbn : bn ≤ 64) (sz : Nat) : Met l yJ2_append_3 (ws_ yJ2_append_3 cJ2_append_3 2 (some (.object "java/lang/AbstractStringBuilder"))) { frames := 1, cells := 0, slots := 0, locals := 22 } (va_Pc [.ref sb, iv v] (UX E (([(sb, .inr (10, [.ref sv, iv 0, iv sm, iv sn]))] : va_W) ++ ([(sv, ia (E.2 3) bn sf)] : va_W)) sz)) (UQxr E (fun u : Unit => True) (fun u : Unit => sb) (fun u : Unit => ([(sb, .inr (10, [.ref sv, iv 0, iv sm, iv (sn + 1)]))] : va_W) ++ ([(sv, ia (E.2 3) bn (ui sf sn v))] : va_W)) (va_A (([(sb, .inr (10, [.ref sv, iv 0, iv sm, iv sn]))] : va_W) ++ ([(sv, ia (E.2 3) bn sf)] : va_W)) sz)) 0 0 (va_A (([(sb, .inr (10, [.ref sv, iv 0, iv sm, iv sn]))] : va_W) ++ ([(sv, ia (E.2 3) bn sf)] : va_W)) sz) := by
  refine Met.ofW (cc := cJ2_append_3) (maxL := 2) (ret := (some (.object "java/lang/AbstractStringBuilder"))) (by decide) rfl ?_
  intro p e s m args below meth c s₁ B hml hv
  obtain ⟨rfl, hsz, hP, hK, hD0, hE⟩ := hv
  have hx := B.exec
  have hb := B.bytes
  have hr := B.returns
  have hts := atoms_spec (ws := (ws_ yJ2_append_3 cJ2_append_3 2 (some (.object "java/lang/AbstractStringBuilder")))) B.pre
  have hts : ∀ w ∈ lw_all, w.before _ s = true := fun w h => hts w (List.mem_cons_of_mem _ h)
  have hown : s.vm.findClass RJ2 = some m.cls := findClass_of_methodNamed B.named
  have hlocks := B.notSynchronized
  subst hsz
  have hD := hD0.self (sz := s.heap.size)
  generalize hAe : va_A (([(sb, .inr (10, [.ref sv, iv 0, iv sm, iv sn]))] : va_W) ++ ([(sv, ia (E.2 3) bn sf)] : va_W)) s.heap.size = A at hD hE ⊢
  have hA : ∀ q : Nat, s.heap.size ≤ q → A q := fun q h => by rw [← hAe]; exact Or.inr h
  have hS : va_S A s.heap s.heap [] := va_S.rf
  have hl := lv_entry ([.ref sb, iv v]) (n := 2) (Nat.le_of_ble_eq_true rfl)
  rw [lg_entry_eq]
  generalize (lg_sl ([.ref sb, iv v]) ++ List.replicate (2 - (lg_sl ([.ref sb, iv v])).length) Slot.unset).toArray = ls at hl ⊢
  have hl : lv_has ls 2 [(0, .ref sb), (1, iv v)] := hl
  refine lv_aload_n hx hb dJ2_append_3_0 rfl (lv_at hl 0 rfl) ?_
  refine lv_aload_n hx hb dJ2_append_3_1 rfl (lv_at hl 0 rfl) ?_
  refine va_get (D := E.1) (ci := 10) (v := iv sn) (C := RJ3) (T := TJ3) (N := 4) hx hb hts in_J3 hown hK.1 hP 0 rfl rfl 3 (by decide) (hts _ q285) (fun _ h9 => h9) rfl dJ2_append_3_2 ?_
  refine lv_iconst (v := iI 1) hx hb dJ2_append_3_5 rfl ?_
  refine n_iadd hx hb dJ2_append_3_6 ?_
  refine n_csv ((va_runU (As := [iv (sn + 1)]) (rest := []) ⟨hx, hb, hml, hown, hts⟩ (mt_J2_ensureCapacityInternal l E sb sm sn sv sf (sn + 1) (bn) (by omega) (by omega)) (n_cwP 1 hts q1440 q2537 q1442 q99 q1443 (sel_priv (hts _ q2537) (hK.pv q1441) (hts _ q1442) (hts _ q1468) rfl) rfl rfl (by decide +kernel) ⟨Nat.le_of_ble_eq_true rfl, Nat.le_of_ble_eq_true rfl⟩) (PW_V hP hK (va_recv hK.1 hP (ci := 10) (q0 := 0) rfl rfl)) rfl rfl hl.1 rfl (lv_room (Nat.le_of_ble_eq_true rfl)) dJ2_append_3_7 ⟨Nat.le_of_ble_eq_true rfl, Nat.le_of_ble_eq_true rfl⟩).run) ?_
  refine lv_aload_n hx hb dJ2_append_3_10 rfl (lv_at hl 0 rfl) ?_
  refine n_csi (x := 1) (va_runU (As := []) (rest := []) ⟨hx, hb, hml, hown, hts⟩ (mt_J2_isLatin1 l E sb sv sm sn ) (n_cwP 0 hts q1465 q1467 q1466 q99 q1469 (hts _ q1468) rfl rfl (by decide +kernel) ⟨Nat.le_of_ble_eq_true rfl, Nat.le_of_ble_eq_true rfl⟩) (PX_V (hP.sub (ws' := [(sb, .inr (10, [.ref sv, iv 0, iv sm, iv sn]))]) [0] rfl) hK hE hS (va_recv hK.1 hP (ci := 10) (q0 := 0) rfl rfl)) rfl rfl hl.1 rfl (lv_room (Nat.le_of_ble_eq_true rfl)) dJ2_append_3_11 ⟨Nat.le_of_ble_eq_true rfl, Nat.le_of_ble_eq_true rfl⟩) ?_
  refine n_if_eq (tgt := 45) hx hb dJ2_append_3_14 (by decide) (by omega) (fun c_1 => absurd c_1 (by decide)) (fun _ => ?_)
  refine lv_iload_n hx hb dJ2_append_3_17 rfl (lv_at hl 1 rfl) ?_
  refine n_csi (x := 1) (va_runS (As := [iv v]) (rest := []) ⟨hx, hb, hml, hown, hts⟩ (mt_J25_canEncode l E v (by omega)) (va_cwS 1 hts (lw_S q1676 q1677 q129 q1678) rfl rfl rfl (by decide +kernel) ⟨Nat.le_of_ble_eq_true rfl, Nat.le_of_ble_eq_true rfl⟩) (PW_S (hP.sub (ws' := []) [] rfl) hK) rfl rfl hl.1 rfl (lv_room (Nat.le_of_ble_eq_true rfl)) dJ2_append_3_18 ⟨Nat.le_of_ble_eq_true rfl, Nat.le_of_ble_eq_true rfl⟩) ?_
  refine n_if_eq (tgt := 45) hx hb dJ2_append_3_21 (by decide) (by omega) (fun c_2 => absurd c_2 (by decide)) (fun _ => ?_)
  refine lv_aload_n hx hb dJ2_append_3_24 rfl (lv_at hl 0 rfl) ?_
  refine va_get (D := E.1) (ci := 10) (v := .ref sv) (C := RJ3) (T := TJ3) (N := 4) hx hb hts in_J3 hown hK.1 hP 0 rfl rfl 0 (by decide) (hts _ q281) (fun _ h9 => h9) rfl dJ2_append_3_25 ?_
  refine lv_aload_n hx hb dJ2_append_3_28 rfl (lv_at hl 0 rfl) ?_
  refine lv_dup hx hb dJ2_append_3_29 rfl ?_
  refine va_get (D := E.1) (ci := 10) (v := iv sn) (C := RJ3) (T := TJ3) (N := 4) hx hb hts in_J3 hown hK.1 hP 0 rfl rfl 3 (by decide) (hts _ q285) (fun _ h9 => h9) rfl dJ2_append_3_30 ?_
  refine lv_dup_x1 hx hb dJ2_append_3_33 rfl rfl ?_
  refine lv_iconst (v := iI 1) hx hb dJ2_append_3_34 rfl ?_
  refine n_iadd hx hb dJ2_append_3_35 ?_
  refine va_put (D := E.1) (ci := 10) (v := iv (sn + 1)) (ty := .int) (C := RJ3) (T := TJ3) (N := 4) hx hb hts in_J3 tyJ3 tyJ3_ok nmJ3 hown hK.1 hP hD hS 0 rfl rfl 3 (by decide) (hts _ q285) (fun _ h9 => h9) rfl (by decide +kernel) rfl rfl (Nat.le_of_ble_eq_true rfl) dJ2_append_3_36 (fun H locs hP hD hS => ?_)
  have hP : va_P E.1 CL (([(sb, .inr (10, [.ref sv, iv 0, iv sm, iv (sn + 1)]))] : va_W) ++ ([(sv, ia (E.2 3) bn sf)] : va_W)) H := hP
  have hD : va_D A (([(sb, .inr (10, [.ref sv, iv 0, iv sm, iv (sn + 1)]))] : va_W) ++ ([(sv, ia (E.2 3) bn sf)] : va_W)) := hD
  refine lv_iload_n hx hb dJ2_append_3_39 rfl (lv_at hl 1 rfl) ?_
  refine n_i2b hx hb (by omega) dJ2_append_3_40 ?_
  refine n_bast (f := sf) hx hb hK.1 hP hD hS 1 3 rfl rfl (by omega) (by omega) (by omega) dJ2_append_3_41 (ws2 := ([(sb, .inr (10, [.ref sv, iv 0, iv sm, iv (sn + 1)]))] : va_W) ++ ([(sv, ia (E.2 3) bn (ui sf sn v))] : va_W)) rfl (fun H locs hP hD hS => ?_)
  refine lv_goto (tgt := 75) hx hb dJ2_append_3_42 (by decide) ?_
  refine lv_aload_n hx hb dJ2_append_3_75 rfl (lv_at hl 0 rfl) ?_
  exact W.aret hx hb hr (Or.inl ⟨_, rfl⟩) (Or.inr ⟨_, rfl⟩) (fun tt_ ht_ hW_ => ⟨⟨(), rfl, trivial, by rw [ht_]; exact hP, hD⟩, hS.F ht_⟩) hS.2.2 dJ2_append_3_76
set_option maxHeartbeats 1000000 in
set_option maxRecDepth 100000 in
theorem mt_J3_appendC (l : Launch) (E : EE) (sb : Nat) (sm : Int) (sn : Int) (sv : Nat) (sf : Int → Int) (v : Int) (bn : Nat) (hv : 0 ≤ v ∧ v < 128) (hsn : 0 ≤ sn ∧ sn < (bn : Int)) (hbn : bn ≤ 64) (sz : Nat) : Met l yJ3_append_3 (ws_ yJ3_append_3 cJ3_append_3 2 (some (.object "java/lang/StringBuilder"))) { frames := 2, cells := 0, slots := 0, locals := 43 } (va_Pc [.ref sb, iv v] (UX E (([(sb, .inr (10, [.ref sv, iv 0, iv sm, iv sn]))] : va_W) ++ ([(sv, ia (E.2 3) bn sf)] : va_W)) sz)) (UQxr E (fun u : Unit => True) (fun u : Unit => sb) (fun u : Unit => ([(sb, .inr (10, [.ref sv, iv 0, iv sm, iv (sn + 1)]))] : va_W) ++ ([(sv, ia (E.2 3) bn (ui sf sn v))] : va_W)) (va_A (([(sb, .inr (10, [.ref sv, iv 0, iv sm, iv sn]))] : va_W) ++ ([(sv, ia (E.2 3) bn sf)] : va_W)) sz)) 0 0 (va_A (([(sb, .inr (10, [.ref sv, iv 0, iv sm, iv sn]))] : va_W) ++ ([(sv, ia (E.2 3) bn sf)] : va_W)) sz) := by
  refine Met.ofW (cc := cJ3_append_3) (maxL := 2) (ret := (some (.object "java/lang/StringBuilder"))) (by decide) rfl ?_
  intro p e s m args below meth c s₁ B hml hv
  obtain ⟨rfl, hsz, hP, hK, hD0, hE⟩ := hv
  have hx := B.exec
  have hb := B.bytes
  have hr := B.returns
  have hts := atoms_spec (ws := (ws_ yJ3_append_3 cJ3_append_3 2 (some (.object "java/lang/StringBuilder")))) B.pre
  have hts : ∀ w ∈ lw_all, w.before _ s = true := fun w h => hts w (List.mem_cons_of_mem _ h)
  have hown : s.vm.findClass RJ3 = some m.cls := findClass_of_methodNamed B.named
  have hlocks := B.notSynchronized
  subst hsz
  have hD := hD0.self (sz := s.heap.size)
  generalize hAe : va_A (([(sb, .inr (10, [.ref sv, iv 0, iv sm, iv sn]))] : va_W) ++ ([(sv, ia (E.2 3) bn sf)] : va_W)) s.heap.size = A at hD hE ⊢
  have hA : ∀ q : Nat, s.heap.size ≤ q → A q := fun q h => by rw [← hAe]; exact Or.inr h
  have hS : va_S A s.heap s.heap [] := va_S.rf
  have hl := lv_entry ([.ref sb, iv v]) (n := 2) (Nat.le_of_ble_eq_true rfl)
  rw [lg_entry_eq]
  generalize (lg_sl ([.ref sb, iv v]) ++ List.replicate (2 - (lg_sl ([.ref sb, iv v])).length) Slot.unset).toArray = ls at hl ⊢
  have hl : lv_has ls 2 [(0, .ref sb), (1, iv v)] := hl
  refine lv_aload_n hx hb dJ3_append_3_0 rfl (lv_at hl 0 rfl) ?_
  refine lv_iload_n hx hb dJ3_append_3_1 rfl (lv_at hl 1 rfl) ?_
  refine n_cuxrS (x := fun u_1 => sb) (w2 := fun u_1 => ([(sb, .inr (10, [.ref sv, iv 0, iv sm, iv (sn + 1)]))] : va_W) ++ ([(sv, ia (E.2 3) bn (ui sf sn v))] : va_W)) (va_runSU (As := [iv v]) (rest := []) ((hK.1.1 10 _ rfl).2) ⟨hx, hb, hml, hown, hts⟩ (mt_J2_appendC l E sb sm sn sv sf v (bn) (by omega) (by first | omega | ((try simp only [lenI]); omega)) (by omega) _) (va_cwSU 1 hts (lw_SU q1673 q2543 q294 q1674 q99 q1675) rfl rfl rfl (by decide +kernel) ⟨Nat.le_of_ble_eq_true rfl, Nat.le_of_ble_eq_true rfl⟩) (UX_V hP hK (hD) hE hS (va_A_in hD hS hA) (va_recv hK.1 hP (ci := 10) (q0 := 0) rfl rfl)) rfl rfl hl.1 rfl (lv_room (Nat.le_of_ble_eq_true rfl)) dJ3_append_3_2 ⟨Nat.le_of_ble_eq_true rfl, Nat.le_of_ble_eq_true rfl⟩) hP hD hS hA [0, 1] [] [0, 1] rfl rfl rfl rfl rfl (fun _ => rfl) (fun u_1 H locs hu_1 hP hD hS => ?_)
  have hu_1 : True := hu_1
  have hP : va_P E.1 CL (([(sb, .inr (10, [.ref sv, iv 0, iv sm, iv (sn + 1)]))] : va_W) ++ ([(sv, ia (E.2 3) bn (ui sf sn v))] : va_W)) H := hP
  have hD : va_D A (([(sb, .inr (10, [.ref sv, iv 0, iv sm, iv (sn + 1)]))] : va_W) ++ ([(sv, ia (E.2 3) bn (ui sf sn v))] : va_W)) := hD
  refine lv_pop hx hb dJ3_append_3_5 rfl ?_
  refine lv_aload_n hx hb dJ3_append_3_6 rfl (lv_at hl 0 rfl) ?_
  exact W.aret hx hb hr (Or.inl ⟨_, rfl⟩) (Or.inr ⟨_, rfl⟩) (fun tt_ ht_ hW_ => ⟨⟨(), rfl, trivial, by rw [ht_]; exact hP, hD⟩, hS.F ht_⟩) hS.2.2 dJ3_append_3_7
set_option maxHeartbeats 1000000 in
set_option maxRecDepth 100000 in
theorem mt_J2_setLength (l : Launch) (E : EE) (sb : Nat) (sm : Int) (sn : Int) (sv : Nat) (sf : Int → Int)  (bn : Nat) (hsn : 0 ≤ sn ∧ sn < 2147483648) (hbn : bn ≤ 64) (sz : Nat) : Met l yJ2_setLength (ws_ yJ2_setLength cJ2_setLength 2 none) { frames := 1, cells := 0, slots := 0, locals := 22 } (va_Pc [.ref sb, iv 0] (UW E (([(sb, .inr (10, [.ref sv, iv 0, iv sm, iv sn]))] : va_W) ++ ([(sv, ia (E.2 3) bn sf)] : va_W)) sz)) (UQv E (([(sb, .inr (10, [.ref sv, iv 0, iv (if 0 < sn then 1 else sm), iv 0]))] : va_W) ++ ([(sv, ia (E.2 3) bn sf)] : va_W)) (va_A (([(sb, .inr (10, [.ref sv, iv 0, iv sm, iv sn]))] : va_W) ++ ([(sv, ia (E.2 3) bn sf)] : va_W)) sz)) 0 0 (va_A (([(sb, .inr (10, [.ref sv, iv 0, iv sm, iv sn]))] : va_W) ++ ([(sv, ia (E.2 3) bn sf)] : va_W)) sz) := by
  refine Met.ofW (cc := cJ2_setLength) (maxL := 2) (ret := none) (by decide) rfl ?_
  intro p e s m args below meth c s₁ B hml hv
  obtain ⟨rfl, hsz, hP, hK, hD0⟩ := hv
  have hx := B.exec
  have hb := B.bytes
  have hr := B.returns
  have hts := atoms_spec (ws := (ws_ yJ2_setLength cJ2_setLength 2 none)) B.pre
  have hts : ∀ w ∈ lw_all, w.before _ s = true := fun w h => hts w (List.mem_cons_of_mem _ h)
  have hown : s.vm.findClass RJ2 = some m.cls := findClass_of_methodNamed B.named
  have hlocks := B.notSynchronized
  subst hsz
  have hD := hD0.self (sz := s.heap.size)
  generalize hAe : va_A (([(sb, .inr (10, [.ref sv, iv 0, iv sm, iv sn]))] : va_W) ++ ([(sv, ia (E.2 3) bn sf)] : va_W)) s.heap.size = A at hD ⊢
  have hA : ∀ q : Nat, s.heap.size ≤ q → A q := fun q h => by rw [← hAe]; exact Or.inr h
  have hS : va_S A s.heap s.heap [] := va_S.rf
  have hl := lv_entry ([.ref sb, iv 0]) (n := 2) (Nat.le_of_ble_eq_true rfl)
  rw [lg_entry_eq]
  generalize (lg_sl ([.ref sb, iv 0]) ++ List.replicate (2 - (lg_sl ([.ref sb, iv 0])).length) Slot.unset).toArray = ls at hl ⊢
  have hl : lv_has ls 2 [(0, .ref sb), (1, iv 0)] := hl
  refine lv_iload_n hx hb dJ2_setLength_0 rfl (lv_at hl 1 rfl) ?_
  refine n_if_ge (tgt := 13) hx hb dJ2_setLength_1 (by decide) (by omega) (fun _ => ?_) (fun c_1 => absurd c_1 (by decide))
  refine lv_aload_n hx hb dJ2_setLength_13 rfl (lv_at hl 0 rfl) ?_
  refine lv_iload_n hx hb dJ2_setLength_14 rfl (lv_at hl 1 rfl) ?_
  refine n_csv ((va_runU (As := [iv 0]) (rest := []) ⟨hx, hb, hml, hown, hts⟩ (mt_J2_ensureCapacityInternal l E sb sm sn sv sf 0 (bn) (by omega) (by omega)) (n_cwP 1 hts q1440 q2537 q1442 q99 q1443 (sel_priv (hts _ q2537) (hK.pv q1441) (hts _ q1442) (hts _ q1468) rfl) rfl rfl (by decide +kernel) ⟨Nat.le_of_ble_eq_true rfl, Nat.le_of_ble_eq_true rfl⟩) (PW_V hP hK (va_recv hK.1 hP (ci := 10) (q0 := 0) rfl rfl)) rfl rfl hl.1 rfl (lv_room (Nat.le_of_ble_eq_true rfl)) dJ2_setLength_15 ⟨Nat.le_of_ble_eq_true rfl, Nat.le_of_ble_eq_true rfl⟩).run) ?_
  refine lv_aload_n hx hb dJ2_setLength_18 rfl (lv_at hl 0 rfl) ?_
  refine va_get (D := E.1) (ci := 10) (v := iv sn) (C := RJ3) (T := TJ3) (N := 4) hx hb hts in_J3 hown hK.1 hP 0 rfl rfl 3 (by decide) (hts _ q285) (fun _ h9 => h9) rfl dJ2_setLength_19 ?_
  refine lv_iload_n hx hb dJ2_setLength_22 rfl (lv_at hl 1 rfl) ?_
  refine n_icmp_ge (tgt := 63) hx hb dJ2_setLength_23 (by decide) (by omega) (by omega) (fun c_2 => ?_) (fun c_2 => ?_)
  · refine lv_aload_n hx hb dJ2_setLength_63 rfl (lv_at hl 0 rfl) ?_
    refine va_get (D := E.1) (ci := 10) (v := iv sn) (C := RJ3) (T := TJ3) (N := 4) hx hb hts in_J3 hown hK.1 hP 0 rfl rfl 3 (by decide) (hts _ q285) (fun _ h9 => h9) rfl dJ2_setLength_64 ?_
    refine lv_iload_n hx hb dJ2_setLength_67 rfl (lv_at hl 1 rfl) ?_
    refine n_icmp_le (tgt := 76) hx hb dJ2_setLength_68 (by decide) (by omega) (by omega) (fun c_3 => ?_) (fun c_3 => ?_)
    · have w_4 : (sm : Int) = (if 0 < sn then 1 else sm) := by first | (rw [if_pos (by omega)]; done) | (rw [if_neg (by omega)]; done)
      rw [w_4] at hP hD
      have hP : va_P E.1 CL (([(sb, .inr (10, [.ref sv, iv 0, iv (if 0 < sn then 1 else sm), iv sn]))] : va_W) ++ ([(sv, ia (E.2 3) bn sf)] : va_W)) s.heap := hP
      have hD : va_D A (([(sb, .inr (10, [.ref sv, iv 0, iv (if 0 < sn then 1 else sm), iv sn]))] : va_W) ++ ([(sv, ia (E.2 3) bn sf)] : va_W)) := hD
      refine lv_aload_n hx hb dJ2_setLength_76 rfl (lv_at hl 0 rfl) ?_
      refine lv_iload_n hx hb dJ2_setLength_77 rfl (lv_at hl 1 rfl) ?_
      refine va_put (D := E.1) (ci := 10) (v := iv 0) (ty := .int) (C := RJ3) (T := TJ3) (N := 4) hx hb hts in_J3 tyJ3 tyJ3_ok nmJ3 hown hK.1 hP hD hS 0 rfl rfl 3 (by decide) (hts _ q285) (fun _ h9 => h9) rfl (by decide +kernel) rfl rfl (Nat.le_of_ble_eq_true rfl) dJ2_setLength_78 (fun H locs hP hD hS => ?_)
      have hP : va_P E.1 CL (([(sb, .inr (10, [.ref sv, iv 0, iv (if 0 < sn then 1 else sm), iv 0]))] : va_W) ++ ([(sv, ia (E.2 3) bn sf)] : va_W)) H := hP
      have hD : va_D A (([(sb, .inr (10, [.ref sv, iv 0, iv (if 0 < sn then 1 else sm), iv 0]))] : va_W) ++ ([(sv, ia (E.2 3) bn sf)] : va_W)) := hD
      exact W.vret hx hb hr (fun tt_ ht_ hW_ => ⟨⟨(), rfl, trivial, by rw [ht_]; exact hP, hD⟩, hS.F ht_⟩) hS.2.2 dJ2_setLength_81
    · refine lv_aload_n hx hb dJ2_setLength_71 rfl (lv_at hl 0 rfl) ?_
      refine lv_iconst (v := iI 1) hx hb dJ2_setLength_72 rfl ?_
      refine va_put (D := E.1) (ci := 10) (v := iv 1) (ty := .boolean) (C := RJ3) (T := TJ3) (N := 4) hx hb hts in_J3 tyJ3 tyJ3_ok nmJ3 hown hK.1 hP hD hS 0 rfl rfl 2 (by decide) (hts _ q283) (fun _ h9 => h9) rfl (by decide +kernel) (nr_b (by decide)) (ft_b (by decide)) (Nat.le_of_ble_eq_true rfl) dJ2_setLength_73 (fun H locs hP hD hS => ?_)
      have hP : va_P E.1 CL (([(sb, .inr (10, [.ref sv, iv 0, iv 1, iv sn]))] : va_W) ++ ([(sv, ia (E.2 3) bn sf)] : va_W)) H := hP
      have hD : va_D A (([(sb, .inr (10, [.ref sv, iv 0, iv 1, iv sn]))] : va_W) ++ ([(sv, ia (E.2 3) bn sf)] : va_W)) := hD
      have w_5 : (1 : Int) = (if 0 < sn then 1 else sm) := by first | (rw [if_pos (by omega)]; done) | (rw [if_neg (by omega)]; done)
      rw [w_5] at hP hD
      have hP : va_P E.1 CL (([(sb, .inr (10, [.ref sv, iv 0, iv (if 0 < sn then 1 else sm), iv sn]))] : va_W) ++ ([(sv, ia (E.2 3) bn sf)] : va_W)) H := hP
      have hD : va_D A (([(sb, .inr (10, [.ref sv, iv 0, iv (if 0 < sn then 1 else sm), iv sn]))] : va_W) ++ ([(sv, ia (E.2 3) bn sf)] : va_W)) := hD
      refine lv_aload_n hx hb dJ2_setLength_76 rfl (lv_at hl 0 rfl) ?_
      refine lv_iload_n hx hb dJ2_setLength_77 rfl (lv_at hl 1 rfl) ?_
      refine va_put (D := E.1) (ci := 10) (v := iv 0) (ty := .int) (C := RJ3) (T := TJ3) (N := 4) hx hb hts in_J3 tyJ3 tyJ3_ok nmJ3 hown hK.1 hP hD hS 0 rfl rfl 3 (by decide) (hts _ q285) (fun _ h9 => h9) rfl (by decide +kernel) rfl rfl (Nat.le_of_ble_eq_true rfl) dJ2_setLength_78 (fun H locs hP hD hS => ?_)
      have hP : va_P E.1 CL (([(sb, .inr (10, [.ref sv, iv 0, iv (if 0 < sn then 1 else sm), iv 0]))] : va_W) ++ ([(sv, ia (E.2 3) bn sf)] : va_W)) H := hP
      have hD : va_D A (([(sb, .inr (10, [.ref sv, iv 0, iv (if 0 < sn then 1 else sm), iv 0]))] : va_W) ++ ([(sv, ia (E.2 3) bn sf)] : va_W)) := hD
      exact W.vret hx hb hr (fun tt_ ht_ hW_ => ⟨⟨(), rfl, trivial, by rw [ht_]; exact hP, hD⟩, hS.F ht_⟩) hS.2.2 dJ2_setLength_81
  · exfalso; omega
set_option maxHeartbeats 1000000 in
set_option maxRecDepth 100000 in
theorem mt_J3_setLength (l : Launch) (E : EE) (sb : Nat) (sm : Int) (sn : Int) (sv : Nat) (sf : Int → Int)  (bn : Nat) (hsn : 0 ≤ sn ∧ sn < 2147483648) (hbn : bn ≤ 64) (sz : Nat) : Met l yJ3_setLength (ws_ yJ3_setLength cJ3_setLength 2 none) { frames := 2, cells := 0, slots := 0, locals := 43 } (va_Pc [.ref sb, iv 0] (UW E (([(sb, .inr (10, [.ref sv, iv 0, iv sm, iv sn]))] : va_W) ++ ([(sv, ia (E.2 3) bn sf)] : va_W)) sz)) (UQv E (([(sb, .inr (10, [.ref sv, iv 0, iv (if 0 < sn then 1 else sm), iv 0]))] : va_W) ++ ([(sv, ia (E.2 3) bn sf)] : va_W)) (va_A (([(sb, .inr (10, [.ref sv, iv 0, iv sm, iv sn]))] : va_W) ++ ([(sv, ia (E.2 3) bn sf)] : va_W)) sz)) 0 0 (va_A (([(sb, .inr (10, [.ref sv, iv 0, iv sm, iv sn]))] : va_W) ++ ([(sv, ia (E.2 3) bn sf)] : va_W)) sz) := by
  refine Met.ofW (cc := cJ3_setLength) (maxL := 2) (ret := none) (by decide) rfl ?_
  intro p e s m args below meth c s₁ B hml hv
  obtain ⟨rfl, hsz, hP, hK, hD0⟩ := hv
  have hx := B.exec
  have hb := B.bytes
  have hr := B.returns
  have hts := atoms_spec (ws := (ws_ yJ3_setLength cJ3_setLength 2 none)) B.pre
  have hts : ∀ w ∈ lw_all, w.before _ s = true := fun w h => hts w (List.mem_cons_of_mem _ h)
  have hown : s.vm.findClass RJ3 = some m.cls := findClass_of_methodNamed B.named
  have hlocks := B.notSynchronized
  subst hsz
  have hD := hD0.self (sz := s.heap.size)
  generalize hAe : va_A (([(sb, .inr (10, [.ref sv, iv 0, iv sm, iv sn]))] : va_W) ++ ([(sv, ia (E.2 3) bn sf)] : va_W)) s.heap.size = A at hD ⊢
  have hA : ∀ q : Nat, s.heap.size ≤ q → A q := fun q h => by rw [← hAe]; exact Or.inr h
  have hS : va_S A s.heap s.heap [] := va_S.rf
  have hl := lv_entry ([.ref sb, iv 0]) (n := 2) (Nat.le_of_ble_eq_true rfl)
  rw [lg_entry_eq]
  generalize (lg_sl ([.ref sb, iv 0]) ++ List.replicate (2 - (lg_sl ([.ref sb, iv 0])).length) Slot.unset).toArray = ls at hl ⊢
  have hl : lv_has ls 2 [(0, .ref sb), (1, iv 0)] := hl
  refine lv_aload_n hx hb dJ3_setLength_0 rfl (lv_at hl 0 rfl) ?_
  refine lv_iload_n hx hb dJ3_setLength_1 rfl (lv_at hl 1 rfl) ?_
  refine n_cuv (va_runSU (As := [iv 0]) (rest := []) ((hK.1.1 10 _ rfl).2) ⟨hx, hb, hml, hown, hts⟩ (mt_J2_setLength l E sb sm sn sv sf  (bn) (by omega) (by omega) _) (va_cwSU 1 hts (lw_SU q1418 q2534 q294 q1419 q99 q1420) rfl rfl rfl (by decide +kernel) ⟨Nat.le_of_ble_eq_true rfl, Nat.le_of_ble_eq_true rfl⟩) (UW_V hP hK (hD) (va_recv hK.1 hP (ci := 10) (q0 := 0) rfl rfl)) rfl rfl hl.1 rfl (lv_room (Nat.le_of_ble_eq_true rfl)) dJ3_setLength_2 ⟨Nat.le_of_ble_eq_true rfl, Nat.le_of_ble_eq_true rfl⟩) hD hS hA (fun H locs hP hD hS => ?_)
  have hP : va_P E.1 CL (([(sb, .inr (10, [.ref sv, iv 0, iv (if 0 < sn then 1 else sm), iv 0]))] : va_W) ++ ([(sv, ia (E.2 3) bn sf)] : va_W)) H := hP
  have hD : va_D A (([(sb, .inr (10, [.ref sv, iv 0, iv (if 0 < sn then 1 else sm), iv 0]))] : va_W) ++ ([(sv, ia (E.2 3) bn sf)] : va_W)) := hD
  exact W.vret hx hb hr (fun tt_ ht_ hW_ => ⟨⟨(), rfl, trivial, by rw [ht_]; exact hP, hD⟩, hS.F ht_⟩) hS.2.2 dJ3_setLength_5
set_option maxHeartbeats 4000000 in
set_option maxRecDepth 100000 in
theorem mt_J2_charAt (l : Launch) (E : EE) (sb : Nat) (sm : Int) (sn : Int) (sv : Nat) (sf : Int → Int) (i : Int) (bn : Nat) (hi : 0 ≤ i ∧ i < sn ∧ sn ≤ (bn : Int)) (hbn : bn ≤ 64) (hch : 0 ≤ sf i ∧ sf i < 128) : Met l yJ2_charAt (ws_ yJ2_charAt cJ2_charAt 5 (some .char)) { frames := 2, cells := 0, slots := 0, locals := 43 } (va_Pc [.ref sb, iv i] (PX E (([(sb, .inr (10, [.ref sv, iv 0, iv sm, iv sn]))] : va_W) ++ ([(sv, ia (E.2 3) bn sf)] : va_W)))) (NP (sf i)) 0 0 (fun _ => False) := by
  refine Met.ofW (cc := cJ2_charAt) (maxL := 5) (ret := (some .char)) (by decide) rfl ?_
  intro p e s m args below meth c s₁ B hml hv
  obtain ⟨rfl, hP, hK, hE⟩ := hv
  have hS : va_S (fun _ => False) s.heap s.heap [] := va_S.rf
  have hx := B.exec
  have hb := B.bytes
  have hr := B.returns
  have hts := atoms_spec (ws := (ws_ yJ2_charAt cJ2_charAt 5 (some .char))) B.pre
  have hts : ∀ w ∈ lw_all, w.before _ s = true := fun w h => hts w (List.mem_cons_of_mem _ h)
  have hown : s.vm.findClass RJ2 = some m.cls := findClass_of_methodNamed B.named
  have hlocks := B.notSynchronized
  have hl := lv_entry ([.ref sb, iv i]) (n := 5) (Nat.le_of_ble_eq_true rfl)
  rw [lg_entry_eq]
  generalize (lg_sl ([.ref sb, iv i]) ++ List.replicate (5 - (lg_sl ([.ref sb, iv i])).length) Slot.unset).toArray = ls at hl ⊢
  have hl : lv_has ls 5 [(0, .ref sb), (1, iv i)] := hl
  refine lv_aload_n hx hb dJ2_charAt_0 rfl (lv_at hl 0 rfl) ?_
  refine va_get (D := E.1) (ci := 10) (v := iv 0) (C := RJ3) (T := TJ3) (N := 4) hx hb hts in_J3 hown hK.1 hP 0 rfl rfl 1 (by decide) (hts _ q282) (fun _ h9 => h9) rfl dJ2_charAt_1 ?_
  refine lv_istore_n (lv' := [(2, iv 0), (0, .ref sb), (1, iv i)]) hx hb dJ2_charAt_4 rfl hl (by decide) rfl (fun ls hl => ?_)
  refine lv_aload_n hx hb dJ2_charAt_5 rfl (lv_at hl 1 rfl) ?_
  refine va_get (D := E.1) (ci := 10) (v := .ref sv) (C := RJ3) (T := TJ3) (N := 4) hx hb hts in_J3 hown hK.1 hP 0 rfl rfl 0 (by decide) (hts _ q281) (fun _ h9 => h9) rfl dJ2_charAt_6 ?_
  refine lv_astore_n (lv' := [(3, .ref sv), (2, iv 0), (0, .ref sb), (1, iv i)]) hx hb dJ2_charAt_9 rfl hl (by decide) rfl (fun ls hl => ?_)
  refine lv_aload_n hx hb dJ2_charAt_10 rfl (lv_at hl 2 rfl) ?_
  refine va_get (D := E.1) (ci := 10) (v := iv sn) (C := RJ3) (T := TJ3) (N := 4) hx hb hts in_J3 hown hK.1 hP 0 rfl rfl 3 (by decide) (hts _ q285) (fun _ h9 => h9) rfl dJ2_charAt_11 ?_
  refine lv_aload_n hx hb dJ2_charAt_14 rfl (lv_at hl 0 rfl) ?_
  refine va_alen (v := iI ((bn : Nat) : Int)) hx hb hK.1 hP 1 3 rfl rfl (iI_ofNat _) dJ2_charAt_15 ?_
  refine lv_iload_n hx hb dJ2_charAt_16 rfl (lv_at hl 1 rfl) ?_
  refine n_ishr0 hx hb (by omega) dJ2_charAt_17 ?_
  refine n_mmin hx hb (hml.trans hl.1.symm) hown (hts _ q1725) (hts _ q466) (hts _ q111) (hts _ q467) (Nat.le_of_ble_eq_true rfl) (Nat.le_of_ble_eq_true rfl) (Nat.le_of_ble_eq_true rfl) (Nat.le_of_ble_eq_true rfl) (x := sn) (y := (bn : Int)) (by omega) (by omega) dJ2_charAt_18 ?_
  refine lv_istore (lv' := [(4, iv (min sn (bn : Int))), (3, .ref sv), (2, iv 0), (0, .ref sb), (1, iv i)]) hx hb dJ2_charAt_21 hl (by decide) rfl (fun ls hl => ?_)
  refine lv_iload_n hx hb dJ2_charAt_23 rfl (lv_at hl 4 rfl) ?_
  refine lv_iload hx hb dJ2_charAt_24 (lv_at hl 0 rfl) ?_
  refine n_csv ((va_runS (As := [iv i, iv (min sn (bn : Int))]) (rest := []) ⟨hx, hb, hml, hown, hts⟩ (mt_J4_checkIndex l E i (min sn (bn : Int)) (by omega)) (va_cwS 2 hts (lw_S q1726 q1686 q101 q1687) rfl rfl rfl (by decide +kernel) ⟨Nat.le_of_ble_eq_true rfl, Nat.le_of_ble_eq_true rfl⟩) (PX_S (hP.sub (ws' := []) [] rfl) hK hE hS) rfl rfl hl.1 rfl (lv_room (Nat.le_of_ble_eq_true rfl)) dJ2_charAt_26 ⟨Nat.le_of_ble_eq_true rfl, Nat.le_of_ble_eq_true rfl⟩).run) ?_
  refine lv_iload_n hx hb dJ2_charAt_29 rfl (lv_at hl 2 rfl) ?_
  refine n_if_ne (tgt := 42) hx hb dJ2_charAt_30 (by decide) (by omega) (fun c_1 => absurd c_1 (by decide)) (fun _ => ?_)
  refine lv_aload_n hx hb dJ2_charAt_33 rfl (lv_at hl 1 rfl) ?_
  refine lv_iload_n hx hb dJ2_charAt_34 rfl (lv_at hl 4 rfl) ?_
  refine n_bald (f := sf) hx hb hK.1 hP 1 3 rfl rfl (by omega) (by omega) dJ2_charAt_35 ?_
  refine lv_sipush (v := iI 255) hx hb dJ2_charAt_36 (by decide) ?_
  refine n_iand255 hx hb (by omega) dJ2_charAt_39 ?_
  refine n_i2c hx hb (by omega) dJ2_charAt_40 ?_
  exact W.zret (v := iI (sf i)) hx hb hr (nr_c (by omega)) (fun tt_ ht_ hW_ => ⟨iI (sf i), rfl, rfl, ht_⟩) (fun q h => by cases h) dJ2_charAt_41
set_option maxHeartbeats 4000000 in
set_option maxRecDepth 100000 in
theorem mt_J3_charAt (l : Launch) (E : EE) (sb : Nat) (sm : Int) (sn : Int) (sv : Nat) (sf : Int → Int) (i : Int) (bn : Nat) (hi : 0 ≤ i ∧ i < sn ∧ sn ≤ (bn : Int)) (hbn : bn ≤ 64) (hch : 0 ≤ sf i ∧ sf i < 128) : Met l yJ3_charAt (ws_ yJ3_charAt cJ3_charAt 2 (some .char)) { frames := 3, cells := 0, slots := 0, locals := 67 } (va_Pc [.ref sb, iv i] (PX E (([(sb, .inr (10, [.ref sv, iv 0, iv sm, iv sn]))] : va_W) ++ ([(sv, ia (E.2 3) bn sf)] : va_W)))) (NP (sf i)) 0 0 (fun _ => False) := by
  refine Met.ofW (cc := cJ3_charAt) (maxL := 2) (ret := (some .char)) (by decide) rfl ?_
  intro p e s m args below meth c s₁ B hml hv
  obtain ⟨rfl, hP, hK, hE⟩ := hv
  have hS : va_S (fun _ => False) s.heap s.heap [] := va_S.rf
  have hx := B.exec
  have hb := B.bytes
  have hr := B.returns
  have hts := atoms_spec (ws := (ws_ yJ3_charAt cJ3_charAt 2 (some .char))) B.pre
  have hts : ∀ w ∈ lw_all, w.before _ s = true := fun w h => hts w (List.mem_cons_of_mem _ h)
  have hown : s.vm.findClass RJ3 = some m.cls := findClass_of_methodNamed B.named
  have hlocks := B.notSynchronized
  have hl := lv_entry ([.ref sb, iv i]) (n := 2) (Nat.le_of_ble_eq_true rfl)
  rw [lg_entry_eq]
  generalize (lg_sl ([.ref sb, iv i]) ++ List.replicate (2 - (lg_sl ([.ref sb, iv i])).length) Slot.unset).toArray = ls at hl ⊢
  have hl : lv_has ls 2 [(0, .ref sb), (1, iv i)] := hl
  refine lv_aload_n hx hb dJ3_charAt_0 rfl (lv_at hl 0 rfl) ?_
  refine lv_iload_n hx hb dJ3_charAt_1 rfl (lv_at hl 1 rfl) ?_
  refine n_csi (x := sf i) (va_runSU (As := [iv i]) (rest := []) ((hK.1.1 10 _ rfl).2) ⟨hx, hb, hml, hown, hts⟩ (mt_J2_charAt l E sb sm sn sv sf i (bn) (by omega) (by omega) (by assumption)) (va_cwSU 1 hts (lw_SU q1722 q2545 q294 q1723 q99 q1724) rfl rfl rfl (by decide +kernel) ⟨Nat.le_of_ble_eq_true rfl, Nat.le_of_ble_eq_true rfl⟩) (PX_V hP hK hE hS (va_recv hK.1 hP (ci := 10) (q0 := 0) rfl rfl)) rfl rfl hl.1 rfl (lv_room (Nat.le_of_ble_eq_true rfl)) dJ3_charAt_2 ⟨Nat.le_of_ble_eq_true rfl, Nat.le_of_ble_eq_true rfl⟩) ?_
  exact W.zret (v := iI (sf i)) hx hb hr (nr_c (by omega)) (fun tt_ ht_ hW_ => ⟨iI (sf i), rfl, rfl, ht_⟩) (fun q h => by cases h) dJ3_charAt_5
set_option maxHeartbeats 1000000 in
set_option maxRecDepth 100000 in
theorem mt_J4_getBytes (l : Launch) (E : EE) (gb : Nat) (gf : Int → Int) (k : Nat) (i : Int) (bn : Nat) (hk : k < 32) (hi : 0 ≤ i ∧ i + ((TX.getD k []).length : Int) ≤ (bn : Int)) (hbn : bn ≤ 64) (sz : Nat) : Met l yJ4_getBytes (ws_ yJ4_getBytes cJ4_getBytes 4 none) { frames := 1, cells := 0, slots := 0, locals := 20 } (va_Pc [.ref (EX E (2 * k)), .ref gb, iv i, iv 0] (UX E ([(gb, ia (E.2 3) bn gf)]) sz)) (UQv E ([(gb, ia (E.2 3) bn (cpD (TX.getD k []) i gf))]) (va_A ([(gb, ia (E.2 3) bn gf)]) sz)) 0 0 (va_A ([(gb, ia (E.2 3) bn gf)]) sz) := by
  refine Met.ofW (cc := cJ4_getBytes) (maxL := 4) (ret := none) (by decide) rfl ?_
  intro p e s m args below meth c s₁ B hml hv
  obtain ⟨rfl, hsz, hP, hK, hD0, hE⟩ := hv
  have hx := B.exec
  have hb := B.bytes
  have hr := B.returns
  have hts := atoms_spec (ws := (ws_ yJ4_getBytes cJ4_getBytes 4 none)) B.pre
  have hts : ∀ w ∈ lw_all, w.before _ s = true := fun w h => hts w (List.mem_cons_of_mem _ h)
  have hown : s.vm.findClass RJ4 = some m.cls := findClass_of_methodNamed B.named
  have hlocks := B.notSynchronized
  subst hsz
  have hD := hD0.self (sz := s.heap.size)
  generalize hAe : va_A ([(gb, ia (E.2 3) bn gf)]) s.heap.size = A at hD hE ⊢
  have hA : ∀ q : Nat, s.heap.size ≤ q → A q := fun q h => by rw [← hAe]; exact Or.inr h
  have hS : va_S A s.heap s.heap [] := va_S.rf
  have hl := lv_entry ([.ref (EX E (2 * k)), .ref gb, iv i, iv 0]) (n := 4) (Nat.le_of_ble_eq_true rfl)
  rw [lg_entry_eq]
  generalize (lg_sl ([.ref (EX E (2 * k)), .ref gb, iv i, iv 0]) ++ List.replicate (4 - (lg_sl ([.ref (EX E (2 * k)), .ref gb, iv i, iv 0])).length) Slot.unset).toArray = ls at hl ⊢
  have hl : lv_has ls 4 [(0, .ref (EX E (2 * k))), (1, .ref gb), (2, iv i), (3, iv 0)] := hl
  have htl := tx_l k
  refine lv_aload_n hx hb dJ4_getBytes_0 rfl (lv_at hl 0 rfl) ?_
  refine n_csi (x := 0) (va_runV (As := []) (rest := []) ⟨hx, hb, hml, hown, hts⟩ (mt_J4_coder l E k (by exact hk)) (cwV 0 hts (lw_V q1500 q1501 q1502 q101 q1503) rfl rfl rfl (by decide +kernel) ⟨Nat.le_of_ble_eq_true rfl, Nat.le_of_ble_eq_true rfl⟩) (PX_V (hP.sub (ws' := []) [] rfl) hK hE hS (SQ.recv (hE.hs k hk) hS)) rfl rfl hl.1 rfl (lv_room (Nat.le_of_ble_eq_true rfl)) dJ4_getBytes_1 ⟨Nat.le_of_ble_eq_true rfl, Nat.le_of_ble_eq_true rfl⟩) ?_
  refine lv_iload_n hx hb dJ4_getBytes_4 rfl (lv_at hl 3 rfl) ?_
  refine n_icmp_ne (tgt := 28) hx hb dJ4_getBytes_5 (by decide) (by omega) (by omega) (fun c_1 => absurd c_1 (by decide)) (fun _ => ?_)
  refine lv_aload_n hx hb dJ4_getBytes_8 rfl (lv_at hl 0 rfl) ?_
  refine vk_getf (v := .ref (EX E (2 * k + 1))) hx hb (hE.hs k hk).2.2.1 hS hown (hts _ q1623) (fun _ h9 => h9) dJ4_getBytes_9 ?_
  refine lv_iconst (v := iI 0) hx hb dJ4_getBytes_12 rfl ?_
  refine lv_aload_n hx hb dJ4_getBytes_13 rfl (lv_at hl 1 rfl) ?_
  refine lv_iload_n hx hb dJ4_getBytes_14 rfl (lv_at hl 2 rfl) ?_
  refine lv_iload_n hx hb dJ4_getBytes_15 rfl (lv_at hl 3 rfl) ?_
  refine n_ishl0 hx hb dJ4_getBytes_16 ?_
  refine lv_aload_n hx hb dJ4_getBytes_17 rfl (lv_at hl 0 rfl) ?_
  refine vk_getf (v := .ref (EX E (2 * k + 1))) hx hb (hE.hs k hk).2.2.1 hS hown (hts _ q1623) (fun _ h9 => h9) dJ4_getBytes_18 ?_
  refine va_tlen (v := iI ((TX.getD k []).length : Int)) hx hb (hE.hs k hk).2.2.2 hS (iI_ofNat _) dJ4_getBytes_21 ?_
  refine n_cpS hx hb (hml.trans hl.1.symm) hown (hts _ q1537) (hts _ q470) (hts _ q469) (hts _ q112) hK.1 hP hD hS (hE.hs k hk).2.2.2 0 3 (g := gf) rfl rfl (d := i) (by omega) (by omega) (by omega) (fun j => ft_y (tx_b k j)) (Nat.le_of_ble_eq_true rfl) (Nat.le_of_ble_eq_true rfl) dJ4_getBytes_22 (w2 := [(gb, ia (E.2 3) bn (cpD (TX.getD k []) i gf))]) rfl (fun H locs hP hD hS => ?_)
  refine lv_goto (tgt := 43) hx hb dJ4_getBytes_25 (by decide) ?_
  exact W.vret hx hb hr (fun tt_ ht_ hW_ => ⟨⟨(), rfl, trivial, by rw [ht_]; exact hP, hD⟩, hS.F ht_⟩) hS.2.2 dJ4_getBytes_43
set_option maxHeartbeats 4000000 in
set_option maxRecDepth 100000 in
theorem mt_J2_inflateIfNeededFor (l : Launch) (E : EE) (sb : Nat) (sv : Nat) (sm : Int) (sn : Int) (k : Nat) (hk : k < 32) : Met l yJ2_inflateIfNeededFor (ws_ yJ2_inflateIfNeededFor cJ2_inflateIfNeededFor 2 none) { frames := 1, cells := 0, slots := 0, locals := 20 } (va_Pc [.ref sb, .ref (EX E (2 * k))] (PX E ([(sb, .inr (10, [.ref sv, iv 0, iv sm, iv sn]))]))) NPv 0 0 (fun _ => False) := by
  refine Met.ofW (cc := cJ2_inflateIfNeededFor) (maxL := 2) (ret := none) (by decide) rfl ?_
  intro p e s m args below meth c s₁ B hml hv
  obtain ⟨rfl, hP, hK, hE⟩ := hv
  have hS : va_S (fun _ => False) s.heap s.heap [] := va_S.rf
  have hx := B.exec
  have hb := B.bytes
  have hr := B.returns
  have hts := atoms_spec (ws := (ws_ yJ2_inflateIfNeededFor cJ2_inflateIfNeededFor 2 none)) B.pre
  have hts : ∀ w ∈ lw_all, w.before _ s = true := fun w h => hts w (List.mem_cons_of_mem _ h)
  have hown : s.vm.findClass RJ2 = some m.cls := findClass_of_methodNamed B.named
  have hlocks := B.notSynchronized
  have hl := lv_entry ([.ref sb, .ref (EX E (2 * k))]) (n := 2) (Nat.le_of_ble_eq_true rfl)
  rw [lg_entry_eq]
  generalize (lg_sl ([.ref sb, .ref (EX E (2 * k))]) ++ List.replicate (2 - (lg_sl ([.ref sb, .ref (EX E (2 * k))])).length) Slot.unset).toArray = ls at hl ⊢
  have hl : lv_has ls 2 [(0, .ref sb), (1, .ref (EX E (2 * k)))] := hl
  refine va_gets (v := iv 1) hx hb hE.cs hS hown (hts _ q272) (fun _ h9 => h9) dJ2_inflateIfNeededFor_0 ?_
  refine n_if_eq (tgt := 21) hx hb dJ2_inflateIfNeededFor_3 (by decide) (by omega) (fun c_1 => absurd c_1 (by decide)) (fun _ => ?_)
  refine lv_aload_n hx hb dJ2_inflateIfNeededFor_6 rfl (lv_at hl 0 rfl) ?_
  refine va_get (D := E.1) (ci := 10) (v := iv 0) (C := RJ3) (T := TJ3) (N := 4) hx hb hts in_J3 hown hK.1 hP 0 rfl rfl 1 (by decide) (hts _ q282) (fun _ h9 => h9) rfl dJ2_inflateIfNeededFor_7 ?_
  refine lv_aload_n hx hb dJ2_inflateIfNeededFor_10 rfl (lv_at hl 1 rfl) ?_
  refine n_csi (x := 0) (va_runV (As := []) (rest := [iv 0]) ⟨hx, hb, hml, hown, hts⟩ (mt_J4_coder l E k (by exact hk)) (cwV 0 hts (lw_V q1513 q1501 q1502 q101 q1503) rfl rfl rfl (by decide +kernel) ⟨Nat.le_of_ble_eq_true rfl, Nat.le_of_ble_eq_true rfl⟩) (PX_V (hP.sub (ws' := []) [] rfl) hK hE hS (SQ.recv (hE.hs k hk) hS)) rfl rfl hl.1 rfl (lv_room (Nat.le_of_ble_eq_true rfl)) dJ2_inflateIfNeededFor_11 ⟨Nat.le_of_ble_eq_true rfl, Nat.le_of_ble_eq_true rfl⟩) ?_
  refine n_icmp_eq (tgt := 21) hx hb dJ2_inflateIfNeededFor_14 (by decide) (by omega) (by omega) (fun _ => ?_) (fun c_2 => absurd c_2 (by decide))
  exact W.vret hx hb hr (fun tt_ ht_ hW_ => ⟨rfl, ht_⟩) (fun q h => by cases h) dJ2_inflateIfNeededFor_21
set_option maxHeartbeats 1000000 in
set_option maxRecDepth 100000 in
theorem mt_J2_putStringAt (l : Launch) (E : EE) (sb : Nat) (sm : Int) (sn : Int) (sv : Nat) (sf : Int → Int) (i : Int) (k : Nat) (bn : Nat) (hk : k < 32) (hln : 0 ≤ i ∧ i + ((TX.getD k []).length : Int) ≤ (bn : Int)) (hbn : bn ≤ 64) (sz : Nat) : Met l yJ2_putStringAt (ws_ yJ2_putStringAt cJ2_putStringAt 3 none) { frames := 2, cells := 0, slots := 0, locals := 43 } (va_Pc [.ref sb, iv i, .ref (EX E (2 * k))] (UX E (([(sb, .inr (10, [.ref sv, iv 0, iv sm, iv sn]))] : va_W) ++ ([(sv, ia (E.2 3) bn sf)] : va_W)) sz)) (UQv E (([(sb, .inr (10, [.ref sv, iv 0, iv sm, iv sn]))] : va_W) ++ ([(sv, ia (E.2 3) bn (cpD (TX.getD k []) i sf))] : va_W)) (va_A (([(sb, .inr (10, [.ref sv, iv 0, iv sm, iv sn]))] : va_W) ++ ([(sv, ia (E.2 3) bn sf)] : va_W)) sz)) 0 0 (va_A (([(sb, .inr (10, [.ref sv, iv 0, iv sm, iv sn]))] : va_W) ++ ([(sv, ia (E.2 3) bn sf)] : va_W)) sz) := by
  refine Met.ofW (cc := cJ2_putStringAt) (maxL := 3) (ret := none) (by decide) rfl ?_
  intro p e s m args below meth c s₁ B hml hv
  obtain ⟨rfl, hsz, hP, hK, hD0, hE⟩ := hv
  have hx := B.exec
  have hb := B.bytes
  have hr := B.returns
  have hts := atoms_spec (ws := (ws_ yJ2_putStringAt cJ2_putStringAt 3 none)) B.pre
  have hts : ∀ w ∈ lw_all, w.before _ s = true := fun w h => hts w (List.mem_cons_of_mem _ h)
  have hown : s.vm.findClass RJ2 = some m.cls := findClass_of_methodNamed B.named
  have hlocks := B.notSynchronized
  subst hsz
  have hD := hD0.self (sz := s.heap.size)
  generalize hAe : va_A (([(sb, .inr (10, [.ref sv, iv 0, iv sm, iv sn]))] : va_W) ++ ([(sv, ia (E.2 3) bn sf)] : va_W)) s.heap.size = A at hD hE ⊢
  have hA : ∀ q : Nat, s.heap.size ≤ q → A q := fun q h => by rw [← hAe]; exact Or.inr h
  have hS : va_S A s.heap s.heap [] := va_S.rf
  have hl := lv_entry ([.ref sb, iv i, .ref (EX E (2 * k))]) (n := 3) (Nat.le_of_ble_eq_true rfl)
  rw [lg_entry_eq]
  generalize (lg_sl ([.ref sb, iv i, .ref (EX E (2 * k))]) ++ List.replicate (3 - (lg_sl ([.ref sb, iv i, .ref (EX E (2 * k))])).length) Slot.unset).toArray = ls at hl ⊢
  have hl : lv_has ls 3 [(0, .ref sb), (1, iv i), (2, .ref (EX E (2 * k)))] := hl
  have htl := tx_l k
  refine lv_aload_n hx hb dJ2_putStringAt_0 rfl (lv_at hl 0 rfl) ?_
  refine lv_aload_n hx hb dJ2_putStringAt_1 rfl (lv_at hl 2 rfl) ?_
  refine n_csv ((va_runU (As := [.ref (EX E (2 * k))]) (rest := []) ⟨hx, hb, hml, hown, hts⟩ (mt_J2_inflateIfNeededFor l E sb sv sm sn k (by exact hk)) (n_cwP 1 hts q1509 q2540 q1511 q99 q1512 (sel_priv (hts _ q2540) (hK.pv q1510) (hts _ q1511) (hts _ q1468) rfl) rfl rfl (by decide +kernel) ⟨Nat.le_of_ble_eq_true rfl, Nat.le_of_ble_eq_true rfl⟩) (PX_V (hP.sub (ws' := [(sb, .inr (10, [.ref sv, iv 0, iv sm, iv sn]))]) [0] rfl) hK hE hS (va_recv hK.1 hP (ci := 10) (q0 := 0) rfl rfl)) rfl rfl hl.1 rfl (lv_room (Nat.le_of_ble_eq_true rfl)) dJ2_putStringAt_2 ⟨Nat.le_of_ble_eq_true rfl, Nat.le_of_ble_eq_true rfl⟩).run) ?_
  refine lv_aload_n hx hb dJ2_putStringAt_5 rfl (lv_at hl 2 rfl) ?_
  refine lv_aload_n hx hb dJ2_putStringAt_6 rfl (lv_at hl 0 rfl) ?_
  refine va_get (D := E.1) (ci := 10) (v := .ref sv) (C := RJ3) (T := TJ3) (N := 4) hx hb hts in_J3 hown hK.1 hP 0 rfl rfl 0 (by decide) (hts _ q281) (fun _ h9 => h9) rfl dJ2_putStringAt_7 ?_
  refine lv_iload_n hx hb dJ2_putStringAt_10 rfl (lv_at hl 1 rfl) ?_
  refine lv_aload_n hx hb dJ2_putStringAt_11 rfl (lv_at hl 0 rfl) ?_
  refine va_get (D := E.1) (ci := 10) (v := iv 0) (C := RJ3) (T := TJ3) (N := 4) hx hb hts in_J3 hown hK.1 hP 0 rfl rfl 1 (by decide) (hts _ q282) (fun _ h9 => h9) rfl dJ2_putStringAt_12 ?_
  refine n_cuvS (w2 := ([(sb, .inr (10, [.ref sv, iv 0, iv sm, iv sn]))] : va_W) ++ ([(sv, ia (E.2 3) bn (cpD (TX.getD k []) i sf))] : va_W)) (va_runV (As := [.ref sv, iv i, iv 0]) (rest := []) ⟨hx, hb, hml, hown, hts⟩ (mt_J4_getBytes l E sv sf k i (bn) (by exact hk) (by omega) (by omega) _) (cwV 3 hts (lw_V q1533 q1534 q1535 q101 q1536) rfl rfl rfl (by decide +kernel) ⟨Nat.le_of_ble_eq_true rfl, Nat.le_of_ble_eq_true rfl⟩) (UX_V (hP.sub (ws' := [(sv, ia (E.2 3) bn sf)]) [1] rfl) hK (hD.sub (ws' := [(sv, ia (E.2 3) bn sf)]) [1] rfl rfl) hE hS (va_sub_free hD hS hA [1] rfl) (SQ.recv (hE.hs k hk) hS)) rfl rfl hl.1 rfl (lv_room (Nat.le_of_ble_eq_true rfl)) dJ2_putStringAt_15 ⟨Nat.le_of_ble_eq_true rfl, Nat.le_of_ble_eq_true rfl⟩) hP hD hS hA [1] [0] [0, 1] rfl rfl rfl rfl rfl rfl (fun H locs hP hD hS => ?_)
  have hP : va_P E.1 CL (([(sb, .inr (10, [.ref sv, iv 0, iv sm, iv sn]))] : va_W) ++ ([(sv, ia (E.2 3) bn (cpD (TX.getD k []) i sf))] : va_W)) H := hP
  have hD : va_D A (([(sb, .inr (10, [.ref sv, iv 0, iv sm, iv sn]))] : va_W) ++ ([(sv, ia (E.2 3) bn (cpD (TX.getD k []) i sf))] : va_W)) := hD
  exact W.vret hx hb hr (fun tt_ ht_ hW_ => ⟨⟨(), rfl, trivial, by rw [ht_]; exact hP, hD⟩, hS.F ht_⟩) hS.2.2 dJ2_putStringAt_18
set_option maxHeartbeats 1000000 in
set_option maxRecDepth 100000 in
theorem mt_J2_appendT (l : Launch) (E : EE) (sb : Nat) (sm : Int) (sn : Int) (sv : Nat) (sf : Int → Int) (k : Nat) (bn : Nat) (hk : k < 32) (hln : 0 ≤ sn ∧ sn + ((TX.getD k []).length : Int) ≤ (bn : Int)) (hbn : bn ≤ 64) (sz : Nat) : Met l yJ2_append (ws_ yJ2_append cJ2_append 3 (some (.object "java/lang/AbstractStringBuilder"))) { frames := 3, cells := 0, slots := 0, locals := 65 } (va_Pc [.ref sb, .ref (EX E (2 * k))] (UX E (([(sb, .inr (10, [.ref sv, iv 0, iv sm, iv sn]))] : va_W) ++ ([(sv, ia (E.2 3) bn sf)] : va_W)) sz)) (UQxr E (fun u : Unit => True) (fun u : Unit => sb) (fun u : Unit => ([(sb, .inr (10, [.ref sv, iv 0, iv sm, iv (sn + ((TX.getD k []).length : Int))]))] : va_W) ++ ([(sv, ia (E.2 3) bn (cpD (TX.getD k []) sn sf))] : va_W)) (va_A (([(sb, .inr (10, [.ref sv, iv 0, iv sm, iv sn]))] : va_W) ++ ([(sv, ia (E.2 3) bn sf)] : va_W)) sz)) 0 0 (va_A (([(sb, .inr (10, [.ref sv, iv 0, iv sm, iv sn]))] : va_W) ++ ([(sv, ia (E.2 3) bn sf)] : va_W)) sz) := by
  refine Met.ofW (cc := cJ2_append) (maxL := 3) (ret := (some (.object "java/lang/AbstractStringBuilder"))) (by decide) rfl ?_
  intro p e s m args below meth c s₁ B hml hv
  obtain ⟨rfl, hsz, hP, hK, hD0, hE⟩ := hv
  have hx := B.exec
  have hb := B.bytes
  have hr := B.returns
  have hts := atoms_spec (ws := (ws_ yJ2_append cJ2_append 3 (some (.object "java/lang/AbstractStringBuilder")))) B.pre
  have hts : ∀ w ∈ lw_all, w.before _ s = true := fun w h => hts w (List.mem_cons_of_mem _ h)
  have hown : s.vm.findClass RJ2 = some m.cls := findClass_of_methodNamed B.named
  have hlocks := B.notSynchronized
  subst hsz
  have hD := hD0.self (sz := s.heap.size)
  generalize hAe : va_A (([(sb, .inr (10, [.ref sv, iv 0, iv sm, iv sn]))] : va_W) ++ ([(sv, ia (E.2 3) bn sf)] : va_W)) s.heap.size = A at hD hE ⊢
  have hA : ∀ q : Nat, s.heap.size ≤ q → A q := fun q h => by rw [← hAe]; exact Or.inr h
  have hS : va_S A s.heap s.heap [] := va_S.rf
  have hl := lv_entry ([.ref sb, .ref (EX E (2 * k))]) (n := 3) (Nat.le_of_ble_eq_true rfl)
  rw [lg_entry_eq]
  generalize (lg_sl ([.ref sb, .ref (EX E (2 * k))]) ++ List.replicate (3 - (lg_sl ([.ref sb, .ref (EX E (2 * k))])).length) Slot.unset).toArray = ls at hl ⊢
  have hl : lv_has ls 3 [(0, .ref sb), (1, .ref (EX E (2 * k)))] := hl
  have htl := tx_l k
  refine lv_aload_n hx hb dJ2_append_0 rfl (lv_at hl 1 rfl) ?_
  refine lv_ifnonnull (tgt := 9) hx hb dJ2_append_1 (by decide) ?_
  refine lv_aload_n hx hb dJ2_append_9 rfl (lv_at hl 1 rfl) ?_
  refine n_csi (x := ((TX.getD k []).length : Int)) (va_runV (As := []) (rest := []) ⟨hx, hb, hml, hown, hts⟩ (mt_J4_length l E k (by exact hk)) (cwV 0 hts (lw_V q1496 q1497 q1498 q101 q1499) rfl rfl rfl (by decide +kernel) ⟨Nat.le_of_ble_eq_true rfl, Nat.le_of_ble_eq_true rfl⟩) (PX_V (hP.sub (ws' := []) [] rfl) hK hE hS (SQ.recv (hE.hs k hk) hS)) rfl rfl hl.1 rfl (lv_room (Nat.le_of_ble_eq_true rfl)) dJ2_append_10 ⟨Nat.le_of_ble_eq_true rfl, Nat.le_of_ble_eq_true rfl⟩) ?_
  refine lv_istore_n (lv' := [(2, iv ((TX.getD k []).length : Int)), (0, .ref sb), (1, .ref (EX E (2 * k)))]) hx hb dJ2_append_13 rfl hl (by decide) rfl (fun ls hl => ?_)
  refine lv_aload_n hx hb dJ2_append_14 rfl (lv_at hl 1 rfl) ?_
  refine lv_aload_n hx hb dJ2_append_15 rfl (lv_at hl 1 rfl) ?_
  refine va_get (D := E.1) (ci := 10) (v := iv sn) (C := RJ3) (T := TJ3) (N := 4) hx hb hts in_J3 hown hK.1 hP 0 rfl rfl 3 (by decide) (hts _ q285) (fun _ h9 => h9) rfl dJ2_append_16 ?_
  refine lv_iload_n hx hb dJ2_append_19 rfl (lv_at hl 0 rfl) ?_
  refine n_iadd hx hb dJ2_append_20 ?_
  have b_1 := tx_l k
  refine n_csv ((va_runU (As := [iv (sn + ((TX.getD k []).length : Int))]) (rest := []) ⟨hx, hb, hml, hown, hts⟩ (mt_J2_ensureCapacityInternal l E sb sm sn sv sf (sn + ((TX.getD k []).length : Int)) (bn) (by omega) (by omega)) (n_cwP 1 hts q1440 q2537 q1442 q99 q1443 (sel_priv (hts _ q2537) (hK.pv q1441) (hts _ q1442) (hts _ q1468) rfl) rfl rfl (by decide +kernel) ⟨Nat.le_of_ble_eq_true rfl, Nat.le_of_ble_eq_true rfl⟩) (PW_V hP hK (va_recv hK.1 hP (ci := 10) (q0 := 0) rfl rfl)) rfl rfl hl.1 rfl (lv_room (Nat.le_of_ble_eq_true rfl)) dJ2_append_21 ⟨Nat.le_of_ble_eq_true rfl, Nat.le_of_ble_eq_true rfl⟩).run) ?_
  refine lv_aload_n hx hb dJ2_append_24 rfl (lv_at hl 1 rfl) ?_
  refine lv_aload_n hx hb dJ2_append_25 rfl (lv_at hl 1 rfl) ?_
  refine va_get (D := E.1) (ci := 10) (v := iv sn) (C := RJ3) (T := TJ3) (N := 4) hx hb hts in_J3 hown hK.1 hP 0 rfl rfl 3 (by decide) (hts _ q285) (fun _ h9 => h9) rfl dJ2_append_26 ?_
  refine lv_aload_n hx hb dJ2_append_29 rfl (lv_at hl 2 rfl) ?_
  refine n_cuv (va_runU (As := [iv sn, .ref (EX E (2 * k))]) (rest := []) ⟨hx, hb, hml, hown, hts⟩ (mt_J2_putStringAt l E sb sm sn sv sf sn k (bn) (by exact hk) (by omega) (by omega) _) (n_cwP 2 hts q1505 q2539 q1507 q99 q1508 (sel_priv (hts _ q2539) (hK.pv q1506) (hts _ q1507) (hts _ q1468) rfl) rfl rfl (by decide +kernel) ⟨Nat.le_of_ble_eq_true rfl, Nat.le_of_ble_eq_true rfl⟩) (UX_V hP hK (hD) hE hS (va_A_in hD hS hA) (va_recv hK.1 hP (ci := 10) (q0 := 0) rfl rfl)) rfl rfl hl.1 rfl (lv_room (Nat.le_of_ble_eq_true rfl)) dJ2_append_30 ⟨Nat.le_of_ble_eq_true rfl, Nat.le_of_ble_eq_true rfl⟩) hD hS hA (fun H locs hP hD hS => ?_)
  have hP : va_P E.1 CL (([(sb, .inr (10, [.ref sv, iv 0, iv sm, iv sn]))] : va_W) ++ ([(sv, ia (E.2 3) bn (cpD (TX.getD k []) sn sf))] : va_W)) H := hP
  have hD : va_D A (([(sb, .inr (10, [.ref sv, iv 0, iv sm, iv sn]))] : va_W) ++ ([(sv, ia (E.2 3) bn (cpD (TX.getD k []) sn sf))] : va_W)) := hD
  refine lv_aload_n hx hb dJ2_append_33 rfl (lv_at hl 1 rfl) ?_
  refine lv_dup hx hb dJ2_append_34 rfl ?_
  refine va_get (D := E.1) (ci := 10) (v := iv sn) (C := RJ3) (T := TJ3) (N := 4) hx hb hts in_J3 hown hK.1 hP 0 rfl rfl 3 (by decide) (hts _ q285) (fun _ h9 => h9) rfl dJ2_append_35 ?_
  refine lv_iload_n hx hb dJ2_append_38 rfl (lv_at hl 0 rfl) ?_
  refine n_iadd hx hb dJ2_append_39 ?_
  refine va_put (D := E.1) (ci := 10) (v := iv (sn + ((TX.getD k []).length : Int))) (ty := .int) (C := RJ3) (T := TJ3) (N := 4) hx hb hts in_J3 tyJ3 tyJ3_ok nmJ3 hown hK.1 hP hD hS 0 rfl rfl 3 (by decide) (hts _ q285) (fun _ h9 => h9) rfl (by decide +kernel) rfl rfl (Nat.le_of_ble_eq_true rfl) dJ2_append_40 (fun H locs hP hD hS => ?_)
  have hP : va_P E.1 CL (([(sb, .inr (10, [.ref sv, iv 0, iv sm, iv (sn + ((TX.getD k []).length : Int))]))] : va_W) ++ ([(sv, ia (E.2 3) bn (cpD (TX.getD k []) sn sf))] : va_W)) H := hP
  have hD : va_D A (([(sb, .inr (10, [.ref sv, iv 0, iv sm, iv (sn + ((TX.getD k []).length : Int))]))] : va_W) ++ ([(sv, ia (E.2 3) bn (cpD (TX.getD k []) sn sf))] : va_W)) := hD
  refine lv_aload_n hx hb dJ2_append_43 rfl (lv_at hl 1 rfl) ?_
  exact W.aret hx hb hr (Or.inl ⟨_, rfl⟩) (Or.inr ⟨_, rfl⟩) (fun tt_ ht_ hW_ => ⟨⟨(), rfl, trivial, by rw [ht_]; exact hP, hD⟩, hS.F ht_⟩) hS.2.2 dJ2_append_44
set_option maxHeartbeats 1000000 in
set_option maxRecDepth 100000 in
theorem mt_J3_appendT (l : Launch) (E : EE) (sb : Nat) (sm : Int) (sn : Int) (sv : Nat) (sf : Int → Int) (k : Nat) (bn : Nat) (hk : k < 32) (hln : 0 ≤ sn ∧ sn + ((TX.getD k []).length : Int) ≤ (bn : Int)) (hbn : bn ≤ 64) (sz : Nat) : Met l yJ3_append (ws_ yJ3_append cJ3_append 2 (some (.object "java/lang/StringBuilder"))) { frames := 4, cells := 0, slots := 0, locals := 87 } (va_Pc [.ref sb, .ref (EX E (2 * k))] (UX E (([(sb, .inr (10, [.ref sv, iv 0, iv sm, iv sn]))] : va_W) ++ ([(sv, ia (E.2 3) bn sf)] : va_W)) sz)) (UQxr E (fun u : Unit => True) (fun u : Unit => sb) (fun u : Unit => ([(sb, .inr (10, [.ref sv, iv 0, iv sm, iv (sn + ((TX.getD k []).length : Int))]))] : va_W) ++ ([(sv, ia (E.2 3) bn (cpD (TX.getD k []) sn sf))] : va_W)) (va_A (([(sb, .inr (10, [.ref sv, iv 0, iv sm, iv sn]))] : va_W) ++ ([(sv, ia (E.2 3) bn sf)] : va_W)) sz)) 0 0 (va_A (([(sb, .inr (10, [.ref sv, iv 0, iv sm, iv sn]))] : va_W) ++ ([(sv, ia (E.2 3) bn sf)] : va_W)) sz) := by
  refine Met.ofW (cc := cJ3_append) (maxL := 2) (ret := (some (.object "java/lang/StringBuilder"))) (by decide) rfl ?_
  intro p e s m args below meth c s₁ B hml hv
  obtain ⟨rfl, hsz, hP, hK, hD0, hE⟩ := hv
  have hx := B.exec
  have hb := B.bytes
  have hr := B.returns
  have hts := atoms_spec (ws := (ws_ yJ3_append cJ3_append 2 (some (.object "java/lang/StringBuilder")))) B.pre
  have hts : ∀ w ∈ lw_all, w.before _ s = true := fun w h => hts w (List.mem_cons_of_mem _ h)
  have hown : s.vm.findClass RJ3 = some m.cls := findClass_of_methodNamed B.named
  have hlocks := B.notSynchronized
  subst hsz
  have hD := hD0.self (sz := s.heap.size)
  generalize hAe : va_A (([(sb, .inr (10, [.ref sv, iv 0, iv sm, iv sn]))] : va_W) ++ ([(sv, ia (E.2 3) bn sf)] : va_W)) s.heap.size = A at hD hE ⊢
  have hA : ∀ q : Nat, s.heap.size ≤ q → A q := fun q h => by rw [← hAe]; exact Or.inr h
  have hS : va_S A s.heap s.heap [] := va_S.rf
  have hl := lv_entry ([.ref sb, .ref (EX E (2 * k))]) (n := 2) (Nat.le_of_ble_eq_true rfl)
  rw [lg_entry_eq]
  generalize (lg_sl ([.ref sb, .ref (EX E (2 * k))]) ++ List.replicate (2 - (lg_sl ([.ref sb, .ref (EX E (2 * k))])).length) Slot.unset).toArray = ls at hl ⊢
  have hl : lv_has ls 2 [(0, .ref sb), (1, .ref (EX E (2 * k)))] := hl
  have htl := tx_l k
  refine lv_aload_n hx hb dJ3_append_0 rfl (lv_at hl 0 rfl) ?_
  refine lv_aload_n hx hb dJ3_append_1 rfl (lv_at hl 1 rfl) ?_
  refine n_cuxrS (x := fun u_1 => sb) (w2 := fun u_1 => ([(sb, .inr (10, [.ref sv, iv 0, iv sm, iv (sn + ((TX.getD k []).length : Int))]))] : va_W) ++ ([(sv, ia (E.2 3) bn (cpD (TX.getD k []) sn sf))] : va_W)) (va_runSU (As := [.ref (EX E (2 * k))]) (rest := []) ((hK.1.1 10 _ rfl).2) ⟨hx, hb, hml, hown, hts⟩ (mt_J2_appendT l E sb sm sn sv sf k (bn) (by exact hk) (by omega) (by omega) _) (va_cwSU 1 hts (lw_SU q1433 q2535 q294 q1434 q99 q1435) rfl rfl rfl (by decide +kernel) ⟨Nat.le_of_ble_eq_true rfl, Nat.le_of_ble_eq_true rfl⟩) (UX_V hP hK (hD) hE hS (va_A_in hD hS hA) (va_recv hK.1 hP (ci := 10) (q0 := 0) rfl rfl)) rfl rfl hl.1 rfl (lv_room (Nat.le_of_ble_eq_true rfl)) dJ3_append_2 ⟨Nat.le_of_ble_eq_true rfl, Nat.le_of_ble_eq_true rfl⟩) hP hD hS hA [0, 1] [] [0, 1] rfl rfl rfl rfl rfl (fun _ => rfl) (fun u_1 H locs hu_1 hP hD hS => ?_)
  have hu_1 : True := hu_1
  have hP : va_P E.1 CL (([(sb, .inr (10, [.ref sv, iv 0, iv sm, iv (sn + ((TX.getD k []).length : Int))]))] : va_W) ++ ([(sv, ia (E.2 3) bn (cpD (TX.getD k []) sn sf))] : va_W)) H := hP
  have hD : va_D A (([(sb, .inr (10, [.ref sv, iv 0, iv sm, iv (sn + ((TX.getD k []).length : Int))]))] : va_W) ++ ([(sv, ia (E.2 3) bn (cpD (TX.getD k []) sn sf))] : va_W)) := hD
  refine lv_pop hx hb dJ3_append_5 rfl ?_
  refine lv_aload_n hx hb dJ3_append_6 rfl (lv_at hl 0 rfl) ?_
  exact W.aret hx hb hr (Or.inl ⟨_, rfl⟩) (Or.inr ⟨_, rfl⟩) (fun tt_ ht_ hW_ => ⟨⟨(), rfl, trivial, by rw [ht_]; exact hP, hD⟩, hS.F ht_⟩) hS.2.2 dJ3_append_7
set_option maxHeartbeats 4000000 in
set_option maxRecDepth 100000 in
theorem mt_J18_stringSize (l : Launch) (E : EE)  (v : Int) (hv : 0 ≤ v ∧ v < 100) : Met l yJ18_stringSize (ws_ yJ18_stringSize cJ18_stringSize 4 (some .int)) { frames := 0, cells := 0, slots := 0, locals := 0 } (va_Pc [iv v] (PW E ([]))) (NP (dgn v)) 0 0 (fun _ => False) := by
  refine Met.ofW (cc := cJ18_stringSize) (maxL := 4) (ret := (some .int)) (by decide) rfl ?_
  intro p e s m args below meth c s₁ B hml hv
  obtain ⟨rfl, hP, hK⟩ := hv
  have hx := B.exec
  have hb := B.bytes
  have hr := B.returns
  have hts := atoms_spec (ws := (ws_ yJ18_stringSize cJ18_stringSize 4 (some .int))) B.pre
  have hts : ∀ w ∈ lw_all, w.before _ s = true := fun w h => hts w (List.mem_cons_of_mem _ h)
  have hown : s.vm.findClass RJ18 = some m.cls := findClass_of_methodNamed B.named
  have hlocks := B.notSynchronized
  have hl := lv_entry ([iv v]) (n := 4) (Nat.le_of_ble_eq_true rfl)
  rw [lg_entry_eq]
  generalize (lg_sl ([iv v]) ++ List.replicate (4 - (lg_sl ([iv v])).length) Slot.unset).toArray = ls at hl ⊢
  have hl : lv_has ls 4 [(0, iv v)] := hl
  refine lv_iconst (v := iI 1) hx hb dJ18_stringSize_0 rfl ?_
  refine lv_istore_n (lv' := [(1, iv 1), (0, iv v)]) hx hb dJ18_stringSize_1 rfl hl (by decide) rfl (fun ls hl => ?_)
  refine lv_iload_n hx hb dJ18_stringSize_2 rfl (lv_at hl 1 rfl) ?_
  refine n_if_lt (tgt := 11) hx hb dJ18_stringSize_3 (by decide) (by omega) (fun c_1 => ?_) (fun c_1 => ?_)
  · exfalso; omega
  · refine lv_iconst (v := iI 0) hx hb dJ18_stringSize_6 rfl ?_
    refine lv_istore_n (lv' := [(1, iv 0), (0, iv v)]) hx hb dJ18_stringSize_7 rfl hl (by decide) rfl (fun ls hl => ?_)
    refine lv_iload_n hx hb dJ18_stringSize_8 rfl (lv_at hl 1 rfl) ?_
    refine n_ineg hx hb dJ18_stringSize_9 ?_
    refine lv_istore_n (lv' := [(0, iv (-v)), (1, iv 0)]) hx hb dJ18_stringSize_10 rfl hl (by decide) rfl (fun ls hl => ?_)
    refine lv_bipush (v := iI (-10)) hx hb dJ18_stringSize_11 (by decide) ?_
    refine lv_istore_n (lv' := [(2, iv (-10)), (0, iv (-v)), (1, iv 0)]) hx hb dJ18_stringSize_13 rfl hl (by decide) rfl (fun ls hl => ?_)
    refine lv_iconst (v := iI 1) hx hb dJ18_stringSize_14 rfl ?_
    refine lv_istore_n (lv' := [(3, iv 1), (2, iv (-10)), (0, iv (-v)), (1, iv 0)]) hx hb dJ18_stringSize_15 rfl hl (by decide) rfl (fun ls hl => ?_)
    have l16 : ∀ (fu : Nat) (p2 : Int) (i3 : Int), ((i3 = 1 ∧ p2 = -10) ∨ (i3 = 2 ∧ p2 = -100 ∧ 10 ≤ v)) → (3 - i3 < (fu : Int)) → ∀ ls : Array Slot, lv_has ls 4 [(3, iv i3), (2, iv p2), (0, iv (-v)), (1, iv 0)] → W p l e (headSpec (ws_ yJ18_stringSize cJ18_stringSize 4 (some .int)) { frames := 0, cells := 0, slots := 0, locals := 0 }).room s m ([iv v] : List Value).toArray below meth c s.heap [] 0 0 (MQ below (NP (dgn v)) ([iv v] : List Value).toArray s 0 0 (fun _ => False)) (F0 m 16 ls []) := by
      intro fu
      induction fu with
      | zero =>
        intro p2 i3 il16_0 hm
        exfalso; omega
      | succ fu ih =>
        intro p2 i3 il16_0 hm ls hl
        have ihl16 := ih
        refine lv_iload_n hx hb dJ18_stringSize_16 rfl (lv_at hl 0 rfl) ?_
        refine lv_bipush (v := iI 10) hx hb dJ18_stringSize_17 (by decide) ?_
        refine n_icmp_ge (tgt := 42) hx hb dJ18_stringSize_19 (by decide) (by omega) (by omega) (fun c_2 => ?_) (fun c_2 => ?_)
        · exfalso; omega
        · refine lv_iload_n hx hb dJ18_stringSize_22 rfl (lv_at hl 2 rfl) ?_
          refine lv_iload_n hx hb dJ18_stringSize_23 rfl (lv_at hl 1 rfl) ?_
          refine n_icmp_le (tgt := 31) hx hb dJ18_stringSize_24 (by decide) (by omega) (by omega) (fun c_3 => ?_) (fun c_3 => ?_)
          · refine lv_bipush (v := iI 10) hx hb dJ18_stringSize_31 (by decide) ?_
            refine lv_iload_n hx hb dJ18_stringSize_33 rfl (lv_at hl 1 rfl) ?_
            refine n_imul hx hb dJ18_stringSize_34 ?_
            refine lv_istore_n (lv' := [(2, iv (10 * p2)), (3, iv i3), (0, iv (-v)), (1, iv 0)]) hx hb dJ18_stringSize_35 rfl hl (by decide) rfl (fun ls hl => ?_)
            refine lv_iinc (v := iI (i3 + 1)) (lv' := [(3, iv (i3 + 1)), (2, iv (10 * p2)), (0, iv (-v)), (1, iv 0)]) hx hb dJ18_stringSize_36 hl (k := 1) rfl (iI_add _ _) (by decide) rfl (fun ls hl => ?_)
            refine lv_goto (tgt := 16) hx hb dJ18_stringSize_39 (by decide) ?_
            exact ihl16 (10 * p2) (i3 + 1) (by omega) (by omega) ls (lv_sub hl [0, 1, 2, 3] rfl)
          · refine lv_iload_n hx hb dJ18_stringSize_27 rfl (lv_at hl 0 rfl) ?_
            refine lv_iload_n hx hb dJ18_stringSize_28 rfl (lv_at hl 3 rfl) ?_
            refine n_iadd hx hb dJ18_stringSize_29 ?_
            have hfin : i3 + 0 = dgn v := by
              rcases il16_0 with h9 | h9
              · rw [dgn_1 (by omega)]; omega
              · rw [dgn_2 (by omega)]; omega
            exact W.iret (v := iI (i3 + 0)) hx hb hr (fun tt_ ht_ hW_ => ⟨iI (i3 + 0), rfl, (congrArg iI hfin), ht_⟩) (fun q h => by cases h) dJ18_stringSize_30
    exact l16 3 (-10) 1 (by first | omega | rfl | trivial) (by omega) ls hl
set_option maxHeartbeats 1000000 in
set_option maxRecDepth 100000 in
theorem mt_J18_getChars (l : Launch) (E : EE) (gb : Nat) (gf : Int → Int) (v : Int) (i : Int) (bn : Nat) (hv : 0 ≤ v ∧ v < 100) (hi : dgn v ≤ i ∧ i ≤ (bn : Int)) (hbn : bn ≤ 64) (sz : Nat) : Met l yJ18_getChars (ws_ yJ18_getChars cJ18_getChars 7 (some .int)) { frames := 0, cells := 0, slots := 0, locals := 0 } (va_Pc [iv v, iv i, .ref gb] (UX E ([(gb, ia (E.2 3) bn gf)]) sz)) (UQi E (i - dgn v) ([(gb, ia (E.2 3) bn (dgF v i gf))]) (va_A ([(gb, ia (E.2 3) bn gf)]) sz)) 0 0 (va_A ([(gb, ia (E.2 3) bn gf)]) sz) := by
  refine Met.ofW (cc := cJ18_getChars) (maxL := 7) (ret := (some .int)) (by decide) rfl ?_
  intro p e s m args below meth c s₁ B hml hv
  obtain ⟨rfl, hsz, hP, hK, hD0, hE⟩ := hv
  have hx := B.exec
  have hb := B.bytes
  have hr := B.returns
  have hts := atoms_spec (ws := (ws_ yJ18_getChars cJ18_getChars 7 (some .int))) B.pre
  have hts : ∀ w ∈ lw_all, w.before _ s = true := fun w h => hts w (List.mem_cons_of_mem _ h)
  have hown : s.vm.findClass RJ18 = some m.cls := findClass_of_methodNamed B.named
  have hlocks := B.notSynchronized
  subst hsz
  have hD := hD0.self (sz := s.heap.size)
  generalize hAe : va_A ([(gb, ia (E.2 3) bn gf)]) s.heap.size = A at hD hE ⊢
  have hA : ∀ q : Nat, s.heap.size ≤ q → A q := fun q h => by rw [← hAe]; exact Or.inr h
  have hS : va_S A s.heap s.heap [] := va_S.rf
  have hl := lv_entry ([iv v, iv i, .ref gb]) (n := 7) (Nat.le_of_ble_eq_true rfl)
  rw [lg_entry_eq]
  generalize (lg_sl ([iv v, iv i, .ref gb]) ++ List.replicate (7 - (lg_sl ([iv v, iv i, .ref gb])).length) Slot.unset).toArray = ls at hl ⊢
  have hl : lv_has ls 7 [(0, iv v), (1, iv i), (2, .ref gb)] := hl
  have hdr := dgn_r v
  refine lv_iload_n hx hb dJ18_getChars_0 rfl (lv_at hl 1 rfl) ?_
  refine lv_istore (lv' := [(5, iv i), (0, iv v), (1, iv i), (2, .ref gb)]) hx hb dJ18_getChars_1 hl (by decide) rfl (fun ls hl => ?_)
  refine lv_iload_n hx hb dJ18_getChars_3 rfl (lv_at hl 1 rfl) ?_
  refine n_if_ge (tgt := 11) hx hb dJ18_getChars_4 (by decide) (by omega) (fun c_1 => ?_) (fun c_1 => ?_)
  · refine lv_iconst (v := iI 0) hx hb dJ18_getChars_11 rfl ?_
    refine lv_istore (lv' := [(6, iv 0), (5, iv i), (0, iv v), (1, iv i), (2, .ref gb)]) hx hb dJ18_getChars_12 hl (by decide) rfl (fun ls hl => ?_)
    refine lv_iload hx hb dJ18_getChars_14 (lv_at hl 0 rfl) ?_
    refine n_if_ne (tgt := 22) hx hb dJ18_getChars_16 (by decide) (by omega) (fun c_2 => absurd c_2 (by decide)) (fun _ => ?_)
    refine lv_iload_n hx hb dJ18_getChars_19 rfl (lv_at hl 2 rfl) ?_
    refine n_ineg hx hb dJ18_getChars_20 ?_
    refine lv_istore_n (lv' := [(0, iv (-v)), (6, iv 0), (5, iv i), (1, iv i), (2, .ref gb)]) hx hb dJ18_getChars_21 rfl hl (by decide) rfl (fun ls hl => ?_)
    refine lv_iload_n hx hb dJ18_getChars_22 rfl (lv_at hl 0 rfl) ?_
    refine lv_bipush (v := iI (-100)) hx hb dJ18_getChars_23 (by decide) ?_
    refine n_icmp_gt (tgt := 72) hx hb dJ18_getChars_25 (by decide) (by omega) (by omega) (fun c_3 => ?_) (fun c_3 => ?_)
    · refine lv_aload_n hx hb dJ18_getChars_72 rfl (lv_at hl 4 rfl) ?_
      refine lv_iinc (v := iI (i + (-1))) (lv' := [(5, iv (i + (-1))), (0, iv (-v)), (6, iv 0), (1, iv i), (2, .ref gb)]) hx hb dJ18_getChars_73 hl (k := 2) rfl (iI_add _ _) (by decide) rfl (fun ls hl => ?_)
      refine lv_iload hx hb dJ18_getChars_76 (lv_at hl 0 rfl) ?_
      refine va_gets (v := .ref (EX E 75)) hx hb hE.d1 hS hown (hts _ q1552) (fun _ h9 => h9) dJ18_getChars_78 ?_
      refine lv_iload_n hx hb dJ18_getChars_81 rfl (lv_at hl 1 rfl) ?_
      refine n_ineg hx hb dJ18_getChars_82 ?_
      refine n_top (y := v) (by omega) ?_
      refine va_tb (v := iv (48 + v % 10)) hx hb hE.t1 hS (iI_in (n := 100) (by omega) (by omega)) (by rw [iI_cln (by omega) (by omega)]; exact congrArg iv (by omega)) dJ18_getChars_83 ?_
      refine n_bast (f := gf) hx hb hK.1 hP hD hS 0 3 rfl rfl (by omega) (by omega) (by omega) dJ18_getChars_84 (ws2 := [(gb, ia (E.2 3) bn (ui gf (i + (-1)) (48 + v % 10)))]) rfl (fun H locs hP hD hS => ?_)
      refine lv_iload_n hx hb dJ18_getChars_85 rfl (lv_at hl 1 rfl) ?_
      refine lv_bipush (v := iI (-9)) hx hb dJ18_getChars_86 (by decide) ?_
      refine n_icmp_ge (tgt := 104) hx hb dJ18_getChars_88 (by decide) (by omega) (by omega) (fun c_4 => ?_) (fun c_4 => ?_)
      · refine lv_iload hx hb dJ18_getChars_104 (lv_at hl 2 rfl) ?_
        refine n_if_eq (tgt := 118) hx hb dJ18_getChars_106 (by decide) (by omega) (fun _ => ?_) (fun c_5 => absurd c_5 (by decide))
        refine lv_iload hx hb dJ18_getChars_118 (lv_at hl 0 rfl) ?_
        have hfin : i + (-1) = i - dgn v := by
          first | (rw [dgn_1 (by omega)]; omega) | (rw [dgn_2 (by omega)]; omega)
        have w_6 : ui gf (i + (-1)) (48 + v % 10) = dgF v i gf := by
          unfold dgF
          first | (rw [if_pos (by omega)]; done) | (rw [if_neg (by omega)]; done)
        rw [show [(gb, ia (E.2 3) bn (ui gf (i + (-1)) (48 + v % 10)))] = [(gb, ia (E.2 3) bn (dgF v i gf))] from congrArg (fun z0 : Int → Int => [(gb, ia (E.2 3) bn z0)]) w_6] at hP hD
        exact W.iret (v := iI (i + (-1))) hx hb hr (fun tt_ ht_ hW_ => ⟨⟨iI (i + (-1)), (), rfl, (congrArg iI hfin), by rw [ht_]; exact hP, hD⟩, hS.F ht_⟩) hS.2.2 dJ18_getChars_120
      · have hd2 := dgn_2 (v := v) (by omega)
        refine lv_aload_n hx hb dJ18_getChars_91 rfl (lv_at hl 4 rfl) ?_
        refine lv_iinc (v := iI ((i + (-1)) + (-1))) (lv' := [(5, iv ((i + (-1)) + (-1))), (0, iv (-v)), (6, iv 0), (1, iv i), (2, .ref gb)]) hx hb dJ18_getChars_92 hl (k := 0) rfl (iI_add _ _) (by decide) rfl (fun ls hl => ?_)
        refine lv_iload hx hb dJ18_getChars_95 (lv_at hl 0 rfl) ?_
        refine va_gets (v := .ref (EX E 76)) hx hb hE.d2 hS hown (hts _ q1554) (fun _ h9 => h9) dJ18_getChars_97 ?_
        refine lv_iload_n hx hb dJ18_getChars_100 rfl (lv_at hl 1 rfl) ?_
        refine n_ineg hx hb dJ18_getChars_101 ?_
        refine n_top (y := v) (by omega) ?_
        refine va_tb (v := iv (48 + v / 10)) hx hb hE.t2 hS (iI_in (n := 100) (by omega) (by omega)) (by rw [iI_cln (by omega) (by omega)]; exact congrArg iv (by omega)) dJ18_getChars_102 ?_
        refine n_bast (f := ui gf (i + (-1)) (48 + v % 10)) hx hb hK.1 hP hD hS 0 3 rfl rfl (by omega) (by omega) (by omega) dJ18_getChars_103 (ws2 := [(gb, ia (E.2 3) bn (ui (ui gf (i + (-1)) (48 + v % 10)) ((i + (-1)) + (-1)) (48 + v / 10)))]) rfl (fun H locs hP hD hS => ?_)
        refine lv_iload hx hb dJ18_getChars_104 (lv_at hl 2 rfl) ?_
        refine n_if_eq (tgt := 118) hx hb dJ18_getChars_106 (by decide) (by omega) (fun _ => ?_) (fun c_7 => absurd c_7 (by decide))
        refine lv_iload hx hb dJ18_getChars_118 (lv_at hl 0 rfl) ?_
        have hfin : (i + (-1)) + (-1) = i - dgn v := by
          first | (rw [dgn_1 (by omega)]; omega) | (rw [dgn_2 (by omega)]; omega)
        have w_8 : ui (ui gf (i + (-1)) (48 + v % 10)) ((i + (-1)) + (-1)) (48 + v / 10) = dgF v i gf := by
          unfold dgF
          first | (rw [if_pos (by omega)]; done) | (rw [if_neg (by omega)]; done)
        rw [show [(gb, ia (E.2 3) bn (ui (ui gf (i + (-1)) (48 + v % 10)) ((i + (-1)) + (-1)) (48 + v / 10)))] = [(gb, ia (E.2 3) bn (dgF v i gf))] from congrArg (fun z0 : Int → Int => [(gb, ia (E.2 3) bn z0)]) w_8] at hP hD
        exact W.iret (v := iI ((i + (-1)) + (-1))) hx hb hr (fun tt_ ht_ hW_ => ⟨⟨iI ((i + (-1)) + (-1)), (), rfl, (congrArg iI hfin), by rw [ht_]; exact hP, hD⟩, hS.F ht_⟩) hS.2.2 dJ18_getChars_120
    · exfalso; omega
  · exfalso; omega
set_option maxHeartbeats 1000000 in
set_option maxRecDepth 100000 in
theorem mt_J2_appendI (l : Launch) (E : EE) (sb : Nat) (sm : Int) (sn : Int) (sv : Nat) (sf : Int → Int) (v : Int) (bn : Nat) (hv : 0 ≤ v ∧ v < 100) (hsn : 0 ≤ sn ∧ sn + dgn v ≤ (bn : Int)) (hbn : bn ≤ 64) (sz : Nat) : Met l yJ2_append_2 (ws_ yJ2_append_2 cJ2_append_2 4 (some (.object "java/lang/AbstractStringBuilder"))) { frames := 1, cells := 0, slots := 0, locals := 26 } (va_Pc [.ref sb, iv v] (UX E (([(sb, .inr (10, [.ref sv, iv 0, iv sm, iv sn]))] : va_W) ++ ([(sv, ia (E.2 3) bn sf)] : va_W)) sz)) (UQxr E (fun u : Unit => True) (fun u : Unit => sb) (fun u : Unit => ([(sb, .inr (10, [.ref sv, iv 0, iv sm, iv (sn + (dgn v))]))] : va_W) ++ ([(sv, ia (E.2 3) bn (dgF v (sn + (dgn v)) sf))] : va_W)) (va_A (([(sb, .inr (10, [.ref sv, iv 0, iv sm, iv sn]))] : va_W) ++ ([(sv, ia (E.2 3) bn sf)] : va_W)) sz)) 0 0 (va_A (([(sb, .inr (10, [.ref sv, iv 0, iv sm, iv sn]))] : va_W) ++ ([(sv, ia (E.2 3) bn sf)] : va_W)) sz) := by
  refine Met.ofW (cc := cJ2_append_2) (maxL := 4) (ret := (some (.object "java/lang/AbstractStringBuilder"))) (by decide) rfl ?_
  intro p e s m args below meth c s₁ B hml hv
  obtain ⟨rfl, hsz, hP, hK, hD0, hE⟩ := hv
  have hx := B.exec
  have hb := B.bytes
  have hr := B.returns
  have hts := atoms_spec (ws := (ws_ yJ2_append_2 cJ2_append_2 4 (some (.object "java/lang/AbstractStringBuilder")))) B.pre
  have hts : ∀ w ∈ lw_all, w.before _ s = true := fun w h => hts w (List.mem_cons_of_mem _ h)
  have hown : s.vm.findClass RJ2 = some m.cls := findClass_of_methodNamed B.named
  have hlocks := B.notSynchronized
  subst hsz
  have hD := hD0.self (sz := s.heap.size)
  generalize hAe : va_A (([(sb, .inr (10, [.ref sv, iv 0, iv sm, iv sn]))] : va_W) ++ ([(sv, ia (E.2 3) bn sf)] : va_W)) s.heap.size = A at hD hE ⊢
  have hA : ∀ q : Nat, s.heap.size ≤ q → A q := fun q h => by rw [← hAe]; exact Or.inr h
  have hS : va_S A s.heap s.heap [] := va_S.rf
  have hl := lv_entry ([.ref sb, iv v]) (n := 4) (Nat.le_of_ble_eq_true rfl)
  rw [lg_entry_eq]
  generalize (lg_sl ([.ref sb, iv v]) ++ List.replicate (4 - (lg_sl ([.ref sb, iv v])).length) Slot.unset).toArray = ls at hl ⊢
  have hl : lv_has ls 4 [(0, .ref sb), (1, iv v)] := hl
  have hdr := dgn_r v
  refine lv_aload_n hx hb dJ2_append_2_0 rfl (lv_at hl 0 rfl) ?_
  refine va_get (D := E.1) (ci := 10) (v := iv sn) (C := RJ3) (T := TJ3) (N := 4) hx hb hts in_J3 hown hK.1 hP 0 rfl rfl 3 (by decide) (hts _ q285) (fun _ h9 => h9) rfl dJ2_append_2_1 ?_
  refine lv_istore_n (lv' := [(2, iv sn), (0, .ref sb), (1, iv v)]) hx hb dJ2_append_2_4 rfl hl (by decide) rfl (fun ls hl => ?_)
  refine lv_iload_n hx hb dJ2_append_2_5 rfl (lv_at hl 0 rfl) ?_
  refine lv_iload_n hx hb dJ2_append_2_6 rfl (lv_at hl 2 rfl) ?_
  refine n_csi (x := dgn v) (va_runS (As := [iv v]) (rest := [iv sn]) ⟨hx, hb, hml, hown, hts⟩ (mt_J18_stringSize l E v (by omega)) (va_cwS 1 hts (lw_S q1546 q1547 q119 q1548) rfl rfl rfl (by decide +kernel) ⟨Nat.le_of_ble_eq_true rfl, Nat.le_of_ble_eq_true rfl⟩) (PW_S (hP.sub (ws' := []) [] rfl) hK) rfl rfl hl.1 rfl (lv_room (Nat.le_of_ble_eq_true rfl)) dJ2_append_2_7 ⟨Nat.le_of_ble_eq_true rfl, Nat.le_of_ble_eq_true rfl⟩) ?_
  refine n_iadd hx hb dJ2_append_2_10 ?_
  refine lv_istore_n (lv' := [(3, iv (sn + (dgn v))), (2, iv sn), (0, .ref sb), (1, iv v)]) hx hb dJ2_append_2_11 rfl hl (by decide) rfl (fun ls hl => ?_)
  refine lv_aload_n hx hb dJ2_append_2_12 rfl (lv_at hl 2 rfl) ?_
  refine lv_iload_n hx hb dJ2_append_2_13 rfl (lv_at hl 0 rfl) ?_
  have b_1 := dgn_r v
  refine n_csv ((va_runU (As := [iv (sn + (dgn v))]) (rest := []) ⟨hx, hb, hml, hown, hts⟩ (mt_J2_ensureCapacityInternal l E sb sm sn sv sf (sn + (dgn v)) (bn) (by omega) (by omega)) (n_cwP 1 hts q1440 q2537 q1442 q99 q1443 (sel_priv (hts _ q2537) (hK.pv q1441) (hts _ q1442) (hts _ q1468) rfl) rfl rfl (by decide +kernel) ⟨Nat.le_of_ble_eq_true rfl, Nat.le_of_ble_eq_true rfl⟩) (PW_V hP hK (va_recv hK.1 hP (ci := 10) (q0 := 0) rfl rfl)) rfl rfl hl.1 rfl (lv_room (Nat.le_of_ble_eq_true rfl)) dJ2_append_2_14 ⟨Nat.le_of_ble_eq_true rfl, Nat.le_of_ble_eq_true rfl⟩).run) ?_
  refine lv_aload_n hx hb dJ2_append_2_17 rfl (lv_at hl 2 rfl) ?_
  refine n_csi (x := 1) (va_runU (As := []) (rest := []) ⟨hx, hb, hml, hown, hts⟩ (mt_J2_isLatin1 l E sb sv sm sn ) (n_cwP 0 hts q1465 q1467 q1466 q99 q1469 (hts _ q1468) rfl rfl (by decide +kernel) ⟨Nat.le_of_ble_eq_true rfl, Nat.le_of_ble_eq_true rfl⟩) (PX_V (hP.sub (ws' := [(sb, .inr (10, [.ref sv, iv 0, iv sm, iv sn]))]) [0] rfl) hK hE hS (va_recv hK.1 hP (ci := 10) (q0 := 0) rfl rfl)) rfl rfl hl.1 rfl (lv_room (Nat.le_of_ble_eq_true rfl)) dJ2_append_2_18 ⟨Nat.le_of_ble_eq_true rfl, Nat.le_of_ble_eq_true rfl⟩) ?_
  refine n_if_eq (tgt := 37) hx hb dJ2_append_2_21 (by decide) (by omega) (fun c_2 => absurd c_2 (by decide)) (fun _ => ?_)
  refine lv_iload_n hx hb dJ2_append_2_24 rfl (lv_at hl 3 rfl) ?_
  refine lv_iload_n hx hb dJ2_append_2_25 rfl (lv_at hl 0 rfl) ?_
  refine lv_aload_n hx hb dJ2_append_2_26 rfl (lv_at hl 2 rfl) ?_
  refine va_get (D := E.1) (ci := 10) (v := .ref sv) (C := RJ3) (T := TJ3) (N := 4) hx hb hts in_J3 hown hK.1 hP 0 rfl rfl 0 (by decide) (hts _ q281) (fun _ h9 => h9) rfl dJ2_append_2_27 ?_
  refine n_cuiS (x := (sn + (dgn v)) - dgn v) (w2 := ([(sb, .inr (10, [.ref sv, iv 0, iv sm, iv sn]))] : va_W) ++ ([(sv, ia (E.2 3) bn (dgF v (sn + (dgn v)) sf))] : va_W)) (va_runS (As := [iv v, iv (sn + (dgn v)), .ref sv]) (rest := []) ⟨hx, hb, hml, hown, hts⟩ (mt_J18_getChars l E sv sf v (sn + (dgn v)) (bn) (by omega) (by omega) (by omega) _) (va_cwS 3 hts (lw_S q1549 q1550 q119 q1551) rfl rfl rfl (by decide +kernel) ⟨Nat.le_of_ble_eq_true rfl, Nat.le_of_ble_eq_true rfl⟩) (UX_S (hP.sub (ws' := [(sv, ia (E.2 3) bn sf)]) [1] rfl) hK (hD.sub (ws' := [(sv, ia (E.2 3) bn sf)]) [1] rfl rfl) hE hS (va_sub_free hD hS hA [1] rfl)) rfl rfl hl.1 rfl (lv_room (Nat.le_of_ble_eq_true rfl)) dJ2_append_2_30 ⟨Nat.le_of_ble_eq_true rfl, Nat.le_of_ble_eq_true rfl⟩) hP hD hS hA [1] [0] [0, 1] rfl rfl rfl rfl rfl rfl (fun H locs hP hD hS => ?_)
  have hP : va_P E.1 CL (([(sb, .inr (10, [.ref sv, iv 0, iv sm, iv sn]))] : va_W) ++ ([(sv, ia (E.2 3) bn (dgF v (sn + (dgn v)) sf))] : va_W)) H := hP
  have hD : va_D A (([(sb, .inr (10, [.ref sv, iv 0, iv sm, iv sn]))] : va_W) ++ ([(sv, ia (E.2 3) bn (dgF v (sn + (dgn v)) sf))] : va_W)) := hD
  refine lv_pop hx hb dJ2_append_2_33 rfl ?_
  refine lv_goto (tgt := 48) hx hb dJ2_append_2_34 (by decide) ?_
  refine lv_aload_n hx hb dJ2_append_2_48 rfl (lv_at hl 2 rfl) ?_
  refine lv_iload_n hx hb dJ2_append_2_49 rfl (lv_at hl 0 rfl) ?_
  refine va_put (D := E.1) (ci := 10) (v := iv (sn + (dgn v))) (ty := .int) (C := RJ3) (T := TJ3) (N := 4) hx hb hts in_J3 tyJ3 tyJ3_ok nmJ3 hown hK.1 hP hD hS 0 rfl rfl 3 (by decide) (hts _ q285) (fun _ h9 => h9) rfl (by decide +kernel) rfl rfl (Nat.le_of_ble_eq_true rfl) dJ2_append_2_50 (fun H locs hP hD hS => ?_)
  have hP : va_P E.1 CL (([(sb, .inr (10, [.ref sv, iv 0, iv sm, iv (sn + (dgn v))]))] : va_W) ++ ([(sv, ia (E.2 3) bn (dgF v (sn + (dgn v)) sf))] : va_W)) H := hP
  have hD : va_D A (([(sb, .inr (10, [.ref sv, iv 0, iv sm, iv (sn + (dgn v))]))] : va_W) ++ ([(sv, ia (E.2 3) bn (dgF v (sn + (dgn v)) sf))] : va_W)) := hD
  refine lv_aload_n hx hb dJ2_append_2_53 rfl (lv_at hl 2 rfl) ?_
  exact W.aret hx hb hr (Or.inl ⟨_, rfl⟩) (Or.inr ⟨_, rfl⟩) (fun tt_ ht_ hW_ => ⟨⟨(), rfl, trivial, by rw [ht_]; exact hP, hD⟩, hS.F ht_⟩) hS.2.2 dJ2_append_2_54
set_option maxHeartbeats 1000000 in
set_option maxRecDepth 100000 in
theorem mt_J3_appendI (l : Launch) (E : EE) (sb : Nat) (sm : Int) (sn : Int) (sv : Nat) (sf : Int → Int) (v : Int) (bn : Nat) (hv : 0 ≤ v ∧ v < 100) (hsn : 0 ≤ sn ∧ sn + dgn v ≤ (bn : Int)) (hbn : bn ≤ 64) (sz : Nat) : Met l yJ3_append_2 (ws_ yJ3_append_2 cJ3_append_2 2 (some (.object "java/lang/StringBuilder"))) { frames := 2, cells := 0, slots := 0, locals := 49 } (va_Pc [.ref sb, iv v] (UX E (([(sb, .inr (10, [.ref sv, iv 0, iv sm, iv sn]))] : va_W) ++ ([(sv, ia (E.2 3) bn sf)] : va_W)) sz)) (UQxr E (fun u : Unit => True) (fun u : Unit => sb) (fun u : Unit => ([(sb, .inr (10, [.ref sv, iv 0, iv sm, iv (sn + (dgn v))]))] : va_W) ++ ([(sv, ia (E.2 3) bn (dgF v (sn + (dgn v)) sf))] : va_W)) (va_A (([(sb, .inr (10, [.ref sv, iv 0, iv sm, iv sn]))] : va_W) ++ ([(sv, ia (E.2 3) bn sf)] : va_W)) sz)) 0 0 (va_A (([(sb, .inr (10, [.ref sv, iv 0, iv sm, iv sn]))] : va_W) ++ ([(sv, ia (E.2 3) bn sf)] : va_W)) sz) := by
  refine Met.ofW (cc := cJ3_append_2) (maxL := 2) (ret := (some (.object "java/lang/StringBuilder"))) (by decide) rfl ?_
  intro p e s m args below meth c s₁ B hml hv
  obtain ⟨rfl, hsz, hP, hK, hD0, hE⟩ := hv
  have hx := B.exec
  have hb := B.bytes
  have hr := B.returns
  have hts := atoms_spec (ws := (ws_ yJ3_append_2 cJ3_append_2 2 (some (.object "java/lang/StringBuilder")))) B.pre
  have hts : ∀ w ∈ lw_all, w.before _ s = true := fun w h => hts w (List.mem_cons_of_mem _ h)
  have hown : s.vm.findClass RJ3 = some m.cls := findClass_of_methodNamed B.named
  have hlocks := B.notSynchronized
  subst hsz
  have hD := hD0.self (sz := s.heap.size)
  generalize hAe : va_A (([(sb, .inr (10, [.ref sv, iv 0, iv sm, iv sn]))] : va_W) ++ ([(sv, ia (E.2 3) bn sf)] : va_W)) s.heap.size = A at hD hE ⊢
  have hA : ∀ q : Nat, s.heap.size ≤ q → A q := fun q h => by rw [← hAe]; exact Or.inr h
  have hS : va_S A s.heap s.heap [] := va_S.rf
  have hl := lv_entry ([.ref sb, iv v]) (n := 2) (Nat.le_of_ble_eq_true rfl)
  rw [lg_entry_eq]
  generalize (lg_sl ([.ref sb, iv v]) ++ List.replicate (2 - (lg_sl ([.ref sb, iv v])).length) Slot.unset).toArray = ls at hl ⊢
  have hl : lv_has ls 2 [(0, .ref sb), (1, iv v)] := hl
  have hdr := dgn_r v
  refine lv_aload_n hx hb dJ3_append_2_0 rfl (lv_at hl 0 rfl) ?_
  refine lv_iload_n hx hb dJ3_append_2_1 rfl (lv_at hl 1 rfl) ?_
  refine n_cuxrS (x := fun u_1 => sb) (w2 := fun u_1 => ([(sb, .inr (10, [.ref sv, iv 0, iv sm, iv (sn + (dgn v))]))] : va_W) ++ ([(sv, ia (E.2 3) bn (dgF v (sn + (dgn v)) sf))] : va_W)) (va_runSU (As := [iv v]) (rest := []) ((hK.1.1 10 _ rfl).2) ⟨hx, hb, hml, hown, hts⟩ (mt_J2_appendI l E sb sm sn sv sf v (bn) (by omega) (by have h9 := dgn_r v; first | omega | ((try simp only [lenI]); omega)) (by omega) _) (va_cwSU 1 hts (lw_SU q1543 q2542 q294 q1544 q99 q1545) rfl rfl rfl (by decide +kernel) ⟨Nat.le_of_ble_eq_true rfl, Nat.le_of_ble_eq_true rfl⟩) (UX_V hP hK (hD) hE hS (va_A_in hD hS hA) (va_recv hK.1 hP (ci := 10) (q0 := 0) rfl rfl)) rfl rfl hl.1 rfl (lv_room (Nat.le_of_ble_eq_true rfl)) dJ3_append_2_2 ⟨Nat.le_of_ble_eq_true rfl, Nat.le_of_ble_eq_true rfl⟩) hP hD hS hA [0, 1] [] [0, 1] rfl rfl rfl rfl rfl (fun _ => rfl) (fun u_1 H locs hu_1 hP hD hS => ?_)
  have hu_1 : True := hu_1
  have hP : va_P E.1 CL (([(sb, .inr (10, [.ref sv, iv 0, iv sm, iv (sn + (dgn v))]))] : va_W) ++ ([(sv, ia (E.2 3) bn (dgF v (sn + (dgn v)) sf))] : va_W)) H := hP
  have hD : va_D A (([(sb, .inr (10, [.ref sv, iv 0, iv sm, iv (sn + (dgn v))]))] : va_W) ++ ([(sv, ia (E.2 3) bn (dgF v (sn + (dgn v)) sf))] : va_W)) := hD
  refine lv_pop hx hb dJ3_append_2_5 rfl ?_
  refine lv_aload_n hx hb dJ3_append_2_6 rfl (lv_at hl 0 rfl) ?_
  exact W.aret hx hb hr (Or.inl ⟨_, rfl⟩) (Or.inr ⟨_, rfl⟩) (fun tt_ ht_ hW_ => ⟨⟨(), rfl, trivial, by rw [ht_]; exact hP, hD⟩, hS.F ht_⟩) hS.2.2 dJ3_append_2_7
