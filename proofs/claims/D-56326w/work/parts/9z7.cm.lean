set_option maxHeartbeats 1000000 in
set_option maxRecDepth 100000 in
theorem mt_J12_copyOf_3 (l : Launch) (E : EE) (gb : Nat) (gf : Int → Int) (hb7 : B7 gf) (sz : Nat) : Met l yJ12_copyOf_3 (ws_ yJ12_copyOf_3 cJ12_copyOf_3 3 (some (.array .byte))) { frames := 1, cells := 1, slots := 34, locals := 20 } (va_Pc [.ref gb, iv 34] (UW E ([(gb, ia (E.2 3) 16 gf)]) sz)) (UQxr E (fun u : Nat => True) (fun u : Nat => u) (fun u : Nat => ([(gb, ia (E.2 3) 16 gf)] : va_W) ++ ([(u, ia (E.2 3) 34 (cp0 gf (fun _ => 0) 16))] : va_W)) (va_A ([(gb, ia (E.2 3) 16 gf)]) sz)) 1 34 (va_A ([(gb, ia (E.2 3) 16 gf)]) sz) := by
  refine Met.ofW (cc := cJ12_copyOf_3) (maxL := 3) (ret := (some (.array .byte))) (by decide) rfl ?_
  intro p e s m args below meth c s₁ B hml hv
  obtain ⟨rfl, hsz, hP, hK, hD0⟩ := hv
  have hx := B.exec
  have hb := B.bytes
  have hr := B.returns
  have hts := atoms_spec (ws := (ws_ yJ12_copyOf_3 cJ12_copyOf_3 3 (some (.array .byte)))) B.pre
  have hts : ∀ w ∈ lw_all, w.before _ s = true := fun w h => hts w (List.mem_cons_of_mem _ h)
  have hown : s.vm.findClass RJ12 = some m.cls := findClass_of_methodNamed B.named
  have hlocks := B.notSynchronized
  subst hsz
  have hD := hD0.self (sz := s.heap.size)
  generalize hAe : va_A ([(gb, ia (E.2 3) 16 gf)]) s.heap.size = A at hD ⊢
  have hA : ∀ q : Nat, s.heap.size ≤ q → A q := fun q h => by rw [← hAe]; exact Or.inr h
  have hS : va_S A s.heap s.heap [] := va_S.rf
  have hl := lv_entry ([.ref gb, iv 34]) (n := 3) (Nat.le_of_ble_eq_true rfl)
  rw [lg_entry_eq]
  generalize (lg_sl ([.ref gb, iv 34]) ++ List.replicate (3 - (lg_sl ([.ref gb, iv 34])).length) Slot.unset).toArray = ls at hl ⊢
  have hl : lv_has ls 3 [(0, .ref gb), (1, iv 34)] := hl
  refine lv_iload_n hx hb dJ12_copyOf_3_0 rfl (lv_at hl 1 rfl) ?_
  refine lv_aload_n hx hb dJ12_copyOf_3_1 rfl (lv_at hl 0 rfl) ?_
  refine va_alen (v := iI 16) hx hb hK.1 hP 0 3 rfl rfl rfl dJ12_copyOf_3_2 ?_
  refine n_icmp_ne (tgt := 14) hx hb dJ12_copyOf_3_3 (by decide) (by omega) (by omega) (fun _ => ?_) (fun c_1 => absurd c_1 (by decide))
  refine lv_iload_n hx hb dJ12_copyOf_3_14 rfl (lv_at hl 1 rfl) ?_
  refine n_newa hx hb (ty := .byte) rfl (hts _ q295) 3 rfl rfl hK hP hD hS hA (N' := 34) rfl (by decide) (by decide) (Nat.le_of_ble_eq_true rfl) (Nat.le_of_ble_eq_true rfl) dJ12_copyOf_3_15 (fun q_2 H hP hD hS => ?_)
  have hP : va_P E.1 CL (([(gb, ia (E.2 3) 16 gf)] : va_W) ++ ([(q_2, ia (E.2 3) 34 (fun _ => 0))] : va_W)) H := hP
  have hD : va_D A (([(gb, ia (E.2 3) 16 gf)] : va_W) ++ ([(q_2, ia (E.2 3) 34 (fun _ => 0))] : va_W)) := hD
  refine lv_astore_n (lv' := [(2, .ref q_2), (0, .ref gb), (1, iv 34)]) hx hb dJ12_copyOf_3_17 rfl hl (by decide) rfl (fun ls hl => ?_)
  refine lv_aload_n hx hb dJ12_copyOf_3_18 rfl (lv_at hl 1 rfl) ?_
  refine lv_iconst (v := iI 0) hx hb dJ12_copyOf_3_19 rfl ?_
  refine lv_aload_n hx hb dJ12_copyOf_3_20 rfl (lv_at hl 0 rfl) ?_
  refine lv_iconst (v := iI 0) hx hb dJ12_copyOf_3_21 rfl ?_
  refine lv_aload_n hx hb dJ12_copyOf_3_22 rfl (lv_at hl 1 rfl) ?_
  refine va_alen (v := iI 16) hx hb hK.1 hP 0 3 rfl rfl rfl dJ12_copyOf_3_23 ?_
  refine lv_iload_n hx hb dJ12_copyOf_3_24 rfl (lv_at hl 2 rfl) ?_
  refine n_mmin hx hb (hml.trans hl.1.symm) hown (hts _ q465) (hts _ q466) (hts _ q111) (hts _ q467) (Nat.le_of_ble_eq_true rfl) (Nat.le_of_ble_eq_true rfl) (Nat.le_of_ble_eq_true rfl) (Nat.le_of_ble_eq_true rfl) (x := 16) (y := 34) (by omega) (by omega) dJ12_copyOf_3_25 ?_
  refine n_top (y := 16) (by omega) ?_
  refine n_cp0 hx hb (hml.trans hl.1.symm) hown (hts _ q468) (hts _ q470) (hts _ q469) (hts _ q112) hK.1 hP hD hS 0 1 3 (f := gf) (g := (fun _ => 0)) rfl rfl rfl rfl (n := 16) (by omega) (by omega) (by omega) (fun x _ _ => ft_y (hb7 x)) (Nat.le_of_ble_eq_true rfl) (Nat.le_of_ble_eq_true rfl) dJ12_copyOf_3_28 (w2 := ([(gb, ia (E.2 3) 16 gf)] : va_W) ++ ([(q_2, ia (E.2 3) 34 (cp0 gf (fun _ => 0) 16))] : va_W)) rfl (fun H locs hP hD hS => ?_)
  refine lv_aload_n hx hb dJ12_copyOf_3_31 rfl (lv_at hl 0 rfl) ?_
  refine W.widen (k := 1) (n := 34) (Nat.le_of_ble_eq_true rfl) (Nat.le_of_ble_eq_true rfl) ?_
  exact W.aret hx hb hr (Or.inr ⟨_, rfl⟩) (Or.inr ⟨_, rfl⟩) (fun tt_ ht_ hW_ => ⟨⟨q_2, rfl, trivial, by rw [ht_]; exact hP, hD⟩, hS.F ht_⟩) hS.2.2 dJ12_copyOf_3_32
set_option maxHeartbeats 4000000 in
set_option maxRecDepth 100000 in
theorem mt_J23_newLength (l : Launch) (E : EE)  (a : Int) (b1 : Int) (b3 : Int) (ha : 0 ≤ a ∧ a < 10000) (h1 : 0 ≤ b1 ∧ b1 < 10000) (h3 : 0 < b3 ∧ b3 < 10000) : Met l yJ23_newLength (ws_ yJ23_newLength cJ23_newLength 4 (some .int)) { frames := 1, cells := 0, slots := 0, locals := 20 } (va_Pc [iv a, iv b1, iv b3] (PW E ([]))) (NP (a + max b1 b3)) 0 0 (fun _ => False) := by
  refine Met.ofW (cc := cJ23_newLength) (maxL := 4) (ret := (some .int)) (by decide) rfl ?_
  intro p e s m args below meth c s₁ B hml hv
  obtain ⟨rfl, hP, hK⟩ := hv
  have hx := B.exec
  have hb := B.bytes
  have hr := B.returns
  have hts := atoms_spec (ws := (ws_ yJ23_newLength cJ23_newLength 4 (some .int))) B.pre
  have hts : ∀ w ∈ lw_all, w.before _ s = true := fun w h => hts w (List.mem_cons_of_mem _ h)
  have hown : s.vm.findClass RJ23 = some m.cls := findClass_of_methodNamed B.named
  have hlocks := B.notSynchronized
  have hl := lv_entry ([iv a, iv b1, iv b3]) (n := 4) (Nat.le_of_ble_eq_true rfl)
  rw [lg_entry_eq]
  generalize (lg_sl ([iv a, iv b1, iv b3]) ++ List.replicate (4 - (lg_sl ([iv a, iv b1, iv b3])).length) Slot.unset).toArray = ls at hl ⊢
  have hl : lv_has ls 4 [(0, iv a), (1, iv b1), (2, iv b3)] := hl
  refine lv_iload_n hx hb dJ23_newLength_0 rfl (lv_at hl 0 rfl) ?_
  refine lv_iload_n hx hb dJ23_newLength_1 rfl (lv_at hl 1 rfl) ?_
  refine lv_iload_n hx hb dJ23_newLength_2 rfl (lv_at hl 2 rfl) ?_
  refine n_mmax hx hb (hml.trans hl.1.symm) hown (hts _ q1451) (hts _ q725) (hts _ q111) (hts _ q726) (Nat.le_of_ble_eq_true rfl) (Nat.le_of_ble_eq_true rfl) (Nat.le_of_ble_eq_true rfl) (Nat.le_of_ble_eq_true rfl) (x := b1) (y := b3) (by omega) (by omega) dJ23_newLength_3 ?_
  refine n_iadd hx hb dJ23_newLength_6 ?_
  refine lv_istore_n (lv' := [(3, iv (a + (max b1 b3))), (0, iv a), (1, iv b1), (2, iv b3)]) hx hb dJ23_newLength_7 rfl hl (by decide) rfl (fun ls hl => ?_)
  refine lv_iconst (v := iI 0) hx hb dJ23_newLength_8 rfl ?_
  refine lv_iload_n hx hb dJ23_newLength_9 rfl (lv_at hl 0 rfl) ?_
  refine n_icmp_ge (tgt := 21) hx hb dJ23_newLength_10 (by decide) (by omega) (by omega) (fun c_1 => ?_) (fun c_1 => ?_)
  · exfalso; omega
  · refine lv_iload_n hx hb dJ23_newLength_13 rfl (lv_at hl 0 rfl) ?_
    refine n_ldci (x := 2147483639) hx hb hown (hts _ q1452) (by decide +kernel) dJ23_newLength_14 ?_
    refine n_icmp_gt (tgt := 21) hx hb dJ23_newLength_16 (by decide) (by omega) (by omega) (fun c_2 => ?_) (fun c_2 => ?_)
    · exfalso; omega
    · refine lv_iload_n hx hb dJ23_newLength_19 rfl (lv_at hl 0 rfl) ?_
      have hfin : a + (max b1 b3) = a + max b1 b3 := by
        omega
      exact W.iret (v := iI (a + (max b1 b3))) hx hb hr (fun tt_ ht_ hW_ => ⟨iI (a + (max b1 b3)), rfl, (congrArg iI hfin), ht_⟩) (fun q h => by cases h) dJ23_newLength_20
set_option maxHeartbeats 4000000 in
set_option maxRecDepth 100000 in
theorem mt_J2_newCapacity (l : Launch) (E : EE) (sb : Nat) (sm : Int) (sv : Nat) (sf : Int → Int) (i : Int) (hi : i = 17) : Met l yJ2_newCapacity (ws_ yJ2_newCapacity cJ2_newCapacity 6 (some .int)) { frames := 2, cells := 0, slots := 0, locals := 43 } (va_Pc [.ref sb, iv i] (PW E (([(sb, .inr (10, [.ref sv, iv 0, iv sm, iv 16]))] : va_W) ++ ([(sv, ia (E.2 3) 16 sf)] : va_W)))) (NP 34) 0 0 (fun _ => False) := by
  refine Met.ofW (cc := cJ2_newCapacity) (maxL := 6) (ret := (some .int)) (by decide) rfl ?_
  intro p e s m args below meth c s₁ B hml hv
  obtain ⟨rfl, hP, hK⟩ := hv
  have hx := B.exec
  have hb := B.bytes
  have hr := B.returns
  have hts := atoms_spec (ws := (ws_ yJ2_newCapacity cJ2_newCapacity 6 (some .int))) B.pre
  have hts : ∀ w ∈ lw_all, w.before _ s = true := fun w h => hts w (List.mem_cons_of_mem _ h)
  have hown : s.vm.findClass RJ2 = some m.cls := findClass_of_methodNamed B.named
  have hlocks := B.notSynchronized
  have hl := lv_entry ([.ref sb, iv i]) (n := 6) (Nat.le_of_ble_eq_true rfl)
  rw [lg_entry_eq]
  generalize (lg_sl ([.ref sb, iv i]) ++ List.replicate (6 - (lg_sl ([.ref sb, iv i])).length) Slot.unset).toArray = ls at hl ⊢
  have hl : lv_has ls 6 [(0, .ref sb), (1, iv i)] := hl
  refine lv_aload_n hx hb dJ2_newCapacity_0 rfl (lv_at hl 0 rfl) ?_
  refine va_get (D := E.1) (ci := 10) (v := .ref sv) (C := RJ3) (T := TJ3) (N := 4) hx hb hts in_J3 hown hK.1 hP 0 rfl rfl 0 (by decide) (hts _ q281) (fun _ h9 => h9) rfl dJ2_newCapacity_1 ?_
  refine va_alen (v := iI 16) hx hb hK.1 hP 1 3 rfl rfl rfl dJ2_newCapacity_4 ?_
  refine lv_istore_n (lv' := [(2, iv 16), (0, .ref sb), (1, iv i)]) hx hb dJ2_newCapacity_5 rfl hl (by decide) rfl (fun ls hl => ?_)
  refine lv_iload_n hx hb dJ2_newCapacity_6 rfl (lv_at hl 2 rfl) ?_
  refine lv_aload_n hx hb dJ2_newCapacity_7 rfl (lv_at hl 1 rfl) ?_
  refine va_get (D := E.1) (ci := 10) (v := iv 0) (C := RJ3) (T := TJ3) (N := 4) hx hb hts in_J3 hown hK.1 hP 0 rfl rfl 1 (by decide) (hts _ q282) (fun _ h9 => h9) rfl dJ2_newCapacity_8 ?_
  refine n_ishl0 hx hb dJ2_newCapacity_11 ?_
  refine lv_istore_n (lv' := [(3, iv i), (2, iv 16), (0, .ref sb), (1, iv i)]) hx hb dJ2_newCapacity_12 rfl hl (by decide) rfl (fun ls hl => ?_)
  refine lv_iload_n hx hb dJ2_newCapacity_13 rfl (lv_at hl 0 rfl) ?_
  refine lv_iload_n hx hb dJ2_newCapacity_14 rfl (lv_at hl 1 rfl) ?_
  refine n_isub hx hb dJ2_newCapacity_15 ?_
  refine lv_istore (lv' := [(4, iv (i - 16)), (3, iv i), (2, iv 16), (0, .ref sb), (1, iv i)]) hx hb dJ2_newCapacity_16 hl (by decide) rfl (fun ls hl => ?_)
  refine lv_iload_n hx hb dJ2_newCapacity_18 rfl (lv_at hl 2 rfl) ?_
  refine lv_iload hx hb dJ2_newCapacity_19 (lv_at hl 0 rfl) ?_
  refine lv_iload_n hx hb dJ2_newCapacity_21 rfl (lv_at hl 2 rfl) ?_
  refine lv_iconst (v := iI 2) hx hb dJ2_newCapacity_22 rfl ?_
  refine lv_aload_n hx hb dJ2_newCapacity_23 rfl (lv_at hl 3 rfl) ?_
  refine va_get (D := E.1) (ci := 10) (v := iv 0) (C := RJ3) (T := TJ3) (N := 4) hx hb hts in_J3 hown hK.1 hP 0 rfl rfl 1 (by decide) (hts _ q282) (fun _ h9 => h9) rfl dJ2_newCapacity_24 ?_
  refine n_ishl0 hx hb dJ2_newCapacity_27 ?_
  refine n_iadd hx hb dJ2_newCapacity_28 ?_
  refine n_csi (x := 16 + max (i - 16) (16 + 2)) (va_runS (As := [iv 16, iv (i - 16), iv (16 + 2)]) (rest := []) ⟨hx, hb, hml, hown, hts⟩ (mt_J23_newLength l E 16 (i - 16) (16 + 2) (by omega) (by omega) (by omega)) (va_cwS 3 hts (lw_S q1448 q1449 q127 q1450) rfl rfl rfl (by decide +kernel) ⟨Nat.le_of_ble_eq_true rfl, Nat.le_of_ble_eq_true rfl⟩) (PW_S (hP.sub (ws' := []) [] rfl) hK) rfl rfl hl.1 rfl (lv_room (Nat.le_of_ble_eq_true rfl)) dJ2_newCapacity_29 ⟨Nat.le_of_ble_eq_true rfl, Nat.le_of_ble_eq_true rfl⟩) ?_
  refine lv_istore (lv' := [(5, iv (16 + max (i - 16) (16 + 2))), (4, iv (i - 16)), (3, iv i), (2, iv 16), (0, .ref sb), (1, iv i)]) hx hb dJ2_newCapacity_32 hl (by decide) rfl (fun ls hl => ?_)
  refine lv_iload hx hb dJ2_newCapacity_34 (lv_at hl 0 rfl) ?_
  refine n_ldci (x := 2147483647) hx hb hown (hts _ q1456) (by decide +kernel) dJ2_newCapacity_36 ?_
  refine n_icmp_ne (tgt := 51) hx hb dJ2_newCapacity_38 (by decide) (by omega) (by omega) (fun c_1 => ?_) (fun c_1 => ?_)
  · refine lv_iload hx hb dJ2_newCapacity_51 (lv_at hl 0 rfl) ?_
    refine lv_aload_n hx hb dJ2_newCapacity_53 rfl (lv_at hl 4 rfl) ?_
    refine va_get (D := E.1) (ci := 10) (v := iv 0) (C := RJ3) (T := TJ3) (N := 4) hx hb hts in_J3 hown hK.1 hP 0 rfl rfl 1 (by decide) (hts _ q282) (fun _ h9 => h9) rfl dJ2_newCapacity_54 ?_
    refine n_ishr0 hx hb (by omega) dJ2_newCapacity_57 ?_
    have hfin : 16 + max (i - 16) (16 + 2) = 34 := by
      omega
    exact W.iret (v := iI (16 + max (i - 16) (16 + 2))) hx hb hr (fun tt_ ht_ hW_ => ⟨iI (16 + max (i - 16) (16 + 2)), rfl, (congrArg iI hfin), ht_⟩) (fun q h => by cases h) dJ2_newCapacity_58
  · exfalso; omega
set_option maxHeartbeats 1000000 in
set_option maxRecDepth 100000 in
theorem mt_J2_ensureCapacityInternal_g (l : Launch) (E : EE) (sb : Nat) (sm : Int) (sv : Nat) (sf : Int → Int) (i : Int) (hi : i = 17) (hb7 : B7 sf) (sz : Nat) : Met l yJ2_ensureCapacityInternal (ws_ yJ2_ensureCapacityInternal cJ2_ensureCapacityInternal 3 none) { frames := 3, cells := 1, slots := 34, locals := 68 } (va_Pc [.ref sb, iv i] (UW E (([(sb, .inr (10, [.ref sv, iv 0, iv sm, iv 16]))] : va_W) ++ ([(sv, ia (E.2 3) 16 sf)] : va_W)) sz)) (UQxv E (fun u : Nat => True) (fun u : Nat => ([(sb, .inr (10, [.ref u, iv 0, iv sm, iv 16]))] : va_W) ++ ([(sv, ia (E.2 3) 16 sf)] : va_W) ++ ([(u, ia (E.2 3) 34 (cp0 sf (fun _ => 0) 16))] : va_W)) (va_A (([(sb, .inr (10, [.ref sv, iv 0, iv sm, iv 16]))] : va_W) ++ ([(sv, ia (E.2 3) 16 sf)] : va_W)) sz)) 1 34 (va_A (([(sb, .inr (10, [.ref sv, iv 0, iv sm, iv 16]))] : va_W) ++ ([(sv, ia (E.2 3) 16 sf)] : va_W)) sz) := by
  refine Met.ofW (cc := cJ2_ensureCapacityInternal) (maxL := 3) (ret := none) (by decide) rfl ?_
  intro p e s m args below meth c s₁ B hml hv
  obtain ⟨rfl, hsz, hP, hK, hD0⟩ := hv
  have hx := B.exec
  have hb := B.bytes
  have hr := B.returns
  have hts := atoms_spec (ws := (ws_ yJ2_ensureCapacityInternal cJ2_ensureCapacityInternal 3 none)) B.pre
  have hts : ∀ w ∈ lw_all, w.before _ s = true := fun w h => hts w (List.mem_cons_of_mem _ h)
  have hown : s.vm.findClass RJ2 = some m.cls := findClass_of_methodNamed B.named
  have hlocks := B.notSynchronized
  subst hsz
  have hD := hD0.self (sz := s.heap.size)
  generalize hAe : va_A (([(sb, .inr (10, [.ref sv, iv 0, iv sm, iv 16]))] : va_W) ++ ([(sv, ia (E.2 3) 16 sf)] : va_W)) s.heap.size = A at hD ⊢
  have hA : ∀ q : Nat, s.heap.size ≤ q → A q := fun q h => by rw [← hAe]; exact Or.inr h
  have hS : va_S A s.heap s.heap [] := va_S.rf
  have hl := lv_entry ([.ref sb, iv i]) (n := 3) (Nat.le_of_ble_eq_true rfl)
  rw [lg_entry_eq]
  generalize (lg_sl ([.ref sb, iv i]) ++ List.replicate (3 - (lg_sl ([.ref sb, iv i])).length) Slot.unset).toArray = ls at hl ⊢
  have hl : lv_has ls 3 [(0, .ref sb), (1, iv i)] := hl
  refine lv_aload_n hx hb dJ2_ensureCapacityInternal_0 rfl (lv_at hl 0 rfl) ?_
  refine va_get (D := E.1) (ci := 10) (v := .ref sv) (C := RJ3) (T := TJ3) (N := 4) hx hb hts in_J3 hown hK.1 hP 0 rfl rfl 0 (by decide) (hts _ q281) (fun _ h9 => h9) rfl dJ2_ensureCapacityInternal_1 ?_
  refine va_alen (v := iI 16) hx hb hK.1 hP 1 3 rfl rfl rfl dJ2_ensureCapacityInternal_4 ?_
  refine lv_aload_n hx hb dJ2_ensureCapacityInternal_5 rfl (lv_at hl 0 rfl) ?_
  refine va_get (D := E.1) (ci := 10) (v := iv 0) (C := RJ3) (T := TJ3) (N := 4) hx hb hts in_J3 hown hK.1 hP 0 rfl rfl 1 (by decide) (hts _ q282) (fun _ h9 => h9) rfl dJ2_ensureCapacityInternal_6 ?_
  refine n_ishr0 hx hb (by omega) dJ2_ensureCapacityInternal_9 ?_
  refine lv_istore_n (lv' := [(2, iv 16), (0, .ref sb), (1, iv i)]) hx hb dJ2_ensureCapacityInternal_10 rfl hl (by decide) rfl (fun ls hl => ?_)
  refine lv_iload_n hx hb dJ2_ensureCapacityInternal_11 rfl (lv_at hl 2 rfl) ?_
  refine lv_iload_n hx hb dJ2_ensureCapacityInternal_12 rfl (lv_at hl 0 rfl) ?_
  refine n_isub hx hb dJ2_ensureCapacityInternal_13 ?_
  refine n_if_le (tgt := 38) hx hb dJ2_ensureCapacityInternal_14 (by decide) (by omega) (fun c_1 => ?_) (fun c_1 => ?_)
  · exfalso; omega
  · refine lv_aload_n hx hb dJ2_ensureCapacityInternal_17 rfl (lv_at hl 1 rfl) ?_
    refine lv_aload_n hx hb dJ2_ensureCapacityInternal_18 rfl (lv_at hl 1 rfl) ?_
    refine va_get (D := E.1) (ci := 10) (v := .ref sv) (C := RJ3) (T := TJ3) (N := 4) hx hb hts in_J3 hown hK.1 hP 0 rfl rfl 0 (by decide) (hts _ q281) (fun _ h9 => h9) rfl dJ2_ensureCapacityInternal_19 ?_
    refine lv_aload_n hx hb dJ2_ensureCapacityInternal_22 rfl (lv_at hl 1 rfl) ?_
    refine lv_iload_n hx hb dJ2_ensureCapacityInternal_23 rfl (lv_at hl 2 rfl) ?_
    refine n_csi (x := 34) (va_runU (As := [iv i]) (rest := [.ref sv, .ref sb]) ⟨hx, hb, hml, hown, hts⟩ (mt_J2_newCapacity l E sb sm sv sf i (by omega)) (n_cwP 1 hts q1444 q2538 q1446 q99 q1447 (sel_priv (hts _ q2538) (hK.pv q1445) (hts _ q1446) (hts _ q1468) rfl) rfl rfl (by decide +kernel) ⟨Nat.le_of_ble_eq_true rfl, Nat.le_of_ble_eq_true rfl⟩) (PW_V hP hK (va_recv hK.1 hP (ci := 10) (q0 := 0) rfl rfl)) rfl rfl hl.1 rfl (lv_room (Nat.le_of_ble_eq_true rfl)) dJ2_ensureCapacityInternal_24 ⟨Nat.le_of_ble_eq_true rfl, Nat.le_of_ble_eq_true rfl⟩) ?_
    refine lv_aload_n hx hb dJ2_ensureCapacityInternal_27 rfl (lv_at hl 1 rfl) ?_
    refine va_get (D := E.1) (ci := 10) (v := iv 0) (C := RJ3) (T := TJ3) (N := 4) hx hb hts in_J3 hown hK.1 hP 0 rfl rfl 1 (by decide) (hts _ q282) (fun _ h9 => h9) rfl dJ2_ensureCapacityInternal_28 ?_
    refine n_ishl0 hx hb dJ2_ensureCapacityInternal_31 ?_
    refine n_cuxrS (x := fun u_2 => u_2) (w2 := fun u_2 => ([(sb, .inr (10, [.ref sv, iv 0, iv sm, iv 16]))] : va_W) ++ ([(sv, ia (E.2 3) 16 sf)] : va_W) ++ ([(u_2, ia (E.2 3) 34 (cp0 sf (fun _ => 0) 16))] : va_W)) (va_runS (As := [.ref sv, iv 34]) (rest := [.ref sb]) ⟨hx, hb, hml, hown, hts⟩ (mt_J12_copyOf_3 l E sv sf  (by first | assumption | exact hb7) _) (va_cwS 2 hts (lw_S q1457 q1458 q110 q1459) rfl rfl rfl (by decide +kernel) ⟨Nat.le_of_ble_eq_true rfl, Nat.le_of_ble_eq_true rfl⟩) (UW_S (hP.sub (ws' := [(sv, ia (E.2 3) 16 sf)]) [1] rfl) hK (hD.sub (ws' := [(sv, ia (E.2 3) 16 sf)]) [1] rfl rfl)) rfl rfl hl.1 rfl (lv_room (Nat.le_of_ble_eq_true rfl)) dJ2_ensureCapacityInternal_32 ⟨Nat.le_of_ble_eq_true rfl, Nat.le_of_ble_eq_true rfl⟩) hP hD hS hA [1] [0] [0, 1, 2] rfl rfl rfl rfl rfl (fun _ => rfl) (fun u_2 H locs hu_2 hP hD hS => ?_)
    have hu_2 : True := hu_2
    have hP : va_P E.1 CL (([(sb, .inr (10, [.ref sv, iv 0, iv sm, iv 16]))] : va_W) ++ ([(sv, ia (E.2 3) 16 sf)] : va_W) ++ ([(u_2, ia (E.2 3) 34 (cp0 sf (fun _ => 0) 16))] : va_W)) H := hP
    have hD : va_D A (([(sb, .inr (10, [.ref sv, iv 0, iv sm, iv 16]))] : va_W) ++ ([(sv, ia (E.2 3) 16 sf)] : va_W) ++ ([(u_2, ia (E.2 3) 34 (cp0 sf (fun _ => 0) 16))] : va_W)) := hD
    refine va_put (D := E.1) (ci := 10) (v := .ref u_2) (ty := (tyJ3 0)) (C := RJ3) (T := TJ3) (N := 4) hx hb hts in_J3 tyJ3 tyJ3_ok nmJ3 hown hK.1 hP hD hS 0 rfl rfl 0 (by decide) (hts _ q281) (fun _ h9 => h9) rfl (by decide +kernel) rfl rfl (Nat.le_of_ble_eq_true rfl) dJ2_ensureCapacityInternal_35 (fun H locs hP hD hS => ?_)
    have hP : va_P E.1 CL (([(sb, .inr (10, [.ref u_2, iv 0, iv sm, iv 16]))] : va_W) ++ ([(sv, ia (E.2 3) 16 sf)] : va_W) ++ ([(u_2, ia (E.2 3) 34 (cp0 sf (fun _ => 0) 16))] : va_W)) H := hP
    have hD : va_D A (([(sb, .inr (10, [.ref u_2, iv 0, iv sm, iv 16]))] : va_W) ++ ([(sv, ia (E.2 3) 16 sf)] : va_W) ++ ([(u_2, ia (E.2 3) 34 (cp0 sf (fun _ => 0) 16))] : va_W)) := hD
    refine W.widen (k := 1) (n := 34) (Nat.le_of_ble_eq_true rfl) (Nat.le_of_ble_eq_true rfl) ?_
    exact W.vret hx hb hr (fun tt_ ht_ hW_ => ⟨⟨u_2, rfl, trivial, by rw [ht_]; exact hP, hD⟩, hS.F ht_⟩) hS.2.2 dJ2_ensureCapacityInternal_38
set_option maxHeartbeats 1000000 in
set_option maxRecDepth 100000 in
theorem mt_J2_appendC_g (l : Launch) (E : EE) (sb : Nat) (sm : Int) (sv : Nat) (sf : Int → Int) (v : Int) (hv : 0 ≤ v ∧ v < 128) (hb7 : B7 sf) (sz : Nat) : Met l yJ2_append_3 (ws_ yJ2_append_3 cJ2_append_3 2 (some (.object "java/lang/AbstractStringBuilder"))) { frames := 4, cells := 1, slots := 34, locals := 90 } (va_Pc [.ref sb, iv v] (UX E (([(sb, .inr (10, [.ref sv, iv 0, iv sm, iv 16]))] : va_W) ++ ([(sv, ia (E.2 3) 16 sf)] : va_W)) sz)) (UQxr E (fun u : Nat => True) (fun u : Nat => sb) (fun u : Nat => ([(sb, .inr (10, [.ref u, iv 0, iv sm, iv (16 + 1)]))] : va_W) ++ ([(sv, ia (E.2 3) 16 sf)] : va_W) ++ ([(u, ia (E.2 3) 34 (ui (cp0 sf (fun _ => 0) 16) 16 v))] : va_W)) (va_A (([(sb, .inr (10, [.ref sv, iv 0, iv sm, iv 16]))] : va_W) ++ ([(sv, ia (E.2 3) 16 sf)] : va_W)) sz)) 1 34 (va_A (([(sb, .inr (10, [.ref sv, iv 0, iv sm, iv 16]))] : va_W) ++ ([(sv, ia (E.2 3) 16 sf)] : va_W)) sz) := by
  refine Met.ofW (cc := cJ2_append_3) (maxL := 2) (ret := (some (.object "java/lang/AbstractStringBuilder"))) (by decide) rfl ?_
  intro p e s m args below meth c s₁ B hml hv
  obtain ⟨rfl, hsz, hP, hK, hD0, hE⟩ := hv
  have hx := B.exec
  have hb := B.bytes
  have hr := B.returns
  have hts := atoms_spec (ws := (ws_ yJ2_append_3 cJ2_append_3 2 (some (.object "java/lang/AbstractStringBuilder")))) B.pre
  have hts : ∀ w ∈ lw_all, w.before _ s = true := fun w h => hts w (List.mem_cons_of_mem _ h)
  have hown : s.vm.findClass RJ2 = some m.cls := findClass_of_methodNamed B.named
  have hlocks := B.notSynchronized
  subst hsz
  have hD := hD0.self (sz := s.heap.size)
  generalize hAe : va_A (([(sb, .inr (10, [.ref sv, iv 0, iv sm, iv 16]))] : va_W) ++ ([(sv, ia (E.2 3) 16 sf)] : va_W)) s.heap.size = A at hD hE ⊢
  have hA : ∀ q : Nat, s.heap.size ≤ q → A q := fun q h => by rw [← hAe]; exact Or.inr h
  have hS : va_S A s.heap s.heap [] := va_S.rf
  have hl := lv_entry ([.ref sb, iv v]) (n := 2) (Nat.le_of_ble_eq_true rfl)
  rw [lg_entry_eq]
  generalize (lg_sl ([.ref sb, iv v]) ++ List.replicate (2 - (lg_sl ([.ref sb, iv v])).length) Slot.unset).toArray = ls at hl ⊢
  have hl : lv_has ls 2 [(0, .ref sb), (1, iv v)] := hl
  refine lv_aload_n hx hb dJ2_append_3_0 rfl (lv_at hl 0 rfl) ?_
  refine lv_aload_n hx hb dJ2_append_3_1 rfl (lv_at hl 0 rfl) ?_
  refine va_get (D := E.1) (ci := 10) (v := iv 16) (C := RJ3) (T := TJ3) (N := 4) hx hb hts in_J3 hown hK.1 hP 0 rfl rfl 3 (by decide) (hts _ q285) (fun _ h9 => h9) rfl dJ2_append_3_2 ?_
  refine lv_iconst (v := iI 1) hx hb dJ2_append_3_5 rfl ?_
  refine n_iadd hx hb dJ2_append_3_6 ?_
  refine n_cuxvS (w2 := fun u_1 => ([(sb, .inr (10, [.ref u_1, iv 0, iv sm, iv 16]))] : va_W) ++ ([(sv, ia (E.2 3) 16 sf)] : va_W) ++ ([(u_1, ia (E.2 3) 34 (cp0 sf (fun _ => 0) 16))] : va_W)) (va_runU (As := [iv (16 + 1)]) (rest := []) ⟨hx, hb, hml, hown, hts⟩ (mt_J2_ensureCapacityInternal_g l E sb sm sv sf (16 + 1) (by omega) (by first | assumption | exact hb7) _) (n_cwP 1 hts q1440 q2537 q1442 q99 q1443 (sel_priv (hts _ q2537) (hK.pv q1441) (hts _ q1442) (hts _ q1468) rfl) rfl rfl (by decide +kernel) ⟨Nat.le_of_ble_eq_true rfl, Nat.le_of_ble_eq_true rfl⟩) (UW_V hP hK (hD) (va_recv hK.1 hP (ci := 10) (q0 := 0) rfl rfl)) rfl rfl hl.1 rfl (lv_room (Nat.le_of_ble_eq_true rfl)) dJ2_append_3_7 ⟨Nat.le_of_ble_eq_true rfl, Nat.le_of_ble_eq_true rfl⟩) hP hD hS hA [0, 1] [] [0, 1, 2] rfl rfl rfl rfl rfl (fun _ => rfl) (fun u_1 H locs hu_1 hP hD hS => ?_)
  have hu_1 : True := hu_1
  have hP : va_P E.1 CL (([(sb, .inr (10, [.ref u_1, iv 0, iv sm, iv 16]))] : va_W) ++ ([(sv, ia (E.2 3) 16 sf)] : va_W) ++ ([(u_1, ia (E.2 3) 34 (cp0 sf (fun _ => 0) 16))] : va_W)) H := hP
  have hD : va_D A (([(sb, .inr (10, [.ref u_1, iv 0, iv sm, iv 16]))] : va_W) ++ ([(sv, ia (E.2 3) 16 sf)] : va_W) ++ ([(u_1, ia (E.2 3) 34 (cp0 sf (fun _ => 0) 16))] : va_W)) := hD
  refine lv_aload_n hx hb dJ2_append_3_10 rfl (lv_at hl 0 rfl) ?_
  refine n_csi (x := 1) (va_runU (As := []) (rest := []) ⟨hx, hb, hml, hown, hts⟩ (mt_J2_isLatin1 l E sb u_1 sm 16 ) (n_cwP 0 hts q1465 q1467 q1466 q99 q1469 (hts _ q1468) rfl rfl (by decide +kernel) ⟨Nat.le_of_ble_eq_true rfl, Nat.le_of_ble_eq_true rfl⟩) (PX_V (hP.sub (ws' := [(sb, .inr (10, [.ref u_1, iv 0, iv sm, iv 16]))]) [0] rfl) hK hE hS (va_recv hK.1 hP (ci := 10) (q0 := 0) rfl rfl)) rfl rfl hl.1 rfl (lv_room (Nat.le_of_ble_eq_true rfl)) dJ2_append_3_11 ⟨Nat.le_of_ble_eq_true rfl, Nat.le_of_ble_eq_true rfl⟩) ?_
  refine n_if_eq (tgt := 45) hx hb dJ2_append_3_14 (by decide) (by omega) (fun c_2 => absurd c_2 (by decide)) (fun _ => ?_)
  refine lv_iload_n hx hb dJ2_append_3_17 rfl (lv_at hl 1 rfl) ?_
  refine n_csi (x := 1) (va_runS (As := [iv v]) (rest := []) ⟨hx, hb, hml, hown, hts⟩ (mt_J25_canEncode l E v (by omega)) (va_cwS 1 hts (lw_S q1676 q1677 q129 q1678) rfl rfl rfl (by decide +kernel) ⟨Nat.le_of_ble_eq_true rfl, Nat.le_of_ble_eq_true rfl⟩) (PW_S (hP.sub (ws' := []) [] rfl) hK) rfl rfl hl.1 rfl (lv_room (Nat.le_of_ble_eq_true rfl)) dJ2_append_3_18 ⟨Nat.le_of_ble_eq_true rfl, Nat.le_of_ble_eq_true rfl⟩) ?_
  refine n_if_eq (tgt := 45) hx hb dJ2_append_3_21 (by decide) (by omega) (fun c_3 => absurd c_3 (by decide)) (fun _ => ?_)
  refine lv_aload_n hx hb dJ2_append_3_24 rfl (lv_at hl 0 rfl) ?_
  refine va_get (D := E.1) (ci := 10) (v := .ref u_1) (C := RJ3) (T := TJ3) (N := 4) hx hb hts in_J3 hown hK.1 hP 0 rfl rfl 0 (by decide) (hts _ q281) (fun _ h9 => h9) rfl dJ2_append_3_25 ?_
  refine lv_aload_n hx hb dJ2_append_3_28 rfl (lv_at hl 0 rfl) ?_
  refine lv_dup hx hb dJ2_append_3_29 rfl ?_
  refine va_get (D := E.1) (ci := 10) (v := iv 16) (C := RJ3) (T := TJ3) (N := 4) hx hb hts in_J3 hown hK.1 hP 0 rfl rfl 3 (by decide) (hts _ q285) (fun _ h9 => h9) rfl dJ2_append_3_30 ?_
  refine lv_dup_x1 hx hb dJ2_append_3_33 rfl rfl ?_
  refine lv_iconst (v := iI 1) hx hb dJ2_append_3_34 rfl ?_
  refine n_iadd hx hb dJ2_append_3_35 ?_
  refine va_put (D := E.1) (ci := 10) (v := iv (16 + 1)) (ty := .int) (C := RJ3) (T := TJ3) (N := 4) hx hb hts in_J3 tyJ3 tyJ3_ok nmJ3 hown hK.1 hP hD hS 0 rfl rfl 3 (by decide) (hts _ q285) (fun _ h9 => h9) rfl (by decide +kernel) rfl rfl (Nat.le_of_ble_eq_true rfl) dJ2_append_3_36 (fun H locs hP hD hS => ?_)
  have hP : va_P E.1 CL (([(sb, .inr (10, [.ref u_1, iv 0, iv sm, iv (16 + 1)]))] : va_W) ++ ([(sv, ia (E.2 3) 16 sf)] : va_W) ++ ([(u_1, ia (E.2 3) 34 (cp0 sf (fun _ => 0) 16))] : va_W)) H := hP
  have hD : va_D A (([(sb, .inr (10, [.ref u_1, iv 0, iv sm, iv (16 + 1)]))] : va_W) ++ ([(sv, ia (E.2 3) 16 sf)] : va_W) ++ ([(u_1, ia (E.2 3) 34 (cp0 sf (fun _ => 0) 16))] : va_W)) := hD
  refine lv_iload_n hx hb dJ2_append_3_39 rfl (lv_at hl 1 rfl) ?_
  refine n_i2b hx hb (by omega) dJ2_append_3_40 ?_
  refine n_bast (f := (cp0 sf (fun _ => 0) 16)) hx hb hK.1 hP hD hS 2 3 rfl rfl (by omega) (by omega) (by omega) dJ2_append_3_41 (ws2 := ([(sb, .inr (10, [.ref u_1, iv 0, iv sm, iv (16 + 1)]))] : va_W) ++ ([(sv, ia (E.2 3) 16 sf)] : va_W) ++ ([(u_1, ia (E.2 3) 34 (ui (cp0 sf (fun _ => 0) 16) 16 v))] : va_W)) rfl (fun H locs hP hD hS => ?_)
  refine lv_goto (tgt := 75) hx hb dJ2_append_3_42 (by decide) ?_
  refine lv_aload_n hx hb dJ2_append_3_75 rfl (lv_at hl 0 rfl) ?_
  refine W.widen (k := 1) (n := 34) (Nat.le_of_ble_eq_true rfl) (Nat.le_of_ble_eq_true rfl) ?_
  exact W.aret hx hb hr (Or.inl ⟨_, rfl⟩) (Or.inr ⟨_, rfl⟩) (fun tt_ ht_ hW_ => ⟨⟨u_1, rfl, trivial, by rw [ht_]; exact hP, hD⟩, hS.F ht_⟩) hS.2.2 dJ2_append_3_76
set_option maxHeartbeats 1000000 in
set_option maxRecDepth 100000 in
theorem mt_J3_appendC_g (l : Launch) (E : EE) (sb : Nat) (sm : Int) (sv : Nat) (sf : Int → Int) (v : Int) (hv : 0 ≤ v ∧ v < 128) (hb7 : B7 sf) (sz : Nat) : Met l yJ3_append_3 (ws_ yJ3_append_3 cJ3_append_3 2 (some (.object "java/lang/StringBuilder"))) { frames := 5, cells := 1, slots := 34, locals := 111 } (va_Pc [.ref sb, iv v] (UX E (([(sb, .inr (10, [.ref sv, iv 0, iv sm, iv 16]))] : va_W) ++ ([(sv, ia (E.2 3) 16 sf)] : va_W)) sz)) (UQxr E (fun u : Nat => True) (fun u : Nat => sb) (fun u : Nat => ([(sb, .inr (10, [.ref u, iv 0, iv sm, iv (16 + 1)]))] : va_W) ++ ([(sv, ia (E.2 3) 16 sf)] : va_W) ++ ([(u, ia (E.2 3) 34 (ui (cp0 sf (fun _ => 0) 16) 16 v))] : va_W)) (va_A (([(sb, .inr (10, [.ref sv, iv 0, iv sm, iv 16]))] : va_W) ++ ([(sv, ia (E.2 3) 16 sf)] : va_W)) sz)) 1 34 (va_A (([(sb, .inr (10, [.ref sv, iv 0, iv sm, iv 16]))] : va_W) ++ ([(sv, ia (E.2 3) 16 sf)] : va_W)) sz) := by
  refine Met.ofW (cc := cJ3_append_3) (maxL := 2) (ret := (some (.object "java/lang/StringBuilder"))) (by decide) rfl ?_
  intro p e s m args below meth c s₁ B hml hv
  obtain ⟨rfl, hsz, hP, hK, hD0, hE⟩ := hv
  have hx := B.exec
  have hb := B.bytes
  have hr := B.returns
  have hts := atoms_spec (ws := (ws_ yJ3_append_3 cJ3_append_3 2 (some (.object "java/lang/StringBuilder")))) B.pre
  have hts : ∀ w ∈ lw_all, w.before _ s = true := fun w h => hts w (List.mem_cons_of_mem _ h)
  have hown : s.vm.findClass RJ3 = some m.cls := findClass_of_methodNamed B.named
  have hlocks := B.notSynchronized
  subst hsz
  have hD := hD0.self (sz := s.heap.size)
  generalize hAe : va_A (([(sb, .inr (10, [.ref sv, iv 0, iv sm, iv 16]))] : va_W) ++ ([(sv, ia (E.2 3) 16 sf)] : va_W)) s.heap.size = A at hD hE ⊢
  have hA : ∀ q : Nat, s.heap.size ≤ q → A q := fun q h => by rw [← hAe]; exact Or.inr h
  have hS : va_S A s.heap s.heap [] := va_S.rf
  have hl := lv_entry ([.ref sb, iv v]) (n := 2) (Nat.le_of_ble_eq_true rfl)
  rw [lg_entry_eq]
  generalize (lg_sl ([.ref sb, iv v]) ++ List.replicate (2 - (lg_sl ([.ref sb, iv v])).length) Slot.unset).toArray = ls at hl ⊢
  have hl : lv_has ls 2 [(0, .ref sb), (1, iv v)] := hl
  refine lv_aload_n hx hb dJ3_append_3_0 rfl (lv_at hl 0 rfl) ?_
  refine lv_iload_n hx hb dJ3_append_3_1 rfl (lv_at hl 1 rfl) ?_
  refine n_cuxrS (x := fun u_1 => sb) (w2 := fun u_1 => ([(sb, .inr (10, [.ref u_1, iv 0, iv sm, iv (16 + 1)]))] : va_W) ++ ([(sv, ia (E.2 3) 16 sf)] : va_W) ++ ([(u_1, ia (E.2 3) 34 (ui (cp0 sf (fun _ => 0) 16) 16 v))] : va_W)) (va_runSU (As := [iv v]) (rest := []) ((hK.1.1 10 _ rfl).2) ⟨hx, hb, hml, hown, hts⟩ (mt_J2_appendC_g l E sb sm sv sf v (by omega) (by first | assumption | exact hb7) _) (va_cwSU 1 hts (lw_SU q1673 q2543 q294 q1674 q99 q1675) rfl rfl rfl (by decide +kernel) ⟨Nat.le_of_ble_eq_true rfl, Nat.le_of_ble_eq_true rfl⟩) (UX_V hP hK (hD) hE hS (va_A_in hD hS hA) (va_recv hK.1 hP (ci := 10) (q0 := 0) rfl rfl)) rfl rfl hl.1 rfl (lv_room (Nat.le_of_ble_eq_true rfl)) dJ3_append_3_2 ⟨Nat.le_of_ble_eq_true rfl, Nat.le_of_ble_eq_true rfl⟩) hP hD hS hA [0, 1] [] [0, 1, 2] rfl rfl rfl rfl rfl (fun _ => rfl) (fun u_1 H locs hu_1 hP hD hS => ?_)
  have hu_1 : True := hu_1
  have hP : va_P E.1 CL (([(sb, .inr (10, [.ref u_1, iv 0, iv sm, iv (16 + 1)]))] : va_W) ++ ([(sv, ia (E.2 3) 16 sf)] : va_W) ++ ([(u_1, ia (E.2 3) 34 (ui (cp0 sf (fun _ => 0) 16) 16 v))] : va_W)) H := hP
  have hD : va_D A (([(sb, .inr (10, [.ref u_1, iv 0, iv sm, iv (16 + 1)]))] : va_W) ++ ([(sv, ia (E.2 3) 16 sf)] : va_W) ++ ([(u_1, ia (E.2 3) 34 (ui (cp0 sf (fun _ => 0) 16) 16 v))] : va_W)) := hD
  refine lv_pop hx hb dJ3_append_3_5 rfl ?_
  refine lv_aload_n hx hb dJ3_append_3_6 rfl (lv_at hl 0 rfl) ?_
  refine W.widen (k := 1) (n := 34) (Nat.le_of_ble_eq_true rfl) (Nat.le_of_ble_eq_true rfl) ?_
  exact W.aret hx hb hr (Or.inl ⟨_, rfl⟩) (Or.inr ⟨_, rfl⟩) (fun tt_ ht_ hW_ => ⟨⟨u_1, rfl, trivial, by rw [ht_]; exact hP, hD⟩, hS.F ht_⟩) hS.2.2 dJ3_append_3_7
set_option maxHeartbeats 1000000 in
set_option maxRecDepth 100000 in
theorem mt_X1_type_b (l : Launch) (E : EE) (cw : Nat) (stA : Nat) (oaA : Nat) (osA : Nat) (hsn : Int) (hdA : Nat) (spA : Nat) (lnA : Nat) (prA : Nat) (ep : Int) (lt : Option Nat) (bf : Nat) (bm : Int) (bv : Nat) (bg : Int → Int) (v : Int) (hst : l.stackTraces = false) (hv : 0 ≤ v ∧ v < 65536) (hb7 : B7 bg) (sz : Nat) : vx_Met l yX1_type (ws_ yX1_type cX1_type 2 (some .int)) { frames := 7, cells := 3, slots := 46, locals := 132 } (va_Pc [.ref cw, iv v] (UX E (([(cw, .inr (1, [.ref stA, .ref oaA, .ref osA, iv hsn, .ref hdA, .ref spA, .ref bf, .ref lnA, .ref prA, iv ep, va_rf lt]))] : va_W) ++ ([(bf, .inr (10, [.ref bv, iv 0, iv bm, iv 16]))] : va_W) ++ ([(bv, ia (E.2 3) 16 bg)] : va_W)) sz)) (UQx E (fun u : Nat => c_type 16 v = 0) (fun u : Nat => 16 + 1) (fun u : Nat => ([(cw, .inr (1, [.ref stA, .ref oaA, .ref osA, iv hsn, .ref hdA, .ref spA, .ref bf, .ref lnA, .ref prA, iv ep, va_rf lt]))] : va_W) ++ ([(bf, .inr (10, [.ref u, iv 0, iv bm, iv (16 + 1)]))] : va_W) ++ ([(bv, ia (E.2 3) 16 bg)] : va_W) ++ ([(u, ia (E.2 3) 34 (ui (cp0 bg (fun _ => 0) 16) 16 v))] : va_W)) (va_A (([(cw, .inr (1, [.ref stA, .ref oaA, .ref osA, iv hsn, .ref hdA, .ref spA, .ref bf, .ref lnA, .ref prA, iv ep, va_rf lt]))] : va_W) ++ ([(bf, .inr (10, [.ref bv, iv 0, iv bm, iv 16]))] : va_W) ++ ([(bv, ia (E.2 3) 16 bg)] : va_W)) sz)) (UXx E (fun (En : String) (u : Unit) => 0 < c_type 16 v ∧ En = nmX "java/lang/IllegalArgumentException" "java/lang/IllegalStateException" "" (c_type 16 v)) (fun u : Unit => ([(cw, .inr (1, [.ref stA, .ref oaA, .ref osA, iv hsn, .ref hdA, .ref spA, .ref bf, .ref lnA, .ref prA, iv ep, va_rf lt]))] : va_W) ++ ([(bf, .inr (10, [.ref bv, iv 0, iv bm, iv 16]))] : va_W) ++ ([(bv, ia (E.2 3) 16 bg)] : va_W)) (fun u : Unit => none) (va_A (([(cw, .inr (1, [.ref stA, .ref oaA, .ref osA, iv hsn, .ref hdA, .ref spA, .ref bf, .ref lnA, .ref prA, iv ep, va_rf lt]))] : va_W) ++ ([(bf, .inr (10, [.ref bv, iv 0, iv bm, iv 16]))] : va_W) ++ ([(bv, ia (E.2 3) 16 bg)] : va_W)) sz)) 3 46 (va_A (([(cw, .inr (1, [.ref stA, .ref oaA, .ref osA, iv hsn, .ref hdA, .ref spA, .ref bf, .ref lnA, .ref prA, iv ep, va_rf lt]))] : va_W) ++ ([(bf, .inr (10, [.ref bv, iv 0, iv bm, iv 16]))] : va_W) ++ ([(bv, ia (E.2 3) 16 bg)] : va_W)) sz) := by
  refine vx_ofW (cc := cX1_type) (maxL := 2) (ret := (some .int)) (by decide) rfl ?_
  intro p e s m args below meth c s₁ B hml htb hv
  obtain ⟨rfl, hsz, hP, hK, hD0, hE⟩ := hv
  have hx := B.exec
  have hb := B.bytes
  have hr := B.returns
  have hts := atoms_spec (ws := (ws_ yX1_type cX1_type 2 (some .int))) B.pre
  have hts : ∀ w ∈ lw_all, w.before _ s = true := fun w h => hts w (List.mem_cons_of_mem _ h)
  have hown : s.vm.findClass RX1 = some m.cls := findClass_of_methodNamed B.named
  have hlocks := B.notSynchronized
  subst hsz
  have hD := hD0.self (sz := s.heap.size)
  generalize hAe : va_A (([(cw, .inr (1, [.ref stA, .ref oaA, .ref osA, iv hsn, .ref hdA, .ref spA, .ref bf, .ref lnA, .ref prA, iv ep, va_rf lt]))] : va_W) ++ ([(bf, .inr (10, [.ref bv, iv 0, iv bm, iv 16]))] : va_W) ++ ([(bv, ia (E.2 3) 16 bg)] : va_W)) s.heap.size = A at hD hE ⊢
  have hA : ∀ q : Nat, s.heap.size ≤ q → A q := fun q h => by rw [← hAe]; exact Or.inr h
  have hS : va_S A s.heap s.heap [] := va_S.rf
  have hl := lv_entry ([.ref cw, iv v]) (n := 2) (Nat.le_of_ble_eq_true rfl)
  rw [lg_entry_eq]
  generalize (lg_sl ([.ref cw, iv v]) ++ List.replicate (2 - (lg_sl ([.ref cw, iv v])).length) Slot.unset).toArray = ls at hl ⊢
  have hl : lv_has ls 2 [(0, .ref cw), (1, iv v)] := hl
  refine lv_iload_n hx hb dX1_type_0 rfl (lv_at hl 1 rfl) ?_
  refine lv_bipush (v := iI 32) hx hb dX1_type_1 (by decide) ?_
  refine lv_bipush (v := iI 126) hx hb dX1_type_3 (by decide) ?_
  refine n_csi (x := b2 (decide (32 ≤ v ∧ v ≤ 126))) (va_runS (As := [iv v, iv 32, iv 126]) (rest := []) ⟨hx, hb, hml, hown, hts⟩ (mt_X1_inRange l E v 32 126 (by omega) (by omega) (by omega)) (va_cwS 3 hts (lw_S q882 q883 q94 q884) rfl rfl rfl (by decide +kernel) ⟨Nat.le_of_ble_eq_true rfl, Nat.le_of_ble_eq_true rfl⟩) (PW_S (hP.sub (ws' := []) [] rfl) hK) rfl rfl hl.1 rfl (lv_room (Nat.le_of_ble_eq_true rfl)) dX1_type_5 ⟨Nat.le_of_ble_eq_true rfl, Nat.le_of_ble_eq_true rfl⟩) ?_
  have hz_1 : s.heap.size ≤ s.heap.size := hS.1
  refine n_txvS (w2 := fun u_2 => ([(cw, .inr (1, [.ref stA, .ref oaA, .ref osA, iv hsn, .ref hdA, .ref spA, .ref bf, .ref lnA, .ref prA, iv ep, va_rf lt]))] : va_W) ++ ([(bf, .inr (10, [.ref bv, iv 0, iv bm, iv 16]))] : va_W) ++ ([(bv, ia (E.2 3) 16 bg)] : va_W)) (w3 := fun u_3 => ([(cw, .inr (1, [.ref stA, .ref oaA, .ref osA, iv hsn, .ref hdA, .ref spA, .ref bf, .ref lnA, .ref prA, iv ep, va_rf lt]))] : va_W) ++ ([(bf, .inr (10, [.ref bv, iv 0, iv bm, iv 16]))] : va_W) ++ ([(bv, ia (E.2 3) 16 bg)] : va_W)) (vx_runS (As := [iv (b2 (decide (32 ≤ v ∧ v ≤ 126)))]) (rest := []) ⟨hx, hb, hml, hown, hts⟩ (mt_X1_checkArgument l E (decide (32 ≤ v ∧ v ≤ 126)) (by exact hst) _) (va_cwS 1 hts (lw_S q966 q890 q94 q891) rfl rfl rfl (by decide +kernel) ⟨Nat.le_of_ble_eq_true rfl, Nat.le_of_ble_eq_true rfl⟩) (UX_S (hP.sub (ws' := []) [] rfl) hK (hD.sub (ws' := []) [] rfl rfl) hE hS (va_sub_free hD hS hA [] rfl)) rfl rfl hl.1 rfl (lv_room (Nat.le_of_ble_eq_true rfl)) dX1_type_8 ⟨Nat.le_of_ble_eq_true rfl, Nat.le_of_ble_eq_true rfl⟩) hP hD hS hA [] [0, 1, 2] [0, 1, 2] [0, 1, 2] rfl rfl rfl rfl rfl (fun _ => rfl) rfl (fun _ => rfl) ?_ ?_
  · intro En ce q9 u_3 H locs hCx hP hD hS hxf hq9 hce hcv hcl
    have hCx : En = "java/lang/IllegalArgumentException" ∧ (decide (32 ≤ v ∧ v ≤ 126)) = false := hCx
    have hP : va_P E.1 CL (([(cw, .inr (1, [.ref stA, .ref oaA, .ref osA, iv hsn, .ref hdA, .ref spA, .ref bf, .ref lnA, .ref prA, iv ep, va_rf lt]))] : va_W) ++ ([(bf, .inr (10, [.ref bv, iv 0, iv bm, iv 16]))] : va_W) ++ ([(bv, ia (E.2 3) 16 bg)] : va_W)) H := hP
    have hD : va_D A (([(cw, .inr (1, [.ref stA, .ref oaA, .ref osA, iv hsn, .ref hdA, .ref spA, .ref bf, .ref lnA, .ref prA, iv ep, va_rf lt]))] : va_W) ++ ([(bf, .inr (10, [.ref bv, iv 0, iv bm, iv 16]))] : va_W) ++ ([(bv, ia (E.2 3) 16 bg)] : va_W)) := hD
    exact n_out () (by exact cx_k (k := 1) (by exact c_type_1 (of_decide_eq_false hCx.2)) (by decide) hCx.1) hP hD hS hxf (Nat.le_trans hz_1 hq9) hce hcv hcl (fun x hx9 => (htb x hx9).elim) hlocks (Nat.le_of_ble_eq_true rfl) (Nat.le_of_ble_eq_true rfl)
  · intro u_2 H locs hC hP hD hS
    have hu_2 : (decide (32 ≤ v ∧ v ≤ 126)) = true := hC
    have hP : va_P E.1 CL (([(cw, .inr (1, [.ref stA, .ref oaA, .ref osA, iv hsn, .ref hdA, .ref spA, .ref bf, .ref lnA, .ref prA, iv ep, va_rf lt]))] : va_W) ++ ([(bf, .inr (10, [.ref bv, iv 0, iv bm, iv 16]))] : va_W) ++ ([(bv, ia (E.2 3) 16 bg)] : va_W)) H := hP
    have hD : va_D A (([(cw, .inr (1, [.ref stA, .ref oaA, .ref osA, iv hsn, .ref hdA, .ref spA, .ref bf, .ref lnA, .ref prA, iv ep, va_rf lt]))] : va_W) ++ ([(bf, .inr (10, [.ref bv, iv 0, iv bm, iv 16]))] : va_W) ++ ([(bv, ia (E.2 3) 16 bg)] : va_W)) := hD
    have hin := of_decide_eq_true hu_2
    refine lv_aload_n hx hb dX1_type_11 rfl (lv_at hl 0 rfl) ?_
    refine va_get (D := E.1) (ci := 1) (v := .ref bf) (C := RX1) (T := TX1) (N := 11) hx hb hts in_X1 hown hK.1 hP 0 rfl rfl 6 (by decide) (hts _ q478) (fun _ h9 => h9) rfl dX1_type_12 ?_
    refine n_csi (x := 16) (va_runV (As := []) (rest := []) ⟨hx, hb, hml, hown, hts⟩ (mt_J3_length l E bf bv bm 16 ) (cwV 0 hts (lw_V q1695 q1585 q2544 q100 q1586) rfl rfl rfl (by decide +kernel) ⟨Nat.le_of_ble_eq_true rfl, Nat.le_of_ble_eq_true rfl⟩) (PW_V (hP.sub (ws' := [(bf, .inr (10, [.ref bv, iv 0, iv bm, iv 16]))]) [1] rfl) hK (va_recv hK.1 hP (ci := 10) (q0 := 1) rfl rfl)) rfl rfl hl.1 rfl (lv_room (Nat.le_of_ble_eq_true rfl)) dX1_type_15 ⟨Nat.le_of_ble_eq_true rfl, Nat.le_of_ble_eq_true rfl⟩) ?_
    refine lv_bipush (v := iI 60) hx hb dX1_type_18 (by decide) ?_
    refine n_icmp_ge (tgt := 27) hx hb dX1_type_20 (by decide) (by omega) (by omega) (fun c_4 => absurd c_4 (by decide)) (fun _ => ?_)
    refine lv_iconst (v := iI 1) hx hb dX1_type_23 rfl ?_
    refine lv_goto (tgt := 28) hx hb dX1_type_24 (by decide) ?_
    have hz_5 : s.heap.size ≤ H.size := hS.1
    refine n_txvS (w2 := fun u_6 => ([(cw, .inr (1, [.ref stA, .ref oaA, .ref osA, iv hsn, .ref hdA, .ref spA, .ref bf, .ref lnA, .ref prA, iv ep, va_rf lt]))] : va_W) ++ ([(bf, .inr (10, [.ref bv, iv 0, iv bm, iv 16]))] : va_W) ++ ([(bv, ia (E.2 3) 16 bg)] : va_W)) (w3 := fun u_7 => ([(cw, .inr (1, [.ref stA, .ref oaA, .ref osA, iv hsn, .ref hdA, .ref spA, .ref bf, .ref lnA, .ref prA, iv ep, va_rf lt]))] : va_W) ++ ([(bf, .inr (10, [.ref bv, iv 0, iv bm, iv 16]))] : va_W) ++ ([(bv, ia (E.2 3) 16 bg)] : va_W)) (vx_runS (As := [iv 1]) (rest := []) ⟨hx, hb, hml, hown, hts⟩ (mt_X1_checkState l E true (by exact hst) _) (va_cwS 1 hts (lw_S q1735 q911 q94 q912) rfl rfl rfl (by decide +kernel) ⟨Nat.le_of_ble_eq_true rfl, Nat.le_of_ble_eq_true rfl⟩) (UX_S (hP.sub (ws' := []) [] rfl) hK (hD.sub (ws' := []) [] rfl rfl) hE hS (va_sub_free hD hS hA [] rfl)) rfl rfl hl.1 rfl (lv_room (Nat.le_of_ble_eq_true rfl)) dX1_type_28 ⟨Nat.le_of_ble_eq_true rfl, Nat.le_of_ble_eq_true rfl⟩) hP hD hS hA [] [0, 1, 2] [0, 1, 2] [0, 1, 2] rfl rfl rfl rfl rfl (fun _ => rfl) rfl (fun _ => rfl) ?_ ?_
    · intro En ce q9 u_7 H locs hCx hP hD hS hxf hq9 hce hcv hcl
      have hCx : En = "java/lang/IllegalStateException" ∧ true = false := hCx
      have hP : va_P E.1 CL (([(cw, .inr (1, [.ref stA, .ref oaA, .ref osA, iv hsn, .ref hdA, .ref spA, .ref bf, .ref lnA, .ref prA, iv ep, va_rf lt]))] : va_W) ++ ([(bf, .inr (10, [.ref bv, iv 0, iv bm, iv 16]))] : va_W) ++ ([(bv, ia (E.2 3) 16 bg)] : va_W)) H := hP
      have hD : va_D A (([(cw, .inr (1, [.ref stA, .ref oaA, .ref osA, iv hsn, .ref hdA, .ref spA, .ref bf, .ref lnA, .ref prA, iv ep, va_rf lt]))] : va_W) ++ ([(bf, .inr (10, [.ref bv, iv 0, iv bm, iv 16]))] : va_W) ++ ([(bv, ia (E.2 3) 16 bg)] : va_W)) := hD
      exact absurd hCx.2 (by decide)
    · intro u_6 H locs hC hP hD hS
      have hu_6 : true = true := hC
      have hP : va_P E.1 CL (([(cw, .inr (1, [.ref stA, .ref oaA, .ref osA, iv hsn, .ref hdA, .ref spA, .ref bf, .ref lnA, .ref prA, iv ep, va_rf lt]))] : va_W) ++ ([(bf, .inr (10, [.ref bv, iv 0, iv bm, iv 16]))] : va_W) ++ ([(bv, ia (E.2 3) 16 bg)] : va_W)) H := hP
      have hD : va_D A (([(cw, .inr (1, [.ref stA, .ref oaA, .ref osA, iv hsn, .ref hdA, .ref spA, .ref bf, .ref lnA, .ref prA, iv ep, va_rf lt]))] : va_W) ++ ([(bf, .inr (10, [.ref bv, iv 0, iv bm, iv 16]))] : va_W) ++ ([(bv, ia (E.2 3) 16 bg)] : va_W)) := hD
      refine lv_aload_n hx hb dX1_type_31 rfl (lv_at hl 0 rfl) ?_
      refine va_get (D := E.1) (ci := 1) (v := .ref bf) (C := RX1) (T := TX1) (N := 11) hx hb hts in_X1 hown hK.1 hP 0 rfl rfl 6 (by decide) (hts _ q478) (fun _ h9 => h9) rfl dX1_type_32 ?_
      refine lv_iload_n hx hb dX1_type_35 rfl (lv_at hl 1 rfl) ?_
      refine n_cuxrS (x := fun u_8 => bf) (w2 := fun u_8 => ([(cw, .inr (1, [.ref stA, .ref oaA, .ref osA, iv hsn, .ref hdA, .ref spA, .ref bf, .ref lnA, .ref prA, iv ep, va_rf lt]))] : va_W) ++ ([(bf, .inr (10, [.ref u_8, iv 0, iv bm, iv (16 + 1)]))] : va_W) ++ ([(bv, ia (E.2 3) 16 bg)] : va_W) ++ ([(u_8, ia (E.2 3) 34 (ui (cp0 bg (fun _ => 0) 16) 16 v))] : va_W)) (va_runV (As := [iv v]) (rest := []) ⟨hx, hb, hml, hown, hts⟩ (mt_J3_appendC_g l E bf bm bv bg v (by omega) (by first | assumption | exact hb7) _) (cwV 1 hts (lw_V q1736 q1670 q1671 q100 q1672) rfl rfl rfl (by decide +kernel) ⟨Nat.le_of_ble_eq_true rfl, Nat.le_of_ble_eq_true rfl⟩) (UX_V (hP.sub (ws' := ([(bf, .inr (10, [.ref bv, iv 0, iv bm, iv 16]))] : va_W) ++ ([(bv, ia (E.2 3) 16 bg)] : va_W)) [1, 2] rfl) hK (hD.sub (ws' := ([(bf, .inr (10, [.ref bv, iv 0, iv bm, iv 16]))] : va_W) ++ ([(bv, ia (E.2 3) 16 bg)] : va_W)) [1, 2] rfl rfl) hE hS (va_sub_free hD hS hA [1, 2] rfl) (va_recv hK.1 hP (ci := 10) (q0 := 1) rfl rfl)) rfl rfl hl.1 rfl (lv_room (Nat.le_of_ble_eq_true rfl)) dX1_type_36 ⟨Nat.le_of_ble_eq_true rfl, Nat.le_of_ble_eq_true rfl⟩) hP hD hS hA [1, 2] [0] [0, 1, 2, 3] rfl rfl rfl rfl rfl (fun _ => rfl) (fun u_8 H locs hu_8 hP hD hS => ?_)
      have hu_8 : True := hu_8
      have hP : va_P E.1 CL (([(cw, .inr (1, [.ref stA, .ref oaA, .ref osA, iv hsn, .ref hdA, .ref spA, .ref bf, .ref lnA, .ref prA, iv ep, va_rf lt]))] : va_W) ++ ([(bf, .inr (10, [.ref u_8, iv 0, iv bm, iv (16 + 1)]))] : va_W) ++ ([(bv, ia (E.2 3) 16 bg)] : va_W) ++ ([(u_8, ia (E.2 3) 34 (ui (cp0 bg (fun _ => 0) 16) 16 v))] : va_W)) H := hP
      have hD : va_D A (([(cw, .inr (1, [.ref stA, .ref oaA, .ref osA, iv hsn, .ref hdA, .ref spA, .ref bf, .ref lnA, .ref prA, iv ep, va_rf lt]))] : va_W) ++ ([(bf, .inr (10, [.ref u_8, iv 0, iv bm, iv (16 + 1)]))] : va_W) ++ ([(bv, ia (E.2 3) 16 bg)] : va_W) ++ ([(u_8, ia (E.2 3) 34 (ui (cp0 bg (fun _ => 0) 16) 16 v))] : va_W)) := hD
      refine lv_pop hx hb dX1_type_39 rfl ?_
      refine lv_aload_n hx hb dX1_type_40 rfl (lv_at hl 0 rfl) ?_
      refine va_get (D := E.1) (ci := 1) (v := .ref bf) (C := RX1) (T := TX1) (N := 11) hx hb hts in_X1 hown hK.1 hP 0 rfl rfl 6 (by decide) (hts _ q478) (fun _ h9 => h9) rfl dX1_type_41 ?_
      refine n_csi (x := 16 + 1) (va_runV (As := []) (rest := []) ⟨hx, hb, hml, hown, hts⟩ (mt_J3_length l E bf u_8 bm (16 + 1) ) (cwV 0 hts (lw_V q1695 q1585 q2544 q100 q1586) rfl rfl rfl (by decide +kernel) ⟨Nat.le_of_ble_eq_true rfl, Nat.le_of_ble_eq_true rfl⟩) (PW_V (hP.sub (ws' := [(bf, .inr (10, [.ref u_8, iv 0, iv bm, iv (16 + 1)]))]) [1] rfl) hK (va_recv hK.1 hP (ci := 10) (q0 := 1) rfl rfl)) rfl rfl hl.1 rfl (lv_room (Nat.le_of_ble_eq_true rfl)) dX1_type_44 ⟨Nat.le_of_ble_eq_true rfl, Nat.le_of_ble_eq_true rfl⟩) ?_
      refine vx_ret ?_
      refine W.widen (k := 3) (n := 46) (Nat.le_of_ble_eq_true rfl) (Nat.le_of_ble_eq_true rfl) ?_
      exact W.iret (v := iI (16 + 1)) hx hb hr (fun tt_ ht_ hW_ => ⟨⟨iI (16 + 1), u_8, rfl, ⟨by exact c_type_0 hin (by decide), rfl⟩, by rw [ht_]; exact hP, hD⟩, hS.F ht_⟩) hS.2.2 dX1_type_47
