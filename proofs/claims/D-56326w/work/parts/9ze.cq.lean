set_option maxHeartbeats 1000000 in
set_option maxRecDepth 100000 in
theorem mt_J7_clear_a (l : Launch) (E : EE) (al : Nat) (amc : Int) (hmc : 0 ≤ amc ∧ amc < 100000) (sz : Nat) : Met l yJ7_clear (ws_ yJ7_clear cJ7_clear 4 none) { frames := 0, cells := 0, slots := 0, locals := 0 } (va_Pc [.ref al] (UW E ([(al, .inr (11, [iv amc, .ref (EX E 71), iv 0]))]) sz)) (UQv E ([(al, .inr (11, [iv (amc + 1), .ref (EX E 71), iv 0]))]) (va_A ([(al, .inr (11, [iv amc, .ref (EX E 71), iv 0]))]) sz)) 0 0 (va_A ([(al, .inr (11, [iv amc, .ref (EX E 71), iv 0]))]) sz) := by
  refine Met.ofW (cc := cJ7_clear) (maxL := 4) (ret := none) (by decide) rfl ?_
  intro p e s m args below meth c s₁ B hml hv
  obtain ⟨rfl, hsz, hP, hK, hD0⟩ := hv
  have hx := B.exec
  have hb := B.bytes
  have hr := B.returns
  have hts := atoms_spec (ws := (ws_ yJ7_clear cJ7_clear 4 none)) B.pre
  have hts : ∀ w ∈ lw_all, w.before _ s = true := fun w h => hts w (List.mem_cons_of_mem _ h)
  have hown : s.vm.findClass RJ7 = some m.cls := findClass_of_methodNamed B.named
  have hlocks := B.notSynchronized
  subst hsz
  have hD := hD0.self (sz := s.heap.size)
  generalize hAe : va_A ([(al, .inr (11, [iv amc, .ref (EX E 71), iv 0]))]) s.heap.size = A at hD ⊢
  have hA : ∀ q : Nat, s.heap.size ≤ q → A q := fun q h => by rw [← hAe]; exact Or.inr h
  have hS : va_S A s.heap s.heap [] := va_S.rf
  have hl := lv_entry ([.ref al]) (n := 4) (Nat.le_of_ble_eq_true rfl)
  rw [lg_entry_eq]
  generalize (lg_sl ([.ref al]) ++ List.replicate (4 - (lg_sl ([.ref al])).length) Slot.unset).toArray = ls at hl ⊢
  have hl : lv_has ls 4 [(0, .ref al)] := hl
  refine lv_aload_n hx hb dJ7_clear_0 rfl (lv_at hl 0 rfl) ?_
  refine lv_dup hx hb dJ7_clear_1 rfl ?_
  refine va_get (D := E.1) (ci := 11) (v := iv amc) (C := RJ7) (T := TJ7) (N := 3) hx hb hts in_J7 hown hK.1 hP 0 rfl rfl 0 (by decide) (hts _ q320) (u_same (hts _ q319)) rfl dJ7_clear_2 ?_
  refine lv_iconst (v := iI 1) hx hb dJ7_clear_5 rfl ?_
  refine n_iadd hx hb dJ7_clear_6 ?_
  refine va_put (D := E.1) (ci := 11) (v := iv (amc + 1)) (ty := .int) (C := RJ7) (T := TJ7) (N := 3) hx hb hts in_J7 tyJ7 tyJ7_ok nmJ7 hown hK.1 hP hD hS 0 rfl rfl 0 (by decide) (hts _ q320) (u_same (hts _ q319)) rfl (by decide +kernel) rfl rfl (Nat.le_of_ble_eq_true rfl) dJ7_clear_7 (fun H locs hP hD hS => ?_)
  have hP : va_P E.1 CL ([(al, .inr (11, [iv (amc + 1), .ref (EX E 71), iv 0]))]) H := hP
  have hD : va_D A ([(al, .inr (11, [iv (amc + 1), .ref (EX E 71), iv 0]))]) := hD
  refine lv_aload_n hx hb dJ7_clear_10 rfl (lv_at hl 0 rfl) ?_
  refine va_get (D := E.1) (ci := 11) (v := .ref (EX E 71)) (C := RJ7) (T := TJ7) (N := 3) hx hb hts in_J7 hown hK.1 hP 0 rfl rfl 1 (by decide) (hts _ q313) (fun _ h9 => h9) rfl dJ7_clear_11 ?_
  refine lv_astore_n (lv' := [(1, .ref (EX E 71)), (0, .ref al)]) hx hb dJ7_clear_14 rfl hl (by decide) rfl (fun ls hl => ?_)
  refine lv_aload_n hx hb dJ7_clear_15 rfl (lv_at hl 1 rfl) ?_
  refine va_get (D := E.1) (ci := 11) (v := iv 0) (C := RJ7) (T := TJ7) (N := 3) hx hb hts in_J7 hown hK.1 hP 0 rfl rfl 2 (by decide) (hts _ q316) (fun _ h9 => h9) rfl dJ7_clear_16 ?_
  refine lv_istore_n (lv' := [(2, iv 0), (1, .ref (EX E 71)), (0, .ref al)]) hx hb dJ7_clear_19 rfl hl (by decide) rfl (fun ls hl => ?_)
  refine lv_aload_n hx hb dJ7_clear_20 rfl (lv_at hl 2 rfl) ?_
  refine lv_iconst (v := iI 0) hx hb dJ7_clear_21 rfl ?_
  refine lv_dup_x1 hx hb dJ7_clear_22 rfl rfl ?_
  refine va_put (D := E.1) (ci := 11) (v := iv 0) (ty := .int) (C := RJ7) (T := TJ7) (N := 3) hx hb hts in_J7 tyJ7 tyJ7_ok nmJ7 hown hK.1 hP hD hS 0 rfl rfl 2 (by decide) (hts _ q316) (fun _ h9 => h9) rfl (by decide +kernel) rfl rfl (Nat.le_of_ble_eq_true rfl) dJ7_clear_23 (fun H locs hP hD hS => ?_)
  have hP : va_P E.1 CL ([(al, .inr (11, [iv (amc + 1), .ref (EX E 71), iv 0]))]) H := hP
  have hD : va_D A ([(al, .inr (11, [iv (amc + 1), .ref (EX E 71), iv 0]))]) := hD
  refine lv_istore_n (lv' := [(3, iv 0), (2, iv 0), (1, .ref (EX E 71)), (0, .ref al)]) hx hb dJ7_clear_26 rfl hl (by decide) rfl (fun ls hl => ?_)
  refine lv_iload_n hx hb dJ7_clear_27 rfl (lv_at hl 0 rfl) ?_
  refine lv_iload_n hx hb dJ7_clear_28 rfl (lv_at hl 1 rfl) ?_
  refine n_icmp_ge (tgt := 42) hx hb dJ7_clear_29 (by decide) (by omega) (by omega) (fun _ => ?_) (fun c_1 => absurd c_1 (by decide))
  exact W.vret hx hb hr (fun tt_ ht_ hW_ => ⟨⟨(), rfl, trivial, by rw [ht_]; exact hP, hD⟩, hS.F ht_⟩) hS.2.2 dJ7_clear_42
set_option maxHeartbeats 1000000 in
set_option maxRecDepth 100000 in
theorem mt_J7_clear_b (l : Launch) (E : EE) (al : Nat) (amc : Int) (an : Int) (ad : Nat) (fq : Int → Option Nat) (hmc : 0 ≤ amc ∧ amc < 100000) (han : 0 ≤ an ∧ an ≤ 10) (sz : Nat) : Met l yJ7_clear (ws_ yJ7_clear cJ7_clear 4 none) { frames := 0, cells := 0, slots := 0, locals := 0 } (va_Pc [.ref al] (UW E (([(al, .inr (11, [iv amc, .ref ad, iv an]))] : va_W) ++ ([(ad, qa (E.2 4) 10 fq)] : va_W)) sz)) (UQxv E (fun u : Int → Option Nat => True) (fun u : Int → Option Nat => ([(al, .inr (11, [iv (amc + 1), .ref ad, iv 0]))] : va_W) ++ ([(ad, qa (E.2 4) 10 u)] : va_W)) (va_A (([(al, .inr (11, [iv amc, .ref ad, iv an]))] : va_W) ++ ([(ad, qa (E.2 4) 10 fq)] : va_W)) sz)) 0 0 (va_A (([(al, .inr (11, [iv amc, .ref ad, iv an]))] : va_W) ++ ([(ad, qa (E.2 4) 10 fq)] : va_W)) sz) := by
  refine Met.ofW (cc := cJ7_clear) (maxL := 4) (ret := none) (by decide) rfl ?_
  intro p e s m args below meth c s₁ B hml hv
  obtain ⟨rfl, hsz, hP, hK, hD0⟩ := hv
  have hx := B.exec
  have hb := B.bytes
  have hr := B.returns
  have hts := atoms_spec (ws := (ws_ yJ7_clear cJ7_clear 4 none)) B.pre
  have hts : ∀ w ∈ lw_all, w.before _ s = true := fun w h => hts w (List.mem_cons_of_mem _ h)
  have hown : s.vm.findClass RJ7 = some m.cls := findClass_of_methodNamed B.named
  have hlocks := B.notSynchronized
  subst hsz
  have hD := hD0.self (sz := s.heap.size)
  generalize hAe : va_A (([(al, .inr (11, [iv amc, .ref ad, iv an]))] : va_W) ++ ([(ad, qa (E.2 4) 10 fq)] : va_W)) s.heap.size = A at hD ⊢
  have hA : ∀ q : Nat, s.heap.size ≤ q → A q := fun q h => by rw [← hAe]; exact Or.inr h
  have hS : va_S A s.heap s.heap [] := va_S.rf
  have hl := lv_entry ([.ref al]) (n := 4) (Nat.le_of_ble_eq_true rfl)
  rw [lg_entry_eq]
  generalize (lg_sl ([.ref al]) ++ List.replicate (4 - (lg_sl ([.ref al])).length) Slot.unset).toArray = ls at hl ⊢
  have hl : lv_has ls 4 [(0, .ref al)] := hl
  refine lv_aload_n hx hb dJ7_clear_0 rfl (lv_at hl 0 rfl) ?_
  refine lv_dup hx hb dJ7_clear_1 rfl ?_
  refine va_get (D := E.1) (ci := 11) (v := iv amc) (C := RJ7) (T := TJ7) (N := 3) hx hb hts in_J7 hown hK.1 hP 0 rfl rfl 0 (by decide) (hts _ q320) (u_same (hts _ q319)) rfl dJ7_clear_2 ?_
  refine lv_iconst (v := iI 1) hx hb dJ7_clear_5 rfl ?_
  refine n_iadd hx hb dJ7_clear_6 ?_
  refine va_put (D := E.1) (ci := 11) (v := iv (amc + 1)) (ty := .int) (C := RJ7) (T := TJ7) (N := 3) hx hb hts in_J7 tyJ7 tyJ7_ok nmJ7 hown hK.1 hP hD hS 0 rfl rfl 0 (by decide) (hts _ q320) (u_same (hts _ q319)) rfl (by decide +kernel) rfl rfl (Nat.le_of_ble_eq_true rfl) dJ7_clear_7 (fun H locs hP hD hS => ?_)
  have hP : va_P E.1 CL (([(al, .inr (11, [iv (amc + 1), .ref ad, iv an]))] : va_W) ++ ([(ad, qa (E.2 4) 10 fq)] : va_W)) H := hP
  have hD : va_D A (([(al, .inr (11, [iv (amc + 1), .ref ad, iv an]))] : va_W) ++ ([(ad, qa (E.2 4) 10 fq)] : va_W)) := hD
  refine lv_aload_n hx hb dJ7_clear_10 rfl (lv_at hl 0 rfl) ?_
  refine va_get (D := E.1) (ci := 11) (v := .ref ad) (C := RJ7) (T := TJ7) (N := 3) hx hb hts in_J7 hown hK.1 hP 0 rfl rfl 1 (by decide) (hts _ q313) (fun _ h9 => h9) rfl dJ7_clear_11 ?_
  refine lv_astore_n (lv' := [(1, .ref ad), (0, .ref al)]) hx hb dJ7_clear_14 rfl hl (by decide) rfl (fun ls hl => ?_)
  refine lv_aload_n hx hb dJ7_clear_15 rfl (lv_at hl 1 rfl) ?_
  refine va_get (D := E.1) (ci := 11) (v := iv an) (C := RJ7) (T := TJ7) (N := 3) hx hb hts in_J7 hown hK.1 hP 0 rfl rfl 2 (by decide) (hts _ q316) (fun _ h9 => h9) rfl dJ7_clear_16 ?_
  refine lv_istore_n (lv' := [(2, iv an), (1, .ref ad), (0, .ref al)]) hx hb dJ7_clear_19 rfl hl (by decide) rfl (fun ls hl => ?_)
  refine lv_aload_n hx hb dJ7_clear_20 rfl (lv_at hl 2 rfl) ?_
  refine lv_iconst (v := iI 0) hx hb dJ7_clear_21 rfl ?_
  refine lv_dup_x1 hx hb dJ7_clear_22 rfl rfl ?_
  refine va_put (D := E.1) (ci := 11) (v := iv 0) (ty := .int) (C := RJ7) (T := TJ7) (N := 3) hx hb hts in_J7 tyJ7 tyJ7_ok nmJ7 hown hK.1 hP hD hS 0 rfl rfl 2 (by decide) (hts _ q316) (fun _ h9 => h9) rfl (by decide +kernel) rfl rfl (Nat.le_of_ble_eq_true rfl) dJ7_clear_23 (fun H locs hP hD hS => ?_)
  have hP : va_P E.1 CL (([(al, .inr (11, [iv (amc + 1), .ref ad, iv 0]))] : va_W) ++ ([(ad, qa (E.2 4) 10 fq)] : va_W)) H := hP
  have hD : va_D A (([(al, .inr (11, [iv (amc + 1), .ref ad, iv 0]))] : va_W) ++ ([(ad, qa (E.2 4) 10 fq)] : va_W)) := hD
  refine lv_istore_n (lv' := [(3, iv 0), (2, iv an), (1, .ref ad), (0, .ref al)]) hx hb dJ7_clear_26 rfl hl (by decide) rfl (fun ls hl => ?_)
  have l27 : ∀ (fu : Nat) (x3 : Int) (fw9 : Int → Option Nat), (0 ≤ x3 ∧ x3 ≤ an) → (an - x3 < (fu : Int)) → ∀ (H : Heap) (locs : List Loc), va_P E.1 CL (([(al, .inr (11, [iv (amc + 1), .ref ad, iv 0]))] : va_W) ++ ([(ad, qa (E.2 4) 10 fw9)] : va_W)) H → va_D A (([(al, .inr (11, [iv (amc + 1), .ref ad, iv 0]))] : va_W) ++ ([(ad, qa (E.2 4) 10 fw9)] : va_W)) → va_S A s.heap H locs → ∀ ls : Array Slot, lv_has ls 4 [(3, iv x3), (2, iv an), (1, .ref ad), (0, .ref al)] → W p l e (headSpec (ws_ yJ7_clear cJ7_clear 4 none) { frames := 0, cells := 0, slots := 0, locals := 0 }).room s m ([.ref al] : List Value).toArray below meth c H locs 0 0 (MQ below (UQxv E (fun u : Int → Option Nat => True) (fun u : Int → Option Nat => ([(al, .inr (11, [iv (amc + 1), .ref ad, iv 0]))] : va_W) ++ ([(ad, qa (E.2 4) 10 u)] : va_W)) A) ([.ref al] : List Value).toArray s 0 0 A) (F0 m 27 ls []) := by
    intro fu
    induction fu with
    | zero =>
      intro x3 fw9 il27_0 hm
      exfalso; omega
    | succ fu ih =>
      intro x3 fw9 il27_0 hm H locs hP hD hS ls hl
      have ihl27 := ih
      refine lv_iload_n hx hb dJ7_clear_27 rfl (lv_at hl 0 rfl) ?_
      refine lv_iload_n hx hb dJ7_clear_28 rfl (lv_at hl 1 rfl) ?_
      refine n_icmp_ge (tgt := 42) hx hb dJ7_clear_29 (by decide) (by omega) (by omega) (fun c_1 => ?_) (fun c_1 => ?_)
      · exact W.vret hx hb hr (fun tt_ ht_ hW_ => ⟨⟨fw9, rfl, trivial, by rw [ht_]; exact hP, hD⟩, hS.F ht_⟩) hS.2.2 dJ7_clear_42
      · refine lv_aload_n hx hb dJ7_clear_32 rfl (lv_at hl 2 rfl) ?_
        refine lv_iload_n hx hb dJ7_clear_33 rfl (lv_at hl 0 rfl) ?_
        refine lv_null hx hb dJ7_clear_34 ?_
        refine n_qastN (f := fw9) hx hb hK hP hD hS 1 4 rfl rfl (by omega) (by decide) dJ7_clear_35 (w2 := ([(al, .inr (11, [iv (amc + 1), .ref ad, iv 0]))] : va_W) ++ ([(ad, qa (E.2 4) 10 (uq fw9 x3 none))] : va_W)) rfl (fun H locs hP hD hS => ?_)
        refine lv_iinc (v := iI (x3 + 1)) (lv' := [(3, iv (x3 + 1)), (2, iv an), (1, .ref ad), (0, .ref al)]) hx hb dJ7_clear_36 hl (k := 0) rfl (iI_add _ _) (by decide) rfl (fun ls hl => ?_)
        refine lv_goto (tgt := 27) hx hb dJ7_clear_39 (by decide) ?_
        exact ihl27 (x3 + 1) (uq fw9 x3 none) (by first | omega | rfl) (by omega) H locs hP hD hS ls (lv_sub hl [0, 1, 2, 3] rfl)
  exact l27 11 0 fq (by first | omega | rfl | trivial) (by omega) H locs hP hD hS ls hl
set_option maxHeartbeats 1000000 in
set_option maxRecDepth 100000 in
theorem mt_J7_grow1 (l : Launch) (E : EE) (al : Nat) (amc : Int) (sz : Nat) : Met l yJ7_grow_2 (ws_ yJ7_grow_2 cJ7_grow_2 4 (some (.array (.object "java/lang/Object")))) { frames := 1, cells := 1, slots := 10, locals := 20 } (va_Pc [.ref al, iv 1] (UX E ([(al, .inr (11, [iv amc, .ref (EX E 71), iv 0]))]) sz)) (UQxr E (fun u : Nat => True) (fun u : Nat => u) (fun u : Nat => ([(al, .inr (11, [iv amc, .ref u, iv 0]))] : va_W) ++ ([(u, qa (E.2 4) 10 (fun _ => none))] : va_W)) (va_A ([(al, .inr (11, [iv amc, .ref (EX E 71), iv 0]))]) sz)) 1 10 (va_A ([(al, .inr (11, [iv amc, .ref (EX E 71), iv 0]))]) sz) := by
  refine Met.ofW (cc := cJ7_grow_2) (maxL := 4) (ret := (some (.array (.object "java/lang/Object")))) (by decide) rfl ?_
  intro p e s m args below meth c s₁ B hml hv
  obtain ⟨rfl, hsz, hP, hK, hD0, hE⟩ := hv
  have hx := B.exec
  have hb := B.bytes
  have hr := B.returns
  have hts := atoms_spec (ws := (ws_ yJ7_grow_2 cJ7_grow_2 4 (some (.array (.object "java/lang/Object"))))) B.pre
  have hts : ∀ w ∈ lw_all, w.before _ s = true := fun w h => hts w (List.mem_cons_of_mem _ h)
  have hown : s.vm.findClass RJ7 = some m.cls := findClass_of_methodNamed B.named
  have hlocks := B.notSynchronized
  subst hsz
  have hD := hD0.self (sz := s.heap.size)
  generalize hAe : va_A ([(al, .inr (11, [iv amc, .ref (EX E 71), iv 0]))]) s.heap.size = A at hD hE ⊢
  have hA : ∀ q : Nat, s.heap.size ≤ q → A q := fun q h => by rw [← hAe]; exact Or.inr h
  have hS : va_S A s.heap s.heap [] := va_S.rf
  have hl := lv_entry ([.ref al, iv 1]) (n := 4) (Nat.le_of_ble_eq_true rfl)
  rw [lg_entry_eq]
  generalize (lg_sl ([.ref al, iv 1]) ++ List.replicate (4 - (lg_sl ([.ref al, iv 1])).length) Slot.unset).toArray = ls at hl ⊢
  have hl : lv_has ls 4 [(0, .ref al), (1, iv 1)] := hl
  refine lv_aload_n hx hb dJ7_grow_2_0 rfl (lv_at hl 0 rfl) ?_
  refine va_get (D := E.1) (ci := 11) (v := .ref (EX E 71)) (C := RJ7) (T := TJ7) (N := 3) hx hb hts in_J7 hown hK.1 hP 0 rfl rfl 1 (by decide) (hts _ q313) (fun _ h9 => h9) rfl dJ7_grow_2_1 ?_
  refine va_tlen (v := iI 0) hx hb hE.ea hS rfl dJ7_grow_2_4 ?_
  refine lv_istore_n (lv' := [(2, iv 0), (0, .ref al), (1, iv 1)]) hx hb dJ7_grow_2_5 rfl hl (by decide) rfl (fun ls hl => ?_)
  refine lv_iload_n hx hb dJ7_grow_2_6 rfl (lv_at hl 0 rfl) ?_
  refine n_if_gt (tgt := 20) hx hb dJ7_grow_2_7 (by decide) (by omega) (fun c_1 => absurd c_1 (by decide)) (fun _ => ?_)
  refine lv_aload_n hx hb dJ7_grow_2_10 rfl (lv_at hl 1 rfl) ?_
  refine va_get (D := E.1) (ci := 11) (v := .ref (EX E 71)) (C := RJ7) (T := TJ7) (N := 3) hx hb hts in_J7 hown hK.1 hP 0 rfl rfl 1 (by decide) (hts _ q313) (fun _ h9 => h9) rfl dJ7_grow_2_11 ?_
  refine va_gets (v := .ref (EX E 71)) hx hb hE.ed hS hown (hts _ q311) (fun _ h9 => h9) dJ7_grow_2_14 ?_
  refine lv_acmp_eq (rx := some (EX E 71)) (ry := some (EX E 71)) (tgt := 45) hx hb dJ7_grow_2_17 (by decide) (fun _ => ?_) (fun h9 => absurd rfl h9)
  refine lv_aload_n hx hb dJ7_grow_2_45 rfl (lv_at hl 1 rfl) ?_
  refine lv_bipush (v := iI 10) hx hb dJ7_grow_2_46 (by decide) ?_
  refine lv_iload_n hx hb dJ7_grow_2_48 rfl (lv_at hl 2 rfl) ?_
  refine n_mmax hx hb (hml.trans hl.1.symm) hown (hts _ q1932) (hts _ q725) (hts _ q111) (hts _ q726) (Nat.le_of_ble_eq_true rfl) (Nat.le_of_ble_eq_true rfl) (Nat.le_of_ble_eq_true rfl) (Nat.le_of_ble_eq_true rfl) (x := 10) (y := 1) (by omega) (by omega) dJ7_grow_2_49 ?_
  refine n_top (y := 10) (by decide) ?_
  refine n_newqa hx hb hown (hts _ q1933) hK hP hD hS hA (N' := 10) rfl (by decide) (Nat.le_of_ble_eq_true rfl) (Nat.le_of_ble_eq_true rfl) dJ7_grow_2_52 (fun q_2 H hP hD hS => ?_)
  have hP : va_P E.1 CL (([(al, .inr (11, [iv amc, .ref (EX E 71), iv 0]))] : va_W) ++ ([(q_2, qa (E.2 4) 10 (fun _ => none))] : va_W)) H := hP
  have hD : va_D A (([(al, .inr (11, [iv amc, .ref (EX E 71), iv 0]))] : va_W) ++ ([(q_2, qa (E.2 4) 10 (fun _ => none))] : va_W)) := hD
  refine lv_dup_x1 hx hb dJ7_grow_2_55 rfl rfl ?_
  refine va_put (D := E.1) (ci := 11) (v := .ref q_2) (ty := (tyJ7 1)) (C := RJ7) (T := TJ7) (N := 3) hx hb hts in_J7 tyJ7 tyJ7_ok nmJ7 hown hK.1 hP hD hS 0 rfl rfl 1 (by decide) (hts _ q313) (fun _ h9 => h9) rfl (by decide +kernel) rfl rfl (Nat.le_of_ble_eq_true rfl) dJ7_grow_2_56 (fun H locs hP hD hS => ?_)
  have hP : va_P E.1 CL (([(al, .inr (11, [iv amc, .ref q_2, iv 0]))] : va_W) ++ ([(q_2, qa (E.2 4) 10 (fun _ => none))] : va_W)) H := hP
  have hD : va_D A (([(al, .inr (11, [iv amc, .ref q_2, iv 0]))] : va_W) ++ ([(q_2, qa (E.2 4) 10 (fun _ => none))] : va_W)) := hD
  refine W.widen (k := 1) (n := 10) (Nat.le_of_ble_eq_true rfl) (Nat.le_of_ble_eq_true rfl) ?_
  exact W.aret hx hb hr (Or.inr ⟨_, rfl⟩) (Or.inr ⟨_, rfl⟩) (fun tt_ ht_ hW_ => ⟨⟨q_2, rfl, trivial, by rw [ht_]; exact hP, hD⟩, hS.F ht_⟩) hS.2.2 dJ7_grow_2_59
set_option maxHeartbeats 1000000 in
set_option maxRecDepth 100000 in
theorem mt_J7_grow0 (l : Launch) (E : EE) (al : Nat) (amc : Int) (sz : Nat) : Met l yJ7_grow (ws_ yJ7_grow cJ7_grow 1 (some (.array (.object "java/lang/Object")))) { frames := 2, cells := 1, slots := 10, locals := 43 } (va_Pc [.ref al] (UX E ([(al, .inr (11, [iv amc, .ref (EX E 71), iv 0]))]) sz)) (UQxr E (fun u : Nat => True) (fun u : Nat => u) (fun u : Nat => ([(al, .inr (11, [iv amc, .ref u, iv 0]))] : va_W) ++ ([(u, qa (E.2 4) 10 (fun _ => none))] : va_W)) (va_A ([(al, .inr (11, [iv amc, .ref (EX E 71), iv 0]))]) sz)) 1 10 (va_A ([(al, .inr (11, [iv amc, .ref (EX E 71), iv 0]))]) sz) := by
  refine Met.ofW (cc := cJ7_grow) (maxL := 1) (ret := (some (.array (.object "java/lang/Object")))) (by decide) rfl ?_
  intro p e s m args below meth c s₁ B hml hv
  obtain ⟨rfl, hsz, hP, hK, hD0, hE⟩ := hv
  have hx := B.exec
  have hb := B.bytes
  have hr := B.returns
  have hts := atoms_spec (ws := (ws_ yJ7_grow cJ7_grow 1 (some (.array (.object "java/lang/Object"))))) B.pre
  have hts : ∀ w ∈ lw_all, w.before _ s = true := fun w h => hts w (List.mem_cons_of_mem _ h)
  have hown : s.vm.findClass RJ7 = some m.cls := findClass_of_methodNamed B.named
  have hlocks := B.notSynchronized
  subst hsz
  have hD := hD0.self (sz := s.heap.size)
  generalize hAe : va_A ([(al, .inr (11, [iv amc, .ref (EX E 71), iv 0]))]) s.heap.size = A at hD hE ⊢
  have hA : ∀ q : Nat, s.heap.size ≤ q → A q := fun q h => by rw [← hAe]; exact Or.inr h
  have hS : va_S A s.heap s.heap [] := va_S.rf
  have hl := lv_entry ([.ref al]) (n := 1) (Nat.le_of_ble_eq_true rfl)
  rw [lg_entry_eq]
  generalize (lg_sl ([.ref al]) ++ List.replicate (1 - (lg_sl ([.ref al])).length) Slot.unset).toArray = ls at hl ⊢
  have hl : lv_has ls 1 [(0, .ref al)] := hl
  refine lv_aload_n hx hb dJ7_grow_0 rfl (lv_at hl 0 rfl) ?_
  refine lv_aload_n hx hb dJ7_grow_1 rfl (lv_at hl 0 rfl) ?_
  refine va_get (D := E.1) (ci := 11) (v := iv 0) (C := RJ7) (T := TJ7) (N := 3) hx hb hts in_J7 hown hK.1 hP 0 rfl rfl 2 (by decide) (hts _ q316) (fun _ h9 => h9) rfl dJ7_grow_2 ?_
  refine lv_iconst (v := iI 1) hx hb dJ7_grow_5 rfl ?_
  refine n_iadd hx hb dJ7_grow_6 ?_
  refine n_top (y := 1) (by decide) ?_
  refine n_cuxrS (x := fun u_1 => u_1) (w2 := fun u_1 => ([(al, .inr (11, [iv amc, .ref u_1, iv 0]))] : va_W) ++ ([(u_1, qa (E.2 4) 10 (fun _ => none))] : va_W)) (va_runV (As := [iv 1]) (rest := []) ⟨hx, hb, hml, hown, hts⟩ (mt_J7_grow1 l E al amc  _) (cwV 1 hts (lw_V q1926 q1928 qs45 q105 q1929) rfl rfl rfl (by decide +kernel) ⟨Nat.le_of_ble_eq_true rfl, Nat.le_of_ble_eq_true rfl⟩) (UX_V hP hK (hD) hE hS (va_A_in hD hS hA) (va_recv hK.1 hP (ci := 11) (q0 := 0) rfl rfl)) rfl rfl hl.1 rfl (lv_room (Nat.le_of_ble_eq_true rfl)) dJ7_grow_7 ⟨Nat.le_of_ble_eq_true rfl, Nat.le_of_ble_eq_true rfl⟩) hP hD hS hA [0] [] [0, 1] rfl rfl rfl rfl rfl (fun _ => rfl) (fun u_1 H locs hu_1 hP hD hS => ?_)
  have hu_1 : True := hu_1
  have hP : va_P E.1 CL (([(al, .inr (11, [iv amc, .ref u_1, iv 0]))] : va_W) ++ ([(u_1, qa (E.2 4) 10 (fun _ => none))] : va_W)) H := hP
  have hD : va_D A (([(al, .inr (11, [iv amc, .ref u_1, iv 0]))] : va_W) ++ ([(u_1, qa (E.2 4) 10 (fun _ => none))] : va_W)) := hD
  refine W.widen (k := 1) (n := 10) (Nat.le_of_ble_eq_true rfl) (Nat.le_of_ble_eq_true rfl) ?_
  exact W.aret hx hb hr (Or.inr ⟨_, rfl⟩) (Or.inr ⟨_, rfl⟩) (fun tt_ ht_ hW_ => ⟨⟨u_1, rfl, trivial, by rw [ht_]; exact hP, hD⟩, hS.F ht_⟩) hS.2.2 dJ7_grow_10
set_option maxHeartbeats 1000000 in
set_option maxRecDepth 100000 in
theorem mt_J7_add3_a (l : Launch) (E : EE) (al : Nat) (amc : Int) (pw : va_W)  (q9 : Nat) (hlq : LQ E q9 pw) (sz : Nat) : Met l yJ7_add_2 (ws_ yJ7_add_2 cJ7_add_2 4 none) { frames := 3, cells := 1, slots := 10, locals := 63 } (va_Pc [.ref al, .ref q9, .ref (EX E 71), iv 0] (UX E (([(al, .inr (11, [iv amc, .ref (EX E 71), iv 0]))] : va_W) ++ (pw)) sz)) (UQxv E (fun u : Nat => True) (fun u : Nat => ([(al, .inr (11, [iv amc, .ref u, iv (0 + 1)]))] : va_W) ++ (pw) ++ ([(u, qa (E.2 4) 10 (uq (fun _ => none) 0 (some q9)))] : va_W)) (va_A (([(al, .inr (11, [iv amc, .ref (EX E 71), iv 0]))] : va_W) ++ (pw)) sz)) 1 10 (va_A (([(al, .inr (11, [iv amc, .ref (EX E 71), iv 0]))] : va_W) ++ (pw)) sz) := by
  refine Met.ofW (cc := cJ7_add_2) (maxL := 4) (ret := none) (by decide) rfl ?_
  intro p e s m args below meth c s₁ B hml hv
  obtain ⟨rfl, hsz, hP, hK, hD0, hE⟩ := hv
  have hx := B.exec
  have hb := B.bytes
  have hr := B.returns
  have hts := atoms_spec (ws := (ws_ yJ7_add_2 cJ7_add_2 4 none)) B.pre
  have hts : ∀ w ∈ lw_all, w.before _ s = true := fun w h => hts w (List.mem_cons_of_mem _ h)
  have hown : s.vm.findClass RJ7 = some m.cls := findClass_of_methodNamed B.named
  have hlocks := B.notSynchronized
  subst hsz
  have hD := hD0.self (sz := s.heap.size)
  generalize hAe : va_A (([(al, .inr (11, [iv amc, .ref (EX E 71), iv 0]))] : va_W) ++ (pw)) s.heap.size = A at hD hE ⊢
  have hA : ∀ q : Nat, s.heap.size ≤ q → A q := fun q h => by rw [← hAe]; exact Or.inr h
  have hS : va_S A s.heap s.heap [] := va_S.rf
  have hl := lv_entry ([.ref al, .ref q9, .ref (EX E 71), iv 0]) (n := 4) (Nat.le_of_ble_eq_true rfl)
  rw [lg_entry_eq]
  generalize (lg_sl ([.ref al, .ref q9, .ref (EX E 71), iv 0]) ++ List.replicate (4 - (lg_sl ([.ref al, .ref q9, .ref (EX E 71), iv 0])).length) Slot.unset).toArray = ls at hl ⊢
  have hl : lv_has ls 4 [(0, .ref al), (1, .ref q9), (2, .ref (EX E 71)), (3, iv 0)] := hl
  refine lv_iload_n hx hb dJ7_add_2_0 rfl (lv_at hl 3 rfl) ?_
  refine lv_aload_n hx hb dJ7_add_2_1 rfl (lv_at hl 2 rfl) ?_
  refine va_tlen (v := iI 0) hx hb hE.ea hS rfl dJ7_add_2_2 ?_
  refine n_icmp_ne (tgt := 11) hx hb dJ7_add_2_3 (by decide) (by omega) (by omega) (fun c_1 => absurd c_1 (by decide)) (fun _ => ?_)
  refine lv_aload_n hx hb dJ7_add_2_6 rfl (lv_at hl 0 rfl) ?_
  have hg_2 : gpick [[(al, .inr (11, [iv amc, .ref (EX E 71), iv 0]))], pw] ([[(al, .inr (11, [iv amc, .ref (EX E 71), iv 0]))]] ++ [pw]) [0, 1] := ⟨rfl, (show List.Perm [0, 1] (List.range 2) from by decide)⟩
  have hg_2P : va_P E.1 CL ([(al, .inr (11, [iv amc, .ref (EX E 71), iv 0]))]) s.heap := (g_out hg_2 hP hD).1
  have hg_2D : va_D A ([(al, .inr (11, [iv amc, .ref (EX E 71), iv 0]))]) := (g_out hg_2 hP hD).2
  have hg_2F : ∀ q, va_A ([(al, .inr (11, [iv amc, .ref (EX E 71), iv 0]))]) s.heap.size q → A q := g_free hg_2 hP hD hS hA
  have hj_4 : ∀ u_3 : Nat, gpick ([[(al, .inr (11, [iv amc, .ref u_3, iv 0]))], [(u_3, qa (E.2 4) 10 (fun _ => none))]] ++ [pw]) [[(al, .inr (11, [iv amc, .ref u_3, iv 0]))], pw, [(u_3, qa (E.2 4) 10 (fun _ => none))]] [0, 2, 1] := fun u_3 => ⟨rfl, (show List.Perm [0, 2, 1] (List.range 3) from by decide)⟩
  refine n_cuxrB (x := fun u_3 => u_3) (w2 := fun u_3 => ([(al, .inr (11, [iv amc, .ref u_3, iv 0]))] : va_W) ++ (pw) ++ ([(u_3, qa (E.2 4) 10 (fun _ => none))] : va_W)) (va_runV (As := []) (rest := []) ⟨hx, hb, hml, hown, hts⟩ (mt_J7_grow0 l E al amc  _) (cwV 0 hts (lw_V q1922 q1924 qs44 q105 q1925) rfl rfl rfl (by decide +kernel) ⟨Nat.le_of_ble_eq_true rfl, Nat.le_of_ble_eq_true rfl⟩) (UX_V hg_2P hK hg_2D hE hS hg_2F (va_recv hK.1 hP (ci := 11) (q0 := 0) rfl rfl)) rfl rfl hl.1 rfl (lv_room (Nat.le_of_ble_eq_true rfl)) dJ7_add_2_7 ⟨Nat.le_of_ble_eq_true rfl, Nat.le_of_ble_eq_true rfl⟩) hS hg_2F ?_ ?_
  · exact (fun u_3 _ hk9 hp9 hd9 => g_back hg_2 (hj_4 u_3) hP hD hg_2F hk9 hp9 hd9)
  intro u_3 H locs hu_3 hP hD hS
  have hu_3 : True := hu_3
  have hP : va_P E.1 CL (([(al, .inr (11, [iv amc, .ref u_3, iv 0]))] : va_W) ++ (pw) ++ ([(u_3, qa (E.2 4) 10 (fun _ => none))] : va_W)) H := hP
  have hD : va_D A (([(al, .inr (11, [iv amc, .ref u_3, iv 0]))] : va_W) ++ (pw) ++ ([(u_3, qa (E.2 4) 10 (fun _ => none))] : va_W)) := hD
  have hg_5 : gpick [[(al, .inr (11, [iv amc, .ref u_3, iv 0]))], pw, [(u_3, qa (E.2 4) 10 (fun _ => none))]] ([[(al, .inr (11, [iv amc, .ref u_3, iv 0]))], [(u_3, qa (E.2 4) 10 (fun _ => none))], pw] ++ []) [0, 2, 1] := ⟨rfl, (show List.Perm [0, 2, 1] (List.range 3) from by decide)⟩
  have hg_5P := g_out hg_5 hP hD
  have hP : va_P E.1 CL (([(al, .inr (11, [iv amc, .ref u_3, iv 0]))] : va_W) ++ ([(u_3, qa (E.2 4) 10 (fun _ => none))] : va_W) ++ (pw)) H := hg_5P.1
  have hD : va_D A (([(al, .inr (11, [iv amc, .ref u_3, iv 0]))] : va_W) ++ ([(u_3, qa (E.2 4) 10 (fun _ => none))] : va_W) ++ (pw)) := hg_5P.2
  refine lv_astore_n (lv' := [(2, .ref u_3), (0, .ref al), (1, .ref q9), (3, iv 0)]) hx hb dJ7_add_2_10 rfl hl (by decide) rfl (fun ls hl => ?_)
  refine lv_aload_n hx hb dJ7_add_2_11 rfl (lv_at hl 0 rfl) ?_
  refine lv_iload_n hx hb dJ7_add_2_12 rfl (lv_at hl 3 rfl) ?_
  refine lv_aload_n hx hb dJ7_add_2_13 rfl (lv_at hl 2 rfl) ?_
  refine n_qastL (f := (fun _ => none)) hx hb hts hK hP hD hS 1 rfl (hlq.isL hP hE hS) (by omega) (by decide) dJ7_add_2_14 (w2 := ([(al, .inr (11, [iv amc, .ref u_3, iv 0]))] : va_W) ++ ([(u_3, qa (E.2 4) 10 (uq (fun _ => none) 0 (some q9)))] : va_W) ++ (pw)) rfl (fun H locs hP hD hS => ?_)
  refine lv_aload_n hx hb dJ7_add_2_15 rfl (lv_at hl 1 rfl) ?_
  refine lv_iload_n hx hb dJ7_add_2_16 rfl (lv_at hl 3 rfl) ?_
  refine lv_iconst (v := iI 1) hx hb dJ7_add_2_17 rfl ?_
  refine n_iadd hx hb dJ7_add_2_18 ?_
  refine va_put (D := E.1) (ci := 11) (v := iv (0 + 1)) (ty := .int) (C := RJ7) (T := TJ7) (N := 3) hx hb hts in_J7 tyJ7 tyJ7_ok nmJ7 hown hK.1 hP hD hS 0 rfl rfl 2 (by decide) (hts _ q316) (fun _ h9 => h9) rfl (by decide +kernel) rfl rfl (Nat.le_of_ble_eq_true rfl) dJ7_add_2_19 (fun H locs hP hD hS => ?_)
  have hP : va_P E.1 CL (([(al, .inr (11, [iv amc, .ref u_3, iv (0 + 1)]))] : va_W) ++ ([(u_3, qa (E.2 4) 10 (uq (fun _ => none) 0 (some q9)))] : va_W) ++ (pw)) H := hP
  have hD : va_D A (([(al, .inr (11, [iv amc, .ref u_3, iv (0 + 1)]))] : va_W) ++ ([(u_3, qa (E.2 4) 10 (uq (fun _ => none) 0 (some q9)))] : va_W) ++ (pw)) := hD
  have hg_6 : gpick [[(al, .inr (11, [iv amc, .ref u_3, iv (0 + 1)]))], [(u_3, qa (E.2 4) 10 (uq (fun _ => none) 0 (some q9)))], pw] ([[(al, .inr (11, [iv amc, .ref u_3, iv (0 + 1)]))], pw, [(u_3, qa (E.2 4) 10 (uq (fun _ => none) 0 (some q9)))]] ++ []) [0, 2, 1] := ⟨rfl, (show List.Perm [0, 2, 1] (List.range 3) from by decide)⟩
  have hg_6P := g_out hg_6 hP hD
  have hP : va_P E.1 CL (([(al, .inr (11, [iv amc, .ref u_3, iv (0 + 1)]))] : va_W) ++ (pw) ++ ([(u_3, qa (E.2 4) 10 (uq (fun _ => none) 0 (some q9)))] : va_W)) H := hg_6P.1
  have hD : va_D A (([(al, .inr (11, [iv amc, .ref u_3, iv (0 + 1)]))] : va_W) ++ (pw) ++ ([(u_3, qa (E.2 4) 10 (uq (fun _ => none) 0 (some q9)))] : va_W)) := hg_6P.2
  refine W.widen (k := 1) (n := 10) (Nat.le_of_ble_eq_true rfl) (Nat.le_of_ble_eq_true rfl) ?_
  exact W.vret hx hb hr (fun tt_ ht_ hW_ => ⟨⟨u_3, rfl, trivial, by rw [ht_]; exact hP, hD⟩, hS.F ht_⟩) hS.2.2 dJ7_add_2_22
set_option maxHeartbeats 1000000 in
set_option maxRecDepth 100000 in
theorem mt_J7_add1_a (l : Launch) (E : EE) (al : Nat) (amc : Int) (pw : va_W)  (q9 : Nat) (hlq : LQ E q9 pw) (hmc : 0 ≤ amc ∧ amc < 100000) (sz : Nat) : Met l yJ7_add (ws_ yJ7_add cJ7_add 2 (some .boolean)) { frames := 4, cells := 1, slots := 10, locals := 86 } (va_Pc [.ref al, .ref q9] (UX E (([(al, .inr (11, [iv amc, .ref (EX E 71), iv 0]))] : va_W) ++ (pw)) sz)) (UQx E (fun u : Nat => True) (fun u : Nat => 1) (fun u : Nat => ([(al, .inr (11, [iv (amc + 1), .ref u, iv (0 + 1)]))] : va_W) ++ (pw) ++ ([(u, qa (E.2 4) 10 (uq (fun _ => none) 0 (some q9)))] : va_W)) (va_A (([(al, .inr (11, [iv amc, .ref (EX E 71), iv 0]))] : va_W) ++ (pw)) sz)) 1 10 (va_A (([(al, .inr (11, [iv amc, .ref (EX E 71), iv 0]))] : va_W) ++ (pw)) sz) := by
  refine Met.ofW (cc := cJ7_add) (maxL := 2) (ret := (some .boolean)) (by decide) rfl ?_
  intro p e s m args below meth c s₁ B hml hv
  obtain ⟨rfl, hsz, hP, hK, hD0, hE⟩ := hv
  have hx := B.exec
  have hb := B.bytes
  have hr := B.returns
  have hts := atoms_spec (ws := (ws_ yJ7_add cJ7_add 2 (some .boolean))) B.pre
  have hts : ∀ w ∈ lw_all, w.before _ s = true := fun w h => hts w (List.mem_cons_of_mem _ h)
  have hown : s.vm.findClass RJ7 = some m.cls := findClass_of_methodNamed B.named
  have hlocks := B.notSynchronized
  subst hsz
  have hD := hD0.self (sz := s.heap.size)
  generalize hAe : va_A (([(al, .inr (11, [iv amc, .ref (EX E 71), iv 0]))] : va_W) ++ (pw)) s.heap.size = A at hD hE ⊢
  have hA : ∀ q : Nat, s.heap.size ≤ q → A q := fun q h => by rw [← hAe]; exact Or.inr h
  have hS : va_S A s.heap s.heap [] := va_S.rf
  have hl := lv_entry ([.ref al, .ref q9]) (n := 2) (Nat.le_of_ble_eq_true rfl)
  rw [lg_entry_eq]
  generalize (lg_sl ([.ref al, .ref q9]) ++ List.replicate (2 - (lg_sl ([.ref al, .ref q9])).length) Slot.unset).toArray = ls at hl ⊢
  have hl : lv_has ls 2 [(0, .ref al), (1, .ref q9)] := hl
  refine lv_aload_n hx hb dJ7_add_0 rfl (lv_at hl 0 rfl) ?_
  refine lv_dup hx hb dJ7_add_1 rfl ?_
  refine va_get (D := E.1) (ci := 11) (v := iv amc) (C := RJ7) (T := TJ7) (N := 3) hx hb hts in_J7 hown hK.1 hP 0 rfl rfl 0 (by decide) (hts _ q320) (u_same (hts _ q319)) rfl dJ7_add_2 ?_
  refine lv_iconst (v := iI 1) hx hb dJ7_add_5 rfl ?_
  refine n_iadd hx hb dJ7_add_6 ?_
  refine va_put (D := E.1) (ci := 11) (v := iv (amc + 1)) (ty := .int) (C := RJ7) (T := TJ7) (N := 3) hx hb hts in_J7 tyJ7 tyJ7_ok nmJ7 hown hK.1 hP hD hS 0 rfl rfl 0 (by decide) (hts _ q320) (u_same (hts _ q319)) rfl (by decide +kernel) rfl rfl (Nat.le_of_ble_eq_true rfl) dJ7_add_7 (fun H locs hP hD hS => ?_)
  have hP : va_P E.1 CL (([(al, .inr (11, [iv (amc + 1), .ref (EX E 71), iv 0]))] : va_W) ++ (pw)) H := hP
  have hD : va_D A (([(al, .inr (11, [iv (amc + 1), .ref (EX E 71), iv 0]))] : va_W) ++ (pw)) := hD
  refine lv_aload_n hx hb dJ7_add_10 rfl (lv_at hl 0 rfl) ?_
  refine lv_aload_n hx hb dJ7_add_11 rfl (lv_at hl 1 rfl) ?_
  refine lv_aload_n hx hb dJ7_add_12 rfl (lv_at hl 0 rfl) ?_
  refine va_get (D := E.1) (ci := 11) (v := .ref (EX E 71)) (C := RJ7) (T := TJ7) (N := 3) hx hb hts in_J7 hown hK.1 hP 0 rfl rfl 1 (by decide) (hts _ q313) (fun _ h9 => h9) rfl dJ7_add_13 ?_
  refine lv_aload_n hx hb dJ7_add_16 rfl (lv_at hl 0 rfl) ?_
  refine va_get (D := E.1) (ci := 11) (v := iv 0) (C := RJ7) (T := TJ7) (N := 3) hx hb hts in_J7 hown hK.1 hP 0 rfl rfl 2 (by decide) (hts _ q316) (fun _ h9 => h9) rfl dJ7_add_17 ?_
  have hg_1 : gpick [[(al, .inr (11, [iv (amc + 1), .ref (EX E 71), iv 0]))], pw] ([[(al, .inr (11, [iv (amc + 1), .ref (EX E 71), iv 0]))], pw] ++ []) [0, 1] := ⟨rfl, (show List.Perm [0, 1] (List.range 2) from by decide)⟩
  have hg_1P : va_P E.1 CL (([(al, .inr (11, [iv (amc + 1), .ref (EX E 71), iv 0]))] : va_W) ++ (pw)) H := (g_out hg_1 hP hD).1
  have hg_1D : va_D A (([(al, .inr (11, [iv (amc + 1), .ref (EX E 71), iv 0]))] : va_W) ++ (pw)) := (g_out hg_1 hP hD).2
  have hg_1F : ∀ q, va_A (([(al, .inr (11, [iv (amc + 1), .ref (EX E 71), iv 0]))] : va_W) ++ (pw)) H.size q → A q := g_free hg_1 hP hD hS hA
  have hj_3 : ∀ u_2 : Nat, gpick ([[(al, .inr (11, [iv (amc + 1), .ref u_2, iv (0 + 1)]))], pw, [(u_2, qa (E.2 4) 10 (uq (fun _ => none) 0 (some q9)))]] ++ []) [[(al, .inr (11, [iv (amc + 1), .ref u_2, iv (0 + 1)]))], pw, [(u_2, qa (E.2 4) 10 (uq (fun _ => none) 0 (some q9)))]] [0, 1, 2] := fun u_2 => ⟨rfl, (show List.Perm [0, 1, 2] (List.range 3) from by decide)⟩
  refine n_cuxvB (w2 := fun u_2 => ([(al, .inr (11, [iv (amc + 1), .ref u_2, iv (0 + 1)]))] : va_W) ++ (pw) ++ ([(u_2, qa (E.2 4) 10 (uq (fun _ => none) 0 (some q9)))] : va_W)) (va_runV (As := [.ref q9, .ref (EX E 71), iv 0]) (rest := []) ⟨hx, hb, hml, hown, hts⟩ (mt_J7_add3_a l E al (amc + 1) pw  q9 (by assumption) _) (cwV 3 hts (lw_V q1918 q1920 qs43 q105 q1921) rfl rfl rfl (by decide +kernel) ⟨Nat.le_of_ble_eq_true rfl, Nat.le_of_ble_eq_true rfl⟩) (UX_V hg_1P hK hg_1D hE hS hg_1F (va_recv hK.1 hP (ci := 11) (q0 := 0) rfl rfl)) rfl rfl hl.1 rfl (lv_room (Nat.le_of_ble_eq_true rfl)) dJ7_add_20 ⟨Nat.le_of_ble_eq_true rfl, Nat.le_of_ble_eq_true rfl⟩) hS hg_1F ?_ ?_
  · exact (fun u_2 _ hk9 hp9 hd9 => g_back hg_1 (hj_3 u_2) hP hD hg_1F hk9 hp9 hd9)
  intro u_2 H locs hu_2 hP hD hS
  have hu_2 : True := hu_2
  have hP : va_P E.1 CL (([(al, .inr (11, [iv (amc + 1), .ref u_2, iv (0 + 1)]))] : va_W) ++ (pw) ++ ([(u_2, qa (E.2 4) 10 (uq (fun _ => none) 0 (some q9)))] : va_W)) H := hP
  have hD : va_D A (([(al, .inr (11, [iv (amc + 1), .ref u_2, iv (0 + 1)]))] : va_W) ++ (pw) ++ ([(u_2, qa (E.2 4) 10 (uq (fun _ => none) 0 (some q9)))] : va_W)) := hD
  have hg_4 : gpick [[(al, .inr (11, [iv (amc + 1), .ref u_2, iv (0 + 1)]))], pw, [(u_2, qa (E.2 4) 10 (uq (fun _ => none) 0 (some q9)))]] ([[(al, .inr (11, [iv (amc + 1), .ref u_2, iv (0 + 1)]))], [(u_2, qa (E.2 4) 10 (uq (fun _ => none) 0 (some q9)))], pw] ++ []) [0, 2, 1] := ⟨rfl, (show List.Perm [0, 2, 1] (List.range 3) from by decide)⟩
  have hg_4P := g_out hg_4 hP hD
  have hP : va_P E.1 CL (([(al, .inr (11, [iv (amc + 1), .ref u_2, iv (0 + 1)]))] : va_W) ++ ([(u_2, qa (E.2 4) 10 (uq (fun _ => none) 0 (some q9)))] : va_W) ++ (pw)) H := hg_4P.1
  have hD : va_D A (([(al, .inr (11, [iv (amc + 1), .ref u_2, iv (0 + 1)]))] : va_W) ++ ([(u_2, qa (E.2 4) 10 (uq (fun _ => none) 0 (some q9)))] : va_W) ++ (pw)) := hg_4P.2
  refine lv_iconst (v := iI 1) hx hb dJ7_add_23 rfl ?_
  have hg_5 : gpick [[(al, .inr (11, [iv (amc + 1), .ref u_2, iv (0 + 1)]))], [(u_2, qa (E.2 4) 10 (uq (fun _ => none) 0 (some q9)))], pw] ([[(al, .inr (11, [iv (amc + 1), .ref u_2, iv (0 + 1)]))], pw, [(u_2, qa (E.2 4) 10 (uq (fun _ => none) 0 (some q9)))]] ++ []) [0, 2, 1] := ⟨rfl, (show List.Perm [0, 2, 1] (List.range 3) from by decide)⟩
  have hg_5P := g_out hg_5 hP hD
  have hP : va_P E.1 CL (([(al, .inr (11, [iv (amc + 1), .ref u_2, iv (0 + 1)]))] : va_W) ++ (pw) ++ ([(u_2, qa (E.2 4) 10 (uq (fun _ => none) 0 (some q9)))] : va_W)) H := hg_5P.1
  have hD : va_D A (([(al, .inr (11, [iv (amc + 1), .ref u_2, iv (0 + 1)]))] : va_W) ++ (pw) ++ ([(u_2, qa (E.2 4) 10 (uq (fun _ => none) 0 (some q9)))] : va_W)) := hg_5P.2
  refine W.widen (k := 1) (n := 10) (Nat.le_of_ble_eq_true rfl) (Nat.le_of_ble_eq_true rfl) ?_
  exact W.zret (v := iI 1) hx hb hr (nr_b (by decide)) (fun tt_ ht_ hW_ => ⟨⟨iI 1, u_2, rfl, ⟨trivial, rfl⟩, by rw [ht_]; exact hP, hD⟩, hS.F ht_⟩) hS.2.2 dJ7_add_24
set_option maxHeartbeats 1000000 in
set_option maxRecDepth 100000 in
theorem mt_J7_add3_b (l : Launch) (E : EE) (al : Nat) (amc : Int) (an : Int) (ad : Nat) (fq : Int → Option Nat) (pw : va_W)  (q9 : Nat) (hlq : LQ E q9 pw) (han : 0 ≤ an ∧ an < 10) (sz : Nat) : Met l yJ7_add_2 (ws_ yJ7_add_2 cJ7_add_2 4 none) { frames := 0, cells := 0, slots := 0, locals := 0 } (va_Pc [.ref al, .ref q9, .ref ad, iv an] (UX E (([(al, .inr (11, [iv amc, .ref ad, iv an]))] : va_W) ++ ([(ad, qa (E.2 4) 10 fq)] : va_W) ++ (pw)) sz)) (UQv E (([(al, .inr (11, [iv amc, .ref ad, iv (an + 1)]))] : va_W) ++ ([(ad, qa (E.2 4) 10 (uq fq an (some q9)))] : va_W) ++ (pw)) (va_A (([(al, .inr (11, [iv amc, .ref ad, iv an]))] : va_W) ++ ([(ad, qa (E.2 4) 10 fq)] : va_W) ++ (pw)) sz)) 0 0 (va_A (([(al, .inr (11, [iv amc, .ref ad, iv an]))] : va_W) ++ ([(ad, qa (E.2 4) 10 fq)] : va_W) ++ (pw)) sz) := by
  refine Met.ofW (cc := cJ7_add_2) (maxL := 4) (ret := none) (by decide) rfl ?_
  intro p e s m args below meth c s₁ B hml hv
  obtain ⟨rfl, hsz, hP, hK, hD0, hE⟩ := hv
  have hx := B.exec
  have hb := B.bytes
  have hr := B.returns
  have hts := atoms_spec (ws := (ws_ yJ7_add_2 cJ7_add_2 4 none)) B.pre
  have hts : ∀ w ∈ lw_all, w.before _ s = true := fun w h => hts w (List.mem_cons_of_mem _ h)
  have hown : s.vm.findClass RJ7 = some m.cls := findClass_of_methodNamed B.named
  have hlocks := B.notSynchronized
  subst hsz
  have hD := hD0.self (sz := s.heap.size)
  generalize hAe : va_A (([(al, .inr (11, [iv amc, .ref ad, iv an]))] : va_W) ++ ([(ad, qa (E.2 4) 10 fq)] : va_W) ++ (pw)) s.heap.size = A at hD hE ⊢
  have hA : ∀ q : Nat, s.heap.size ≤ q → A q := fun q h => by rw [← hAe]; exact Or.inr h
  have hS : va_S A s.heap s.heap [] := va_S.rf
  have hl := lv_entry ([.ref al, .ref q9, .ref ad, iv an]) (n := 4) (Nat.le_of_ble_eq_true rfl)
  rw [lg_entry_eq]
  generalize (lg_sl ([.ref al, .ref q9, .ref ad, iv an]) ++ List.replicate (4 - (lg_sl ([.ref al, .ref q9, .ref ad, iv an])).length) Slot.unset).toArray = ls at hl ⊢
  have hl : lv_has ls 4 [(0, .ref al), (1, .ref q9), (2, .ref ad), (3, iv an)] := hl
  refine lv_iload_n hx hb dJ7_add_2_0 rfl (lv_at hl 3 rfl) ?_
  refine lv_aload_n hx hb dJ7_add_2_1 rfl (lv_at hl 2 rfl) ?_
  refine va_alen (v := iI 10) hx hb hK.1 hP 1 4 rfl rfl rfl dJ7_add_2_2 ?_
  refine n_icmp_ne (tgt := 11) hx hb dJ7_add_2_3 (by decide) (by omega) (by omega) (fun c_1 => ?_) (fun c_1 => ?_)
  · refine lv_aload_n hx hb dJ7_add_2_11 rfl (lv_at hl 2 rfl) ?_
    refine lv_iload_n hx hb dJ7_add_2_12 rfl (lv_at hl 3 rfl) ?_
    refine lv_aload_n hx hb dJ7_add_2_13 rfl (lv_at hl 1 rfl) ?_
    refine n_qastL (f := fq) hx hb hts hK hP hD hS 1 rfl (hlq.isL hP hE hS) (by omega) (by decide) dJ7_add_2_14 (w2 := ([(al, .inr (11, [iv amc, .ref ad, iv an]))] : va_W) ++ ([(ad, qa (E.2 4) 10 (uq fq an (some q9)))] : va_W) ++ (pw)) rfl (fun H locs hP hD hS => ?_)
    refine lv_aload_n hx hb dJ7_add_2_15 rfl (lv_at hl 0 rfl) ?_
    refine lv_iload_n hx hb dJ7_add_2_16 rfl (lv_at hl 3 rfl) ?_
    refine lv_iconst (v := iI 1) hx hb dJ7_add_2_17 rfl ?_
    refine n_iadd hx hb dJ7_add_2_18 ?_
    refine va_put (D := E.1) (ci := 11) (v := iv (an + 1)) (ty := .int) (C := RJ7) (T := TJ7) (N := 3) hx hb hts in_J7 tyJ7 tyJ7_ok nmJ7 hown hK.1 hP hD hS 0 rfl rfl 2 (by decide) (hts _ q316) (fun _ h9 => h9) rfl (by decide +kernel) rfl rfl (Nat.le_of_ble_eq_true rfl) dJ7_add_2_19 (fun H locs hP hD hS => ?_)
    have hP : va_P E.1 CL (([(al, .inr (11, [iv amc, .ref ad, iv (an + 1)]))] : va_W) ++ ([(ad, qa (E.2 4) 10 (uq fq an (some q9)))] : va_W) ++ (pw)) H := hP
    have hD : va_D A (([(al, .inr (11, [iv amc, .ref ad, iv (an + 1)]))] : va_W) ++ ([(ad, qa (E.2 4) 10 (uq fq an (some q9)))] : va_W) ++ (pw)) := hD
    exact W.vret hx hb hr (fun tt_ ht_ hW_ => ⟨⟨(), rfl, trivial, by rw [ht_]; exact hP, hD⟩, hS.F ht_⟩) hS.2.2 dJ7_add_2_22
  · exfalso; omega
set_option maxHeartbeats 1000000 in
set_option maxRecDepth 100000 in
theorem mt_J7_add1_b (l : Launch) (E : EE) (al : Nat) (amc : Int) (an : Int) (ad : Nat) (fq : Int → Option Nat) (pw : va_W)  (q9 : Nat) (hlq : LQ E q9 pw) (han : 0 ≤ an ∧ an < 10) (hmc : 0 ≤ amc ∧ amc < 100000) (sz : Nat) : Met l yJ7_add (ws_ yJ7_add cJ7_add 2 (some .boolean)) { frames := 1, cells := 0, slots := 0, locals := 23 } (va_Pc [.ref al, .ref q9] (UX E (([(al, .inr (11, [iv amc, .ref ad, iv an]))] : va_W) ++ ([(ad, qa (E.2 4) 10 fq)] : va_W) ++ (pw)) sz)) (UQi E 1 (([(al, .inr (11, [iv (amc + 1), .ref ad, iv (an + 1)]))] : va_W) ++ ([(ad, qa (E.2 4) 10 (uq fq an (some q9)))] : va_W) ++ (pw)) (va_A (([(al, .inr (11, [iv amc, .ref ad, iv an]))] : va_W) ++ ([(ad, qa (E.2 4) 10 fq)] : va_W) ++ (pw)) sz)) 0 0 (va_A (([(al, .inr (11, [iv amc, .ref ad, iv an]))] : va_W) ++ ([(ad, qa (E.2 4) 10 fq)] : va_W) ++ (pw)) sz) := by
  refine Met.ofW (cc := cJ7_add) (maxL := 2) (ret := (some .boolean)) (by decide) rfl ?_
  intro p e s m args below meth c s₁ B hml hv
  obtain ⟨rfl, hsz, hP, hK, hD0, hE⟩ := hv
  have hx := B.exec
  have hb := B.bytes
  have hr := B.returns
  have hts := atoms_spec (ws := (ws_ yJ7_add cJ7_add 2 (some .boolean))) B.pre
  have hts : ∀ w ∈ lw_all, w.before _ s = true := fun w h => hts w (List.mem_cons_of_mem _ h)
  have hown : s.vm.findClass RJ7 = some m.cls := findClass_of_methodNamed B.named
  have hlocks := B.notSynchronized
  subst hsz
  have hD := hD0.self (sz := s.heap.size)
  generalize hAe : va_A (([(al, .inr (11, [iv amc, .ref ad, iv an]))] : va_W) ++ ([(ad, qa (E.2 4) 10 fq)] : va_W) ++ (pw)) s.heap.size = A at hD hE ⊢
  have hA : ∀ q : Nat, s.heap.size ≤ q → A q := fun q h => by rw [← hAe]; exact Or.inr h
  have hS : va_S A s.heap s.heap [] := va_S.rf
  have hl := lv_entry ([.ref al, .ref q9]) (n := 2) (Nat.le_of_ble_eq_true rfl)
  rw [lg_entry_eq]
  generalize (lg_sl ([.ref al, .ref q9]) ++ List.replicate (2 - (lg_sl ([.ref al, .ref q9])).length) Slot.unset).toArray = ls at hl ⊢
  have hl : lv_has ls 2 [(0, .ref al), (1, .ref q9)] := hl
  refine lv_aload_n hx hb dJ7_add_0 rfl (lv_at hl 0 rfl) ?_
  refine lv_dup hx hb dJ7_add_1 rfl ?_
  refine va_get (D := E.1) (ci := 11) (v := iv amc) (C := RJ7) (T := TJ7) (N := 3) hx hb hts in_J7 hown hK.1 hP 0 rfl rfl 0 (by decide) (hts _ q320) (u_same (hts _ q319)) rfl dJ7_add_2 ?_
  refine lv_iconst (v := iI 1) hx hb dJ7_add_5 rfl ?_
  refine n_iadd hx hb dJ7_add_6 ?_
  refine va_put (D := E.1) (ci := 11) (v := iv (amc + 1)) (ty := .int) (C := RJ7) (T := TJ7) (N := 3) hx hb hts in_J7 tyJ7 tyJ7_ok nmJ7 hown hK.1 hP hD hS 0 rfl rfl 0 (by decide) (hts _ q320) (u_same (hts _ q319)) rfl (by decide +kernel) rfl rfl (Nat.le_of_ble_eq_true rfl) dJ7_add_7 (fun H locs hP hD hS => ?_)
  have hP : va_P E.1 CL (([(al, .inr (11, [iv (amc + 1), .ref ad, iv an]))] : va_W) ++ ([(ad, qa (E.2 4) 10 fq)] : va_W) ++ (pw)) H := hP
  have hD : va_D A (([(al, .inr (11, [iv (amc + 1), .ref ad, iv an]))] : va_W) ++ ([(ad, qa (E.2 4) 10 fq)] : va_W) ++ (pw)) := hD
  refine lv_aload_n hx hb dJ7_add_10 rfl (lv_at hl 0 rfl) ?_
  refine lv_aload_n hx hb dJ7_add_11 rfl (lv_at hl 1 rfl) ?_
  refine lv_aload_n hx hb dJ7_add_12 rfl (lv_at hl 0 rfl) ?_
  refine va_get (D := E.1) (ci := 11) (v := .ref ad) (C := RJ7) (T := TJ7) (N := 3) hx hb hts in_J7 hown hK.1 hP 0 rfl rfl 1 (by decide) (hts _ q313) (fun _ h9 => h9) rfl dJ7_add_13 ?_
  refine lv_aload_n hx hb dJ7_add_16 rfl (lv_at hl 0 rfl) ?_
  refine va_get (D := E.1) (ci := 11) (v := iv an) (C := RJ7) (T := TJ7) (N := 3) hx hb hts in_J7 hown hK.1 hP 0 rfl rfl 2 (by decide) (hts _ q316) (fun _ h9 => h9) rfl dJ7_add_17 ?_
  have hg_1 : gpick [[(al, .inr (11, [iv (amc + 1), .ref ad, iv an]))], [(ad, qa (E.2 4) 10 fq)], pw] ([[(al, .inr (11, [iv (amc + 1), .ref ad, iv an]))], [(ad, qa (E.2 4) 10 fq)], pw] ++ []) [0, 1, 2] := ⟨rfl, (show List.Perm [0, 1, 2] (List.range 3) from by decide)⟩
  have hg_1P : va_P E.1 CL (([(al, .inr (11, [iv (amc + 1), .ref ad, iv an]))] : va_W) ++ ([(ad, qa (E.2 4) 10 fq)] : va_W) ++ (pw)) H := (g_out hg_1 hP hD).1
  have hg_1D : va_D A (([(al, .inr (11, [iv (amc + 1), .ref ad, iv an]))] : va_W) ++ ([(ad, qa (E.2 4) 10 fq)] : va_W) ++ (pw)) := (g_out hg_1 hP hD).2
  have hg_1F : ∀ q, va_A (([(al, .inr (11, [iv (amc + 1), .ref ad, iv an]))] : va_W) ++ ([(ad, qa (E.2 4) 10 fq)] : va_W) ++ (pw)) H.size q → A q := g_free hg_1 hP hD hS hA
  refine n_cuv (va_runV (As := [.ref q9, .ref ad, iv an]) (rest := []) ⟨hx, hb, hml, hown, hts⟩ (mt_J7_add3_b l E al (amc + 1) an ad fq pw  q9 (by assumption) (by omega) _) (cwV 3 hts (lw_V q1918 q1920 qs43 q105 q1921) rfl rfl rfl (by decide +kernel) ⟨Nat.le_of_ble_eq_true rfl, Nat.le_of_ble_eq_true rfl⟩) (UX_V hg_1P hK hg_1D hE hS hg_1F (va_recv hK.1 hP (ci := 11) (q0 := 0) rfl rfl)) rfl rfl hl.1 rfl (lv_room (Nat.le_of_ble_eq_true rfl)) dJ7_add_20 ⟨Nat.le_of_ble_eq_true rfl, Nat.le_of_ble_eq_true rfl⟩) hD hS hA (fun H locs hP hD hS => ?_)
  have hP : va_P E.1 CL (([(al, .inr (11, [iv (amc + 1), .ref ad, iv (an + 1)]))] : va_W) ++ ([(ad, qa (E.2 4) 10 (uq fq an (some q9)))] : va_W) ++ (pw)) H := hP
  have hD : va_D A (([(al, .inr (11, [iv (amc + 1), .ref ad, iv (an + 1)]))] : va_W) ++ ([(ad, qa (E.2 4) 10 (uq fq an (some q9)))] : va_W) ++ (pw)) := hD
  refine lv_iconst (v := iI 1) hx hb dJ7_add_23 rfl ?_
  exact W.zret (v := iI 1) hx hb hr (nr_b (by decide)) (fun tt_ ht_ hW_ => ⟨⟨iI 1, (), rfl, rfl, by rw [ht_]; exact hP, hD⟩, hS.F ht_⟩) hS.2.2 dJ7_add_24
set_option maxHeartbeats 1000000 in
set_option maxRecDepth 100000 in
theorem mt_J26_init (l : Launch) (E : EE) (it : Nat) (al : Nat) (amc : Int) (ad : Nat) (an : Int) (sz : Nat) : Met l yJ26_init (ws_ yJ26_init cJ26_init 2 none) { frames := 1, cells := 0, slots := 0, locals := 20 } (va_Pc [.ref it, .ref al] (UW E (([(it, .inr (12, [iv 0, iv 0, iv 0, .null]))] : va_W) ++ ([(al, .inr (11, [iv amc, .ref ad, iv an]))] : va_W)) sz)) (UQv E (([(it, .inr (12, [iv 0, iv (-1), iv amc, .ref al]))] : va_W) ++ ([(al, .inr (11, [iv amc, .ref ad, iv an]))] : va_W)) (va_A (([(it, .inr (12, [iv 0, iv 0, iv 0, .null]))] : va_W) ++ ([(al, .inr (11, [iv amc, .ref ad, iv an]))] : va_W)) sz)) 0 0 (va_A (([(it, .inr (12, [iv 0, iv 0, iv 0, .null]))] : va_W) ++ ([(al, .inr (11, [iv amc, .ref ad, iv an]))] : va_W)) sz) := by
  refine Met.ofW (cc := cJ26_init) (maxL := 2) (ret := none) (by decide) rfl ?_
  intro p e s m args below meth c s₁ B hml hv
  obtain ⟨rfl, hsz, hP, hK, hD0⟩ := hv
  have hx := B.exec
  have hb := B.bytes
  have hr := B.returns
  have hts := atoms_spec (ws := (ws_ yJ26_init cJ26_init 2 none)) B.pre
  have hts : ∀ w ∈ lw_all, w.before _ s = true := fun w h => hts w (List.mem_cons_of_mem _ h)
  have hown : s.vm.findClass RJ26 = some m.cls := findClass_of_methodNamed B.named
  have hlocks := B.notSynchronized
  have hin : meth.name = "<init>" := (name_of_methodNamed B.named B.method).1
  subst hsz
  have hD := hD0.self (sz := s.heap.size)
  generalize hAe : va_A (([(it, .inr (12, [iv 0, iv 0, iv 0, .null]))] : va_W) ++ ([(al, .inr (11, [iv amc, .ref ad, iv an]))] : va_W)) s.heap.size = A at hD ⊢
  have hA : ∀ q : Nat, s.heap.size ≤ q → A q := fun q h => by rw [← hAe]; exact Or.inr h
  have hS : va_S A s.heap s.heap [] := va_S.rf
  have hl := lv_entry ([.ref it, .ref al]) (n := 2) (Nat.le_of_ble_eq_true rfl)
  rw [lg_entry_eq]
  generalize (lg_sl ([.ref it, .ref al]) ++ List.replicate (2 - (lg_sl ([.ref it, .ref al])).length) Slot.unset).toArray = ls at hl ⊢
  have hl : lv_has ls 2 [(0, .ref it), (1, .ref al)] := hl
  refine lv_aload_n hx hb dJ26_init_0 rfl (lv_at hl 0 rfl) ?_
  refine lv_aload_n hx hb dJ26_init_1 rfl (lv_at hl 1 rfl) ?_
  refine va_putF (D := E.1) (ci := 12) (v := .ref al) (ty := (tyJ26 3)) (C := RJ26) (T := TJ26) (N := 4) hx hb hts in_J26 tyJ26 tyJ26_ok nmJ26 hown hK.1 hP hD hS 0 rfl rfl 3 (by decide) (hts _ q1954) (fun _ h9 => h9) rfl hin rfl (by decide +kernel) rfl rfl (Nat.le_of_ble_eq_true rfl) dJ26_init_2 (fun H locs hP hD hS => ?_)
  have hP : va_P E.1 CL (([(it, .inr (12, [iv 0, iv 0, iv 0, .ref al]))] : va_W) ++ ([(al, .inr (11, [iv amc, .ref ad, iv an]))] : va_W)) H := hP
  have hD : va_D A (([(it, .inr (12, [iv 0, iv 0, iv 0, .ref al]))] : va_W) ++ ([(al, .inr (11, [iv amc, .ref ad, iv an]))] : va_W)) := hD
  refine lv_aload_n hx hb dJ26_init_5 rfl (lv_at hl 0 rfl) ?_
  refine W.objInit hx hb hown (hts _ q1950) (hts _ q138) (hts _ q139) rfl (by rw [hml]; exact hl.1) rfl dJ26_init_6 (Nat.le_of_ble_eq_true rfl) (Nat.le_of_ble_eq_true rfl) ?_
  refine W.eq (g2 := F0 m 9 ls []) rfl ?_
  refine lv_aload_n hx hb dJ26_init_9 rfl (lv_at hl 0 rfl) ?_
  refine lv_iconst (v := iI (-1)) hx hb dJ26_init_10 rfl ?_
  refine va_put (D := E.1) (ci := 12) (v := iv (-1)) (ty := .int) (C := RJ26) (T := TJ26) (N := 4) hx hb hts in_J26 tyJ26 tyJ26_ok nmJ26 hown hK.1 hP hD hS 0 rfl rfl 1 (by decide) (hts _ q1952) (fun _ h9 => h9) rfl (by decide +kernel) rfl rfl (Nat.le_of_ble_eq_true rfl) dJ26_init_11 (fun H locs hP hD hS => ?_)
  have hP : va_P E.1 CL (([(it, .inr (12, [iv 0, iv (-1), iv 0, .ref al]))] : va_W) ++ ([(al, .inr (11, [iv amc, .ref ad, iv an]))] : va_W)) H := hP
  have hD : va_D A (([(it, .inr (12, [iv 0, iv (-1), iv 0, .ref al]))] : va_W) ++ ([(al, .inr (11, [iv amc, .ref ad, iv an]))] : va_W)) := hD
  refine lv_aload_n hx hb dJ26_init_14 rfl (lv_at hl 0 rfl) ?_
  refine lv_aload_n hx hb dJ26_init_15 rfl (lv_at hl 0 rfl) ?_
  refine va_get (D := E.1) (ci := 12) (v := .ref al) (C := RJ26) (T := TJ26) (N := 4) hx hb hts in_J26 hown hK.1 hP 0 rfl rfl 3 (by decide) (hts _ q1954) (fun _ h9 => h9) rfl dJ26_init_16 ?_
  refine va_get (D := E.1) (ci := 11) (v := iv amc) (C := RJ7) (T := TJ7) (N := 3) hx hb hts in_J7 hown hK.1 hP 1 rfl rfl 0 (by decide) (hts _ q318) (u_same (hts _ q319)) rfl dJ26_init_19 ?_
  refine va_put (D := E.1) (ci := 12) (v := iv amc) (ty := .int) (C := RJ26) (T := TJ26) (N := 4) hx hb hts in_J26 tyJ26 tyJ26_ok nmJ26 hown hK.1 hP hD hS 0 rfl rfl 2 (by decide) (hts _ q1953) (fun _ h9 => h9) rfl (by decide +kernel) rfl rfl (Nat.le_of_ble_eq_true rfl) dJ26_init_22 (fun H locs hP hD hS => ?_)
  have hP : va_P E.1 CL (([(it, .inr (12, [iv 0, iv (-1), iv amc, .ref al]))] : va_W) ++ ([(al, .inr (11, [iv amc, .ref ad, iv an]))] : va_W)) H := hP
  have hD : va_D A (([(it, .inr (12, [iv 0, iv (-1), iv amc, .ref al]))] : va_W) ++ ([(al, .inr (11, [iv amc, .ref ad, iv an]))] : va_W)) := hD
  exact W.vret hx hb hr (fun tt_ ht_ hW_ => ⟨⟨(), rfl, trivial, by rw [ht_]; exact hP, hD⟩, hS.F ht_⟩) hS.2.2 dJ26_init_25
set_option maxHeartbeats 1000000 in
set_option maxRecDepth 100000 in
theorem mt_J7_iterator (l : Launch) (E : EE) (al : Nat) (amc : Int) (ad : Nat) (an : Int) (sz : Nat) : Met l yJ7_iterator (ws_ yJ7_iterator cJ7_iterator 1 (some (.object "java/util/Iterator"))) { frames := 2, cells := 1, slots := 4, locals := 41 } (va_Pc [.ref al] (UW E ([(al, .inr (11, [iv amc, .ref ad, iv an]))]) sz)) (UQxr E (fun u : Nat => True) (fun u : Nat => u) (fun u : Nat => ([(al, .inr (11, [iv amc, .ref ad, iv an]))] : va_W) ++ ([(u, .inr (12, [iv 0, iv (-1), iv amc, .ref al]))] : va_W)) (va_A ([(al, .inr (11, [iv amc, .ref ad, iv an]))]) sz)) 1 4 (va_A ([(al, .inr (11, [iv amc, .ref ad, iv an]))]) sz) := by
  refine Met.ofW (cc := cJ7_iterator) (maxL := 1) (ret := (some (.object "java/util/Iterator"))) (by decide) rfl ?_
  intro p e s m args below meth c s₁ B hml hv
  obtain ⟨rfl, hsz, hP, hK, hD0⟩ := hv
  have hx := B.exec
  have hb := B.bytes
  have hr := B.returns
  have hts := atoms_spec (ws := (ws_ yJ7_iterator cJ7_iterator 1 (some (.object "java/util/Iterator")))) B.pre
  have hts : ∀ w ∈ lw_all, w.before _ s = true := fun w h => hts w (List.mem_cons_of_mem _ h)
  have hown : s.vm.findClass RJ7 = some m.cls := findClass_of_methodNamed B.named
  have hlocks := B.notSynchronized
  subst hsz
  have hD := hD0.self (sz := s.heap.size)
  generalize hAe : va_A ([(al, .inr (11, [iv amc, .ref ad, iv an]))]) s.heap.size = A at hD ⊢
  have hA : ∀ q : Nat, s.heap.size ≤ q → A q := fun q h => by rw [← hAe]; exact Or.inr h
  have hS : va_S A s.heap s.heap [] := va_S.rf
  have hl := lv_entry ([.ref al]) (n := 1) (Nat.le_of_ble_eq_true rfl)
  rw [lg_entry_eq]
  generalize (lg_sl ([.ref al]) ++ List.replicate (1 - (lg_sl ([.ref al])).length) Slot.unset).toArray = ls at hl ⊢
  have hl : lv_has ls 1 [(0, .ref al)] := hl
  have hz9_q_1 : s.heap.size ≤ (s.heap).size := hS.1
  refine n_newK (ci := 12) (fs := [iv 0, iv 0, iv 0, .null]) (C := RJ26) (T := TJ26) (N := 4) hx hb hts in_J26 tyJ26 tyJ26_ok hown (hts _ q1945) (hts _ q1946) (hts _ q131) hK hP hD hS hA rfl (fun j hj => by rcases (show j = 0 ∨ j = 1 ∨ j = 2 ∨ j = 3 by omega) with rfl | rfl | rfl | rfl <;> rfl) (Nat.le_of_ble_eq_true rfl) (Nat.le_of_ble_eq_true rfl) dJ7_iterator_0 (fun q_1 H hfr_q_1 o_2 hsz_q_1 hP hD hS => ?_)
  have hge_q_1 : s.heap.size ≤ q_1 := Nat.le_trans hz9_q_1 hsz_q_1
  have hP : va_P E.1 CL (([(al, .inr (11, [iv amc, .ref ad, iv an]))] : va_W) ++ ([(q_1, .inr (12, [iv 0, iv 0, iv 0, .null]))] : va_W)) H := hP
  have hD : va_D A (([(al, .inr (11, [iv amc, .ref ad, iv an]))] : va_W) ++ ([(q_1, .inr (12, [iv 0, iv 0, iv 0, .null]))] : va_W)) := hD
  refine lv_dup hx hb dJ7_iterator_3 rfl ?_
  refine lv_aload_n hx hb dJ7_iterator_4 rfl (lv_at hl 0 rfl) ?_
  refine n_cuvS (w2 := ([(al, .inr (11, [iv amc, .ref ad, iv an]))] : va_W) ++ ([(q_1, .inr (12, [iv 0, iv (-1), iv amc, .ref al]))] : va_W)) (va_runI (As := [.ref al]) (rest := [.ref q_1]) ⟨hx, hb, hml, hown, hts⟩ (mt_J26_init l E q_1 al amc ad an  _) (n_cwI 1 hts q1947 q1948 q131 q1949 rfl rfl rfl (by decide +kernel) ⟨Nat.le_of_ble_eq_true rfl, Nat.le_of_ble_eq_true rfl⟩) (UW_S (hP.sub (ws' := ([(q_1, .inr (12, [iv 0, iv 0, iv 0, .null]))] : va_W) ++ ([(al, .inr (11, [iv amc, .ref ad, iv an]))] : va_W)) [1, 0] rfl) hK (hD.sub (ws' := ([(q_1, .inr (12, [iv 0, iv 0, iv 0, .null]))] : va_W) ++ ([(al, .inr (11, [iv amc, .ref ad, iv an]))] : va_W)) [1, 0] rfl rfl)) rfl rfl hl.1 rfl (lv_room (Nat.le_of_ble_eq_true rfl)) dJ7_iterator_5 ⟨Nat.le_of_ble_eq_true rfl, Nat.le_of_ble_eq_true rfl⟩) hP hD hS hA [1, 0] [] [1, 0] rfl rfl rfl rfl rfl rfl (fun H locs hP hD hS => ?_)
  have hP : va_P E.1 CL (([(al, .inr (11, [iv amc, .ref ad, iv an]))] : va_W) ++ ([(q_1, .inr (12, [iv 0, iv (-1), iv amc, .ref al]))] : va_W)) H := hP
  have hD : va_D A (([(al, .inr (11, [iv amc, .ref ad, iv an]))] : va_W) ++ ([(q_1, .inr (12, [iv 0, iv (-1), iv amc, .ref al]))] : va_W)) := hD
  refine W.widen (k := 1) (n := 4) (Nat.le_of_ble_eq_true rfl) (Nat.le_of_ble_eq_true rfl) ?_
  exact W.aret hx hb hr (Or.inl ⟨_, rfl⟩) (Or.inr ⟨_, rfl⟩) (fun tt_ ht_ hW_ => ⟨⟨q_1, rfl, trivial, by rw [ht_]; exact hP, hD⟩, hS.F ht_⟩) hS.2.2 dJ7_iterator_8
set_option maxHeartbeats 1000000 in
set_option maxRecDepth 100000 in
theorem mt_J26_hasNext (l : Launch) (E : EE) (it : Nat) (cur : Int) (lr : Int) (emc : Int) (al : Nat) (amc : Int) (ad : Nat) (an : Int) (hcu : 0 ≤ cur ∧ cur ≤ an ∧ an ≤ 10) : Met l yJ26_hasNext (ws_ yJ26_hasNext cJ26_hasNext 1 (some .boolean)) { frames := 0, cells := 0, slots := 0, locals := 0 } (va_Pc [.ref it] (PW E (([(it, .inr (12, [iv cur, iv lr, iv emc, .ref al]))] : va_W) ++ ([(al, .inr (11, [iv amc, .ref ad, iv an]))] : va_W)))) (NP (b2 (!(decide (cur = an))))) 0 0 (fun _ => False) := by
  refine Met.ofW (cc := cJ26_hasNext) (maxL := 1) (ret := (some .boolean)) (by decide) rfl ?_
  intro p e s m args below meth c s₁ B hml hv
  obtain ⟨rfl, hP, hK⟩ := hv
  have hx := B.exec
  have hb := B.bytes
  have hr := B.returns
  have hts := atoms_spec (ws := (ws_ yJ26_hasNext cJ26_hasNext 1 (some .boolean))) B.pre
  have hts : ∀ w ∈ lw_all, w.before _ s = true := fun w h => hts w (List.mem_cons_of_mem _ h)
  have hown : s.vm.findClass RJ26 = some m.cls := findClass_of_methodNamed B.named
  have hlocks := B.notSynchronized
  have hl := lv_entry ([.ref it]) (n := 1) (Nat.le_of_ble_eq_true rfl)
  rw [lg_entry_eq]
  generalize (lg_sl ([.ref it]) ++ List.replicate (1 - (lg_sl ([.ref it])).length) Slot.unset).toArray = ls at hl ⊢
  have hl : lv_has ls 1 [(0, .ref it)] := hl
  refine lv_aload_n hx hb dJ26_hasNext_0 rfl (lv_at hl 0 rfl) ?_
  refine va_get (D := E.1) (ci := 12) (v := iv cur) (C := RJ26) (T := TJ26) (N := 4) hx hb hts in_J26 hown hK.1 hP 0 rfl rfl 0 (by decide) (hts _ q1951) (fun _ h9 => h9) rfl dJ26_hasNext_1 ?_
  refine lv_aload_n hx hb dJ26_hasNext_4 rfl (lv_at hl 0 rfl) ?_
  refine va_get (D := E.1) (ci := 12) (v := .ref al) (C := RJ26) (T := TJ26) (N := 4) hx hb hts in_J26 hown hK.1 hP 0 rfl rfl 3 (by decide) (hts _ q1954) (fun _ h9 => h9) rfl dJ26_hasNext_5 ?_
  refine va_getN (D := E.1) (ci := 11) (v := iv an) (C := RJ7) (T := TJ7) (N := 3) hx hb hts in_J7 hown hK.1 hP 1 rfl rfl 2 (by decide) (hK.nw q315) (fun _ h9 => h9) rfl dJ26_hasNext_8 ?_
  refine n_icmp_eq (tgt := 18) hx hb dJ26_hasNext_11 (by decide) (by omega) (by omega) (fun c_1 => ?_) (fun c_1 => ?_)
  · refine lv_iconst (v := iI 0) hx hb dJ26_hasNext_18 rfl ?_
    have hfin : 0 = b2 (!(decide (cur = an))) := by
      simp [*, b2]
    exact W.zret (v := iI 0) hx hb hr (nr_b (by decide)) (fun tt_ ht_ hW_ => ⟨iI 0, rfl, (congrArg iI hfin), ht_⟩) (fun q h => by cases h) dJ26_hasNext_19
  · refine lv_iconst (v := iI 1) hx hb dJ26_hasNext_14 rfl ?_
    refine lv_goto (tgt := 19) hx hb dJ26_hasNext_15 (by decide) ?_
    have hfin : 1 = b2 (!(decide (cur = an))) := by
      simp [*, b2]
    exact W.zret (v := iI 1) hx hb hr (nr_b (by decide)) (fun tt_ ht_ hW_ => ⟨iI 1, rfl, (congrArg iI hfin), ht_⟩) (fun q h => by cases h) dJ26_hasNext_19
set_option maxHeartbeats 1000000 in
set_option maxRecDepth 100000 in
theorem mt_J26_checkForComodification (l : Launch) (E : EE) (it : Nat) (cur : Int) (lr : Int) (emc : Int) (al : Nat) (amc : Int) (ad : Nat) (an : Int) (hmc : 0 ≤ amc ∧ amc < 100000) (he : emc = amc) : Met l yJ26_checkForComodification (ws_ yJ26_checkForComodification cJ26_checkForComodification 1 none) { frames := 0, cells := 0, slots := 0, locals := 0 } (va_Pc [.ref it] (PW E (([(it, .inr (12, [iv cur, iv lr, iv emc, .ref al]))] : va_W) ++ ([(al, .inr (11, [iv amc, .ref ad, iv an]))] : va_W)))) NPv 0 0 (fun _ => False) := by
  refine Met.ofW (cc := cJ26_checkForComodification) (maxL := 1) (ret := none) (by decide) rfl ?_
  intro p e s m args below meth c s₁ B hml hv
  obtain ⟨rfl, hP, hK⟩ := hv
  have hx := B.exec
  have hb := B.bytes
  have hr := B.returns
  have hts := atoms_spec (ws := (ws_ yJ26_checkForComodification cJ26_checkForComodification 1 none)) B.pre
  have hts : ∀ w ∈ lw_all, w.before _ s = true := fun w h => hts w (List.mem_cons_of_mem _ h)
  have hown : s.vm.findClass RJ26 = some m.cls := findClass_of_methodNamed B.named
  have hlocks := B.notSynchronized
  have hl := lv_entry ([.ref it]) (n := 1) (Nat.le_of_ble_eq_true rfl)
  rw [lg_entry_eq]
  generalize (lg_sl ([.ref it]) ++ List.replicate (1 - (lg_sl ([.ref it])).length) Slot.unset).toArray = ls at hl ⊢
  have hl : lv_has ls 1 [(0, .ref it)] := hl
  refine lv_aload_n hx hb dJ26_checkForComodification_0 rfl (lv_at hl 0 rfl) ?_
  refine va_get (D := E.1) (ci := 12) (v := .ref al) (C := RJ26) (T := TJ26) (N := 4) hx hb hts in_J26 hown hK.1 hP 0 rfl rfl 3 (by decide) (hts _ q1954) (fun _ h9 => h9) rfl dJ26_checkForComodification_1 ?_
  refine va_get (D := E.1) (ci := 11) (v := iv amc) (C := RJ7) (T := TJ7) (N := 3) hx hb hts in_J7 hown hK.1 hP 1 rfl rfl 0 (by decide) (hts _ q318) (u_same (hts _ q319)) rfl dJ26_checkForComodification_4 ?_
  refine lv_aload_n hx hb dJ26_checkForComodification_7 rfl (lv_at hl 0 rfl) ?_
  refine va_get (D := E.1) (ci := 12) (v := iv emc) (C := RJ26) (T := TJ26) (N := 4) hx hb hts in_J26 hown hK.1 hP 0 rfl rfl 2 (by decide) (hts _ q1953) (fun _ h9 => h9) rfl dJ26_checkForComodification_8 ?_
  refine n_icmp_eq (tgt := 22) hx hb dJ26_checkForComodification_11 (by decide) (by omega) (by omega) (fun c_1 => ?_) (fun c_1 => ?_)
  · exact W.vret hx hb hr (fun tt_ ht_ hW_ => ⟨rfl, ht_⟩) (fun q h => by cases h) dJ26_checkForComodification_22
  · exfalso; omega
set_option maxHeartbeats 1000000 in
set_option maxRecDepth 100000 in
theorem mt_J26_next (l : Launch) (E : EE) (it : Nat) (cur : Int) (lr : Int) (emc : Int) (al : Nat) (amc : Int) (an : Int) (ad : Nat) (fq : Int → Option Nat)  (q9 : Nat) (hmc : 0 ≤ amc ∧ amc < 100000) (he : emc = amc) (hcu : 0 ≤ cur ∧ cur < an ∧ an ≤ 10) (hq9 : fq cur = some q9) (sz : Nat) : Met l yJ26_next (ws_ yJ26_next cJ26_next 3 (some (.object "java/lang/Object"))) { frames := 1, cells := 0, slots := 0, locals := 20 } (va_Pc [.ref it] (UW E (([(it, .inr (12, [iv cur, iv lr, iv emc, .ref al]))] : va_W) ++ ([(al, .inr (11, [iv amc, .ref ad, iv an]))] : va_W) ++ ([(ad, qa (E.2 4) 10 fq)] : va_W)) sz)) (UQxr E (fun u : Unit => True) (fun u : Unit => q9) (fun u : Unit => ([(it, .inr (12, [iv (cur + 1), iv cur, iv emc, .ref al]))] : va_W) ++ ([(al, .inr (11, [iv amc, .ref ad, iv an]))] : va_W) ++ ([(ad, qa (E.2 4) 10 fq)] : va_W)) (va_A (([(it, .inr (12, [iv cur, iv lr, iv emc, .ref al]))] : va_W) ++ ([(al, .inr (11, [iv amc, .ref ad, iv an]))] : va_W) ++ ([(ad, qa (E.2 4) 10 fq)] : va_W)) sz)) 0 0 (va_A (([(it, .inr (12, [iv cur, iv lr, iv emc, .ref al]))] : va_W) ++ ([(al, .inr (11, [iv amc, .ref ad, iv an]))] : va_W) ++ ([(ad, qa (E.2 4) 10 fq)] : va_W)) sz) := by
  refine Met.ofW (cc := cJ26_next) (maxL := 3) (ret := (some (.object "java/lang/Object"))) (by decide) rfl ?_
  intro p e s m args below meth c s₁ B hml hv
  obtain ⟨rfl, hsz, hP, hK, hD0⟩ := hv
  have hx := B.exec
  have hb := B.bytes
  have hr := B.returns
  have hts := atoms_spec (ws := (ws_ yJ26_next cJ26_next 3 (some (.object "java/lang/Object")))) B.pre
  have hts : ∀ w ∈ lw_all, w.before _ s = true := fun w h => hts w (List.mem_cons_of_mem _ h)
  have hown : s.vm.findClass RJ26 = some m.cls := findClass_of_methodNamed B.named
  have hlocks := B.notSynchronized
  subst hsz
  have hD := hD0.self (sz := s.heap.size)
  generalize hAe : va_A (([(it, .inr (12, [iv cur, iv lr, iv emc, .ref al]))] : va_W) ++ ([(al, .inr (11, [iv amc, .ref ad, iv an]))] : va_W) ++ ([(ad, qa (E.2 4) 10 fq)] : va_W)) s.heap.size = A at hD ⊢
  have hA : ∀ q : Nat, s.heap.size ≤ q → A q := fun q h => by rw [← hAe]; exact Or.inr h
  have hS : va_S A s.heap s.heap [] := va_S.rf
  have hl := lv_entry ([.ref it]) (n := 3) (Nat.le_of_ble_eq_true rfl)
  rw [lg_entry_eq]
  generalize (lg_sl ([.ref it]) ++ List.replicate (3 - (lg_sl ([.ref it])).length) Slot.unset).toArray = ls at hl ⊢
  have hl : lv_has ls 3 [(0, .ref it)] := hl
  refine lv_aload_n hx hb dJ26_next_0 rfl (lv_at hl 0 rfl) ?_
  refine n_csv ((va_runV (As := []) (rest := []) ⟨hx, hb, hml, hown, hts⟩ (mt_J26_checkForComodification l E it cur lr emc al amc ad an  (by omega) (by first | rfl | omega | assumption)) (cwV 0 hts (lw_V q1983 q1984 q1985 q131 q1986) rfl rfl rfl (by decide +kernel) ⟨Nat.le_of_ble_eq_true rfl, Nat.le_of_ble_eq_true rfl⟩) (PW_V (hP.sub (ws' := ([(it, .inr (12, [iv cur, iv lr, iv emc, .ref al]))] : va_W) ++ ([(al, .inr (11, [iv amc, .ref ad, iv an]))] : va_W)) [0, 1] rfl) hK (va_recv hK.1 hP (ci := 12) (q0 := 0) rfl rfl)) rfl rfl hl.1 rfl (lv_room (Nat.le_of_ble_eq_true rfl)) dJ26_next_1 ⟨Nat.le_of_ble_eq_true rfl, Nat.le_of_ble_eq_true rfl⟩).run) ?_
  refine lv_aload_n hx hb dJ26_next_4 rfl (lv_at hl 0 rfl) ?_
  refine va_get (D := E.1) (ci := 12) (v := iv cur) (C := RJ26) (T := TJ26) (N := 4) hx hb hts in_J26 hown hK.1 hP 0 rfl rfl 0 (by decide) (hts _ q1951) (fun _ h9 => h9) rfl dJ26_next_5 ?_
  refine lv_istore_n (lv' := [(1, iv cur), (0, .ref it)]) hx hb dJ26_next_8 rfl hl (by decide) rfl (fun ls hl => ?_)
  refine lv_iload_n hx hb dJ26_next_9 rfl (lv_at hl 0 rfl) ?_
  refine lv_aload_n hx hb dJ26_next_10 rfl (lv_at hl 1 rfl) ?_
  refine va_get (D := E.1) (ci := 12) (v := .ref al) (C := RJ26) (T := TJ26) (N := 4) hx hb hts in_J26 hown hK.1 hP 0 rfl rfl 3 (by decide) (hts _ q1954) (fun _ h9 => h9) rfl dJ26_next_11 ?_
  refine va_getN (D := E.1) (ci := 11) (v := iv an) (C := RJ7) (T := TJ7) (N := 3) hx hb hts in_J7 hown hK.1 hP 1 rfl rfl 2 (by decide) (hK.nw q315) (fun _ h9 => h9) rfl dJ26_next_14 ?_
  refine n_icmp_lt (tgt := 28) hx hb dJ26_next_17 (by decide) (by omega) (by omega) (fun c_1 => ?_) (fun c_1 => ?_)
  · refine lv_aload_n hx hb dJ26_next_28 rfl (lv_at hl 1 rfl) ?_
    refine va_get (D := E.1) (ci := 12) (v := .ref al) (C := RJ26) (T := TJ26) (N := 4) hx hb hts in_J26 hown hK.1 hP 0 rfl rfl 3 (by decide) (hts _ q1954) (fun _ h9 => h9) rfl dJ26_next_29 ?_
    refine va_get (D := E.1) (ci := 11) (v := .ref ad) (C := RJ7) (T := TJ7) (N := 3) hx hb hts in_J7 hown hK.1 hP 1 rfl rfl 1 (by decide) (hts _ q314) (fun _ h9 => h9) rfl dJ26_next_32 ?_
    refine lv_astore_n (lv' := [(2, .ref ad), (1, iv cur), (0, .ref it)]) hx hb dJ26_next_35 rfl hl (by decide) rfl (fun ls hl => ?_)
    refine lv_iload_n hx hb dJ26_next_36 rfl (lv_at hl 1 rfl) ?_
    refine lv_aload_n hx hb dJ26_next_37 rfl (lv_at hl 0 rfl) ?_
    refine va_alen (v := iI 10) hx hb hK.1 hP 2 4 rfl rfl rfl dJ26_next_38 ?_
    refine n_icmp_lt (tgt := 50) hx hb dJ26_next_39 (by decide) (by omega) (by omega) (fun c_2 => ?_) (fun c_2 => ?_)
    · refine lv_aload_n hx hb dJ26_next_50 rfl (lv_at hl 2 rfl) ?_
      refine lv_iload_n hx hb dJ26_next_51 rfl (lv_at hl 1 rfl) ?_
      refine lv_iconst (v := iI 1) hx hb dJ26_next_52 rfl ?_
      refine n_iadd hx hb dJ26_next_53 ?_
      refine va_put (D := E.1) (ci := 12) (v := iv (cur + 1)) (ty := .int) (C := RJ26) (T := TJ26) (N := 4) hx hb hts in_J26 tyJ26 tyJ26_ok nmJ26 hown hK.1 hP hD hS 0 rfl rfl 0 (by decide) (hts _ q1951) (fun _ h9 => h9) rfl (by decide +kernel) rfl rfl (Nat.le_of_ble_eq_true rfl) dJ26_next_54 (fun H locs hP hD hS => ?_)
      have hP : va_P E.1 CL (([(it, .inr (12, [iv (cur + 1), iv lr, iv emc, .ref al]))] : va_W) ++ ([(al, .inr (11, [iv amc, .ref ad, iv an]))] : va_W) ++ ([(ad, qa (E.2 4) 10 fq)] : va_W)) H := hP
      have hD : va_D A (([(it, .inr (12, [iv (cur + 1), iv lr, iv emc, .ref al]))] : va_W) ++ ([(al, .inr (11, [iv amc, .ref ad, iv an]))] : va_W) ++ ([(ad, qa (E.2 4) 10 fq)] : va_W)) := hD
      refine lv_aload_n hx hb dJ26_next_57 rfl (lv_at hl 0 rfl) ?_
      refine lv_aload_n hx hb dJ26_next_58 rfl (lv_at hl 2 rfl) ?_
      refine lv_iload_n hx hb dJ26_next_59 rfl (lv_at hl 1 rfl) ?_
      refine lv_dup_x1 hx hb dJ26_next_60 rfl rfl ?_
      refine va_put (D := E.1) (ci := 12) (v := iv cur) (ty := .int) (C := RJ26) (T := TJ26) (N := 4) hx hb hts in_J26 tyJ26 tyJ26_ok nmJ26 hown hK.1 hP hD hS 0 rfl rfl 1 (by decide) (hts _ q1952) (fun _ h9 => h9) rfl (by decide +kernel) rfl rfl (Nat.le_of_ble_eq_true rfl) dJ26_next_61 (fun H locs hP hD hS => ?_)
      have hP : va_P E.1 CL (([(it, .inr (12, [iv (cur + 1), iv cur, iv emc, .ref al]))] : va_W) ++ ([(al, .inr (11, [iv amc, .ref ad, iv an]))] : va_W) ++ ([(ad, qa (E.2 4) 10 fq)] : va_W)) H := hP
      have hD : va_D A (([(it, .inr (12, [iv (cur + 1), iv cur, iv emc, .ref al]))] : va_W) ++ ([(al, .inr (11, [iv amc, .ref ad, iv an]))] : va_W) ++ ([(ad, qa (E.2 4) 10 fq)] : va_W)) := hD
      refine n_qald (f := fq) hx hb hK hP 2 4 rfl rfl (by omega) (by decide) dJ26_next_64 ?_
      rw [hq9]
      exact W.aret hx hb hr (Or.inl ⟨_, rfl⟩) (Or.inr ⟨_, rfl⟩) (fun tt_ ht_ hW_ => ⟨⟨(), rfl, trivial, by rw [ht_]; exact hP, hD⟩, hS.F ht_⟩) hS.2.2 dJ26_next_65
    · exfalso; omega
  · exfalso; omega
