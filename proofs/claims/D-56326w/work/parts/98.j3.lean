set_option maxHeartbeats 4000000 in
set_option maxRecDepth 100000 in
theorem mt_J0_init (l : Launch) (E : EE) (da : Nat) : Met l yJ0_init (ws_ yJ0_init cJ0_init 1 none) { frames := 1, cells := 0, slots := 0, locals := 20 } (va_Pc [.ref da] (PW E ([]))) NPv 0 0 (fun _ => False) := by
  refine Met.ofW (cc := cJ0_init) (maxL := 1) (ret := none) (by decide) rfl ?_
  intro p e s m args below meth c s₁ B hml hv
  obtain ⟨rfl, hP, hK⟩ := hv
  have hx := B.exec
  have hb := B.bytes
  have hr := B.returns
  have hts := atoms_spec (ws := (ws_ yJ0_init cJ0_init 1 none)) B.pre
  have hts : ∀ w ∈ lw_all, w.before _ s = true := fun w h => hts w (List.mem_cons_of_mem _ h)
  have hown : s.vm.findClass RJ0 = some m.cls := findClass_of_methodNamed B.named
  have hlocks := B.notSynchronized
  have hin : meth.name = "<init>" := (name_of_methodNamed B.named B.method).1
  have hl := lv_entry ([.ref da]) (n := 1) (Nat.le_of_ble_eq_true rfl)
  rw [lg_entry_eq]
  generalize (lg_sl ([.ref da]) ++ List.replicate (1 - (lg_sl ([.ref da])).length) Slot.unset).toArray = ls at hl ⊢
  have hl : lv_has ls 1 [(0, .ref da)] := hl
  refine lv_aload_n hx hb dJ0_init_0 rfl (lv_at hl 0 rfl) ?_
  refine W.objInit hx hb hown (hts _ q250) (hts _ q138) (hts _ q139) rfl (by rw [hml]; exact hl.1) rfl dJ0_init_1 (Nat.le_of_ble_eq_true rfl) (Nat.le_of_ble_eq_true rfl) ?_
  refine W.eq (g2 := F0 m 4 ls []) rfl ?_
  exact W.vret hx hb hr (fun tt_ ht_ hW_ => ⟨rfl, ht_⟩) (fun q h => by cases h) dJ0_init_4
set_option maxHeartbeats 1000000 in
set_option maxRecDepth 100000 in
theorem mt_J1_init (l : Launch) (E : EE) (da : Nat) (sz : Nat) : Met l yJ1_init (ws_ yJ1_init cJ1_init 1 none) { frames := 2, cells := 1, slots := 17, locals := 40 } (va_Pc [.ref da] (UW E ([(da, .inr (9, [.null, iv 0, iv 0]))]) sz)) (UQxv E (fun u : Nat => True) (fun u : Nat => ([(da, .inr (9, [.ref u, iv 0, iv 0]))]) ++ ([(u, qa (E.2 4) 17 (fun _ => none))])) (va_A ([(da, .inr (9, [.null, iv 0, iv 0]))]) sz)) 1 17 (va_A ([(da, .inr (9, [.null, iv 0, iv 0]))]) sz) := by
  refine Met.ofW (cc := cJ1_init) (maxL := 1) (ret := none) (by decide) rfl ?_
  intro p e s m args below meth c s₁ B hml hv
  obtain ⟨rfl, hsz, hP, hK, hD0⟩ := hv
  have hx := B.exec
  have hb := B.bytes
  have hr := B.returns
  have hts := atoms_spec (ws := (ws_ yJ1_init cJ1_init 1 none)) B.pre
  have hts : ∀ w ∈ lw_all, w.before _ s = true := fun w h => hts w (List.mem_cons_of_mem _ h)
  have hown : s.vm.findClass RJ1 = some m.cls := findClass_of_methodNamed B.named
  have hlocks := B.notSynchronized
  have hin : meth.name = "<init>" := (name_of_methodNamed B.named B.method).1
  subst hsz
  have hD := hD0.self (sz := s.heap.size)
  generalize hAe : va_A ([(da, .inr (9, [.null, iv 0, iv 0]))]) s.heap.size = A at hD ⊢
  have hA : ∀ q : Nat, s.heap.size ≤ q → A q := fun q h => by rw [← hAe]; exact Or.inr h
  have hS : va_S A s.heap s.heap [] := va_S.rf
  have hl := lv_entry ([.ref da]) (n := 1) (Nat.le_of_ble_eq_true rfl)
  rw [lg_entry_eq]
  generalize (lg_sl ([.ref da]) ++ List.replicate (1 - (lg_sl ([.ref da])).length) Slot.unset).toArray = ls at hl ⊢
  have hl : lv_has ls 1 [(0, .ref da)] := hl
  refine lv_aload_n hx hb dJ1_init_0 rfl (lv_at hl 0 rfl) ?_
  refine n_csv ((va_runI (As := []) (rest := []) ⟨hx, hb, hml, hown, hts⟩ (mt_J0_init l E da) (n_cwI 0 hts q247 q248 q97 q249 rfl rfl rfl (by decide +kernel) ⟨Nat.le_of_ble_eq_true rfl, Nat.le_of_ble_eq_true rfl⟩) (PW_S (hP.sub (ws' := []) [] rfl) hK) rfl rfl hl.1 rfl (lv_room (Nat.le_of_ble_eq_true rfl)) dJ1_init_1 ⟨Nat.le_of_ble_eq_true rfl, Nat.le_of_ble_eq_true rfl⟩).run) ?_
  refine lv_aload_n hx hb dJ1_init_4 rfl (lv_at hl 0 rfl) ?_
  refine lv_bipush (v := iI 17) hx hb dJ1_init_5 (by decide) ?_
  refine n_newqa hx hb hown (hts _ q251) hK hP hD hS hA (N' := 17) rfl (by decide) (Nat.le_of_ble_eq_true rfl) (Nat.le_of_ble_eq_true rfl) dJ1_init_7 (fun q_1 H hP hD hS => ?_)
  have hP : va_P E.1 CL (([(da, .inr (9, [.null, iv 0, iv 0]))]) ++ ([(q_1, qa (E.2 4) 17 (fun _ => none))])) H := hP
  have hD : va_D A (([(da, .inr (9, [.null, iv 0, iv 0]))]) ++ ([(q_1, qa (E.2 4) 17 (fun _ => none))])) := hD
  refine va_put (D := E.1) (ci := 9) (v := .ref q_1) (ty := (tyJ1 0)) (C := RJ1) (T := TJ1) (N := 3) hx hb hts in_J1 tyJ1 tyJ1_ok nmJ1 hown hK.1 hP hD hS 0 rfl rfl 0 (by decide) (hts _ q253) (fun _ h9 => h9) rfl (by decide +kernel) rfl rfl (Nat.le_of_ble_eq_true rfl) dJ1_init_10 (fun H locs hP hD hS => ?_)
  have hP : va_P E.1 CL (([(da, .inr (9, [.ref q_1, iv 0, iv 0]))]) ++ ([(q_1, qa (E.2 4) 17 (fun _ => none))])) H := hP
  have hD : va_D A (([(da, .inr (9, [.ref q_1, iv 0, iv 0]))]) ++ ([(q_1, qa (E.2 4) 17 (fun _ => none))])) := hD
  refine W.widen (k := 1) (n := 17) (Nat.le_of_ble_eq_true rfl) (Nat.le_of_ble_eq_true rfl) ?_
  exact W.vret hx hb hr (fun tt_ ht_ hW_ => ⟨⟨q_1, rfl, trivial, by rw [ht_]; exact hP, hD⟩, hS.F ht_⟩) hS.2.2 dJ1_init_13
set_option maxHeartbeats 1000000 in
set_option maxRecDepth 100000 in
theorem mt_J1_addLastI (l : Launch) (E : EE) (da : Nat) (hd : Int) (tl : Int) (db : Nat) (fq : Int → Option Nat) (v : Int) (hv : -128 ≤ v ∧ v ≤ 127) (hh : 0 ≤ hd ∧ hd < 17) (ht : 0 ≤ tl ∧ tl < 17) (hfull : ¬ hd = (if tl + 1 < 17 then tl + 1 else 0)) (sz : Nat) : Met l yJ1_addLast (ws_ yJ1_addLast cJ1_addLast 3 none) { frames := 1, cells := 0, slots := 0, locals := 21 } (va_Pc [.ref da, .ref (BX E v)] (UX E (([(da, .inr (9, [.ref db, iv hd, iv tl]))]) ++ ([(db, qa (E.2 4) 17 fq)])) sz)) (UQv E (([(da, .inr (9, [.ref db, iv hd, iv (if tl + 1 < 17 then tl + 1 else 0)]))]) ++ ([(db, qa (E.2 4) 17 (uq fq tl (some (BX E v))))])) (va_A (([(da, .inr (9, [.ref db, iv hd, iv tl]))]) ++ ([(db, qa (E.2 4) 17 fq)])) sz)) 0 0 (va_A (([(da, .inr (9, [.ref db, iv hd, iv tl]))]) ++ ([(db, qa (E.2 4) 17 fq)])) sz) := by
  refine Met.ofW (cc := cJ1_addLast) (maxL := 3) (ret := none) (by decide) rfl ?_
  intro p e s m args below meth c s₁ B hml hv
  obtain ⟨rfl, hsz, hP, hK, hD0, hE⟩ := hv
  have hx := B.exec
  have hb := B.bytes
  have hr := B.returns
  have hts := atoms_spec (ws := (ws_ yJ1_addLast cJ1_addLast 3 none)) B.pre
  have hts : ∀ w ∈ lw_all, w.before _ s = true := fun w h => hts w (List.mem_cons_of_mem _ h)
  have hown : s.vm.findClass RJ1 = some m.cls := findClass_of_methodNamed B.named
  have hlocks := B.notSynchronized
  subst hsz
  have hD := hD0.self (sz := s.heap.size)
  generalize hAe : va_A (([(da, .inr (9, [.ref db, iv hd, iv tl]))]) ++ ([(db, qa (E.2 4) 17 fq)])) s.heap.size = A at hD hE ⊢
  have hA : ∀ q : Nat, s.heap.size ≤ q → A q := fun q h => by rw [← hAe]; exact Or.inr h
  have hS : va_S A s.heap s.heap [] := va_S.rf
  have hl := lv_entry ([.ref da, .ref (BX E v)]) (n := 3) (Nat.le_of_ble_eq_true rfl)
  rw [lg_entry_eq]
  generalize (lg_sl ([.ref da, .ref (BX E v)]) ++ List.replicate (3 - (lg_sl ([.ref da, .ref (BX E v)])).length) Slot.unset).toArray = ls at hl ⊢
  have hl : lv_has ls 3 [(0, .ref da), (1, .ref (BX E v))] := hl
  refine lv_aload_n hx hb dJ1_addLast_0 rfl (lv_at hl 1 rfl) ?_
  refine lv_ifnonnull (tgt := 12) hx hb dJ1_addLast_1 (by decide) ?_
  refine lv_aload_n hx hb dJ1_addLast_12 rfl (lv_at hl 0 rfl) ?_
  refine va_get (D := E.1) (ci := 9) (v := .ref db) (C := RJ1) (T := TJ1) (N := 3) hx hb hts in_J1 hown hK.1 hP 0 rfl rfl 0 (by decide) (hts _ q253) (fun _ h9 => h9) rfl dJ1_addLast_13 ?_
  refine lv_astore_n (lv' := [(2, .ref db), (0, .ref da), (1, .ref (BX E v))]) hx hb dJ1_addLast_16 rfl hl (by decide) rfl (fun ls hl => ?_)
  refine lv_aload_n hx hb dJ1_addLast_17 rfl (lv_at hl 0 rfl) ?_
  refine lv_aload_n hx hb dJ1_addLast_18 rfl (lv_at hl 1 rfl) ?_
  refine va_get (D := E.1) (ci := 9) (v := iv tl) (C := RJ1) (T := TJ1) (N := 3) hx hb hts in_J1 hown hK.1 hP 0 rfl rfl 2 (by decide) (hts _ q255) (fun _ h9 => h9) rfl dJ1_addLast_19 ?_
  refine lv_aload_n hx hb dJ1_addLast_22 rfl (lv_at hl 2 rfl) ?_
  refine n_qast (f := fq) (C := "java/lang/Integer") hx hb hK hP hD hS 1 4 rfl rfl (hK.nv q2562) (bx_recv hE hS (by omega)) (by omega) (by decide) dJ1_addLast_23 (w2 := ([(da, .inr (9, [.ref db, iv hd, iv tl]))]) ++ ([(db, qa (E.2 4) 17 (uq fq tl (some (BX E v))))])) rfl (fun H locs hP hD hS => ?_)
  refine lv_aload_n hx hb dJ1_addLast_24 rfl (lv_at hl 1 rfl) ?_
  refine va_get (D := E.1) (ci := 9) (v := iv hd) (C := RJ1) (T := TJ1) (N := 3) hx hb hts in_J1 hown hK.1 hP 0 rfl rfl 1 (by decide) (hts _ q254) (fun _ h9 => h9) rfl dJ1_addLast_25 ?_
  refine lv_aload_n hx hb dJ1_addLast_28 rfl (lv_at hl 1 rfl) ?_
  refine lv_aload_n hx hb dJ1_addLast_29 rfl (lv_at hl 1 rfl) ?_
  refine va_get (D := E.1) (ci := 9) (v := iv tl) (C := RJ1) (T := TJ1) (N := 3) hx hb hts in_J1 hown hK.1 hP 0 rfl rfl 2 (by decide) (hts _ q255) (fun _ h9 => h9) rfl dJ1_addLast_30 ?_
  refine lv_aload_n hx hb dJ1_addLast_33 rfl (lv_at hl 0 rfl) ?_
  refine va_alen (v := iI 17) hx hb hK.1 hP 1 4 rfl rfl rfl dJ1_addLast_34 ?_
  refine n_csi (x := (if tl + 1 < 17 then tl + 1 else 0)) (va_runS (As := [iv tl, iv 17]) (rest := [.ref da, iv hd]) ⟨hx, hb, hml, hown, hts⟩ (mt_J1_inc l E tl 17 (by omega)) (va_cwS 2 hts (lw_S q343 q344 q98 q345) rfl rfl rfl (by decide +kernel) ⟨Nat.le_of_ble_eq_true rfl, Nat.le_of_ble_eq_true rfl⟩) (PW_S (hP.sub (ws' := []) [] rfl) hK) rfl rfl hl.1 rfl (lv_room (Nat.le_of_ble_eq_true rfl)) dJ1_addLast_35 ⟨Nat.le_of_ble_eq_true rfl, Nat.le_of_ble_eq_true rfl⟩) ?_
  refine lv_dup_x1 hx hb dJ1_addLast_38 rfl rfl ?_
  have b_1 := (show 0 ≤ (if tl + 1 < 17 then tl + 1 else 0) ∧ (if tl + 1 < 17 then tl + 1 else 0) < 17 by split <;> omega)
  refine va_put (D := E.1) (ci := 9) (v := iv (if tl + 1 < 17 then tl + 1 else 0)) (ty := .int) (C := RJ1) (T := TJ1) (N := 3) hx hb hts in_J1 tyJ1 tyJ1_ok nmJ1 hown hK.1 hP hD hS 0 rfl rfl 2 (by decide) (hts _ q255) (fun _ h9 => h9) rfl (by decide +kernel) rfl rfl (Nat.le_of_ble_eq_true rfl) dJ1_addLast_39 (fun H locs hP hD hS => ?_)
  have hP : va_P E.1 CL (([(da, .inr (9, [.ref db, iv hd, iv (if tl + 1 < 17 then tl + 1 else 0)]))]) ++ ([(db, qa (E.2 4) 17 (uq fq tl (some (BX E v))))])) H := hP
  have hD : va_D A (([(da, .inr (9, [.ref db, iv hd, iv (if tl + 1 < 17 then tl + 1 else 0)]))]) ++ ([(db, qa (E.2 4) 17 (uq fq tl (some (BX E v))))])) := hD
  refine n_icmp_ne (tgt := 50) hx hb dJ1_addLast_42 (by decide) (by omega) (by omega) (fun c_2 => ?_) (fun c_2 => ?_)
  · exact W.vret hx hb hr (fun tt_ ht_ hW_ => ⟨⟨(), rfl, trivial, by rw [ht_]; exact hP, hD⟩, hS.F ht_⟩) hS.2.2 dJ1_addLast_50
  · exact absurd (by assumption) hfull
set_option maxHeartbeats 1000000 in
set_option maxRecDepth 100000 in
theorem mt_J1_addLastO (l : Launch) (E : EE) (da : Nat) (hd : Int) (tl : Int) (db : Nat) (fq : Int → Option Nat) (q9 : Nat) (vs9 : List Value) (hh : 0 ≤ hd ∧ hd < 17) (ht : 0 ≤ tl ∧ tl < 17) (hfull : ¬ hd = (if tl + 1 < 17 then tl + 1 else 0)) (sz : Nat) : Met l yJ1_addLast (ws_ yJ1_addLast cJ1_addLast 3 none) { frames := 1, cells := 0, slots := 0, locals := 21 } (va_Pc [.ref da, .ref q9] (UW E (([(da, .inr (9, [.ref db, iv hd, iv tl]))]) ++ ([(db, qa (E.2 4) 17 fq)]) ++ ([(q9, .inr (2, vs9))])) sz)) (UQv E (([(da, .inr (9, [.ref db, iv hd, iv (if tl + 1 < 17 then tl + 1 else 0)]))]) ++ ([(db, qa (E.2 4) 17 (uq fq tl (some q9)))]) ++ ([(q9, .inr (2, vs9))])) (va_A (([(da, .inr (9, [.ref db, iv hd, iv tl]))]) ++ ([(db, qa (E.2 4) 17 fq)]) ++ ([(q9, .inr (2, vs9))])) sz)) 0 0 (va_A (([(da, .inr (9, [.ref db, iv hd, iv tl]))]) ++ ([(db, qa (E.2 4) 17 fq)]) ++ ([(q9, .inr (2, vs9))])) sz) := by
  refine Met.ofW (cc := cJ1_addLast) (maxL := 3) (ret := none) (by decide) rfl ?_
  intro p e s m args below meth c s₁ B hml hv
  obtain ⟨rfl, hsz, hP, hK, hD0⟩ := hv
  have hx := B.exec
  have hb := B.bytes
  have hr := B.returns
  have hts := atoms_spec (ws := (ws_ yJ1_addLast cJ1_addLast 3 none)) B.pre
  have hts : ∀ w ∈ lw_all, w.before _ s = true := fun w h => hts w (List.mem_cons_of_mem _ h)
  have hown : s.vm.findClass RJ1 = some m.cls := findClass_of_methodNamed B.named
  have hlocks := B.notSynchronized
  subst hsz
  have hD := hD0.self (sz := s.heap.size)
  generalize hAe : va_A (([(da, .inr (9, [.ref db, iv hd, iv tl]))]) ++ ([(db, qa (E.2 4) 17 fq)]) ++ ([(q9, .inr (2, vs9))])) s.heap.size = A at hD ⊢
  have hA : ∀ q : Nat, s.heap.size ≤ q → A q := fun q h => by rw [← hAe]; exact Or.inr h
  have hS : va_S A s.heap s.heap [] := va_S.rf
  have hl := lv_entry ([.ref da, .ref q9]) (n := 3) (Nat.le_of_ble_eq_true rfl)
  rw [lg_entry_eq]
  generalize (lg_sl ([.ref da, .ref q9]) ++ List.replicate (3 - (lg_sl ([.ref da, .ref q9])).length) Slot.unset).toArray = ls at hl ⊢
  have hl : lv_has ls 3 [(0, .ref da), (1, .ref q9)] := hl
  refine lv_aload_n hx hb dJ1_addLast_0 rfl (lv_at hl 1 rfl) ?_
  refine lv_ifnonnull (tgt := 12) hx hb dJ1_addLast_1 (by decide) ?_
  refine lv_aload_n hx hb dJ1_addLast_12 rfl (lv_at hl 0 rfl) ?_
  refine va_get (D := E.1) (ci := 9) (v := .ref db) (C := RJ1) (T := TJ1) (N := 3) hx hb hts in_J1 hown hK.1 hP 0 rfl rfl 0 (by decide) (hts _ q253) (fun _ h9 => h9) rfl dJ1_addLast_13 ?_
  refine lv_astore_n (lv' := [(2, .ref db), (0, .ref da), (1, .ref q9)]) hx hb dJ1_addLast_16 rfl hl (by decide) rfl (fun ls hl => ?_)
  refine lv_aload_n hx hb dJ1_addLast_17 rfl (lv_at hl 0 rfl) ?_
  refine lv_aload_n hx hb dJ1_addLast_18 rfl (lv_at hl 1 rfl) ?_
  refine va_get (D := E.1) (ci := 9) (v := iv tl) (C := RJ1) (T := TJ1) (N := 3) hx hb hts in_J1 hown hK.1 hP 0 rfl rfl 2 (by decide) (hts _ q255) (fun _ h9 => h9) rfl dJ1_addLast_19 ?_
  refine lv_aload_n hx hb dJ1_addLast_22 rfl (lv_at hl 2 rfl) ?_
  refine n_qast (f := fq) (C := "ClockworkTailor$State") hx hb hK hP hD hS 1 4 rfl rfl (hK.nv q2550) (va_recv hK.1 hP (ci := 2) (q0 := 2) rfl rfl) (by omega) (by decide) dJ1_addLast_23 (w2 := ([(da, .inr (9, [.ref db, iv hd, iv tl]))]) ++ ([(db, qa (E.2 4) 17 (uq fq tl (some q9)))]) ++ ([(q9, .inr (2, vs9))])) rfl (fun H locs hP hD hS => ?_)
  refine lv_aload_n hx hb dJ1_addLast_24 rfl (lv_at hl 1 rfl) ?_
  refine va_get (D := E.1) (ci := 9) (v := iv hd) (C := RJ1) (T := TJ1) (N := 3) hx hb hts in_J1 hown hK.1 hP 0 rfl rfl 1 (by decide) (hts _ q254) (fun _ h9 => h9) rfl dJ1_addLast_25 ?_
  refine lv_aload_n hx hb dJ1_addLast_28 rfl (lv_at hl 1 rfl) ?_
  refine lv_aload_n hx hb dJ1_addLast_29 rfl (lv_at hl 1 rfl) ?_
  refine va_get (D := E.1) (ci := 9) (v := iv tl) (C := RJ1) (T := TJ1) (N := 3) hx hb hts in_J1 hown hK.1 hP 0 rfl rfl 2 (by decide) (hts _ q255) (fun _ h9 => h9) rfl dJ1_addLast_30 ?_
  refine lv_aload_n hx hb dJ1_addLast_33 rfl (lv_at hl 0 rfl) ?_
  refine va_alen (v := iI 17) hx hb hK.1 hP 1 4 rfl rfl rfl dJ1_addLast_34 ?_
  refine n_csi (x := (if tl + 1 < 17 then tl + 1 else 0)) (va_runS (As := [iv tl, iv 17]) (rest := [.ref da, iv hd]) ⟨hx, hb, hml, hown, hts⟩ (mt_J1_inc l E tl 17 (by omega)) (va_cwS 2 hts (lw_S q343 q344 q98 q345) rfl rfl rfl (by decide +kernel) ⟨Nat.le_of_ble_eq_true rfl, Nat.le_of_ble_eq_true rfl⟩) (PW_S (hP.sub (ws' := []) [] rfl) hK) rfl rfl hl.1 rfl (lv_room (Nat.le_of_ble_eq_true rfl)) dJ1_addLast_35 ⟨Nat.le_of_ble_eq_true rfl, Nat.le_of_ble_eq_true rfl⟩) ?_
  refine lv_dup_x1 hx hb dJ1_addLast_38 rfl rfl ?_
  have b_1 := (show 0 ≤ (if tl + 1 < 17 then tl + 1 else 0) ∧ (if tl + 1 < 17 then tl + 1 else 0) < 17 by split <;> omega)
  refine va_put (D := E.1) (ci := 9) (v := iv (if tl + 1 < 17 then tl + 1 else 0)) (ty := .int) (C := RJ1) (T := TJ1) (N := 3) hx hb hts in_J1 tyJ1 tyJ1_ok nmJ1 hown hK.1 hP hD hS 0 rfl rfl 2 (by decide) (hts _ q255) (fun _ h9 => h9) rfl (by decide +kernel) rfl rfl (Nat.le_of_ble_eq_true rfl) dJ1_addLast_39 (fun H locs hP hD hS => ?_)
  have hP : va_P E.1 CL (([(da, .inr (9, [.ref db, iv hd, iv (if tl + 1 < 17 then tl + 1 else 0)]))]) ++ ([(db, qa (E.2 4) 17 (uq fq tl (some q9)))]) ++ ([(q9, .inr (2, vs9))])) H := hP
  have hD : va_D A (([(da, .inr (9, [.ref db, iv hd, iv (if tl + 1 < 17 then tl + 1 else 0)]))]) ++ ([(db, qa (E.2 4) 17 (uq fq tl (some q9)))]) ++ ([(q9, .inr (2, vs9))])) := hD
  refine n_icmp_ne (tgt := 50) hx hb dJ1_addLast_42 (by decide) (by omega) (by omega) (fun c_2 => ?_) (fun c_2 => ?_)
  · exact W.vret hx hb hr (fun tt_ ht_ hW_ => ⟨⟨(), rfl, trivial, by rw [ht_]; exact hP, hD⟩, hS.F ht_⟩) hS.2.2 dJ1_addLast_50
  · exact absurd (by assumption) hfull
set_option maxHeartbeats 1000000 in
set_option maxRecDepth 100000 in
theorem mt_J1_pollFirst (l : Launch) (E : EE) (da : Nat) (hd : Int) (tl : Int) (db : Nat) (fq : Int → Option Nat)  (q9 : Nat) (hh : 0 ≤ hd ∧ hd < 17) (ht : 0 ≤ tl ∧ tl < 17) (hq9 : fq hd = some q9) (sz : Nat) : Met l yJ1_pollFirst (ws_ yJ1_pollFirst cJ1_pollFirst 4 (some (.object "java/lang/Object"))) { frames := 1, cells := 0, slots := 0, locals := 21 } (va_Pc [.ref da] (UW E (([(da, .inr (9, [.ref db, iv hd, iv tl]))]) ++ ([(db, qa (E.2 4) 17 fq)])) sz)) (UQxr E (fun u : Unit => True) (fun u : Unit => q9) (fun u : Unit => ([(da, .inr (9, [.ref db, iv (if hd + 1 < 17 then hd + 1 else 0), iv tl]))]) ++ ([(db, qa (E.2 4) 17 (uq fq hd none))])) (va_A (([(da, .inr (9, [.ref db, iv hd, iv tl]))]) ++ ([(db, qa (E.2 4) 17 fq)])) sz)) 0 0 (va_A (([(da, .inr (9, [.ref db, iv hd, iv tl]))]) ++ ([(db, qa (E.2 4) 17 fq)])) sz) := by
  refine Met.ofW (cc := cJ1_pollFirst) (maxL := 4) (ret := (some (.object "java/lang/Object"))) (by decide) rfl ?_
  intro p e s m args below meth c s₁ B hml hv
  obtain ⟨rfl, hsz, hP, hK, hD0⟩ := hv
  have hx := B.exec
  have hb := B.bytes
  have hr := B.returns
  have hts := atoms_spec (ws := (ws_ yJ1_pollFirst cJ1_pollFirst 4 (some (.object "java/lang/Object")))) B.pre
  have hts : ∀ w ∈ lw_all, w.before _ s = true := fun w h => hts w (List.mem_cons_of_mem _ h)
  have hown : s.vm.findClass RJ1 = some m.cls := findClass_of_methodNamed B.named
  have hlocks := B.notSynchronized
  subst hsz
  have hD := hD0.self (sz := s.heap.size)
  generalize hAe : va_A (([(da, .inr (9, [.ref db, iv hd, iv tl]))]) ++ ([(db, qa (E.2 4) 17 fq)])) s.heap.size = A at hD ⊢
  have hA : ∀ q : Nat, s.heap.size ≤ q → A q := fun q h => by rw [← hAe]; exact Or.inr h
  have hS : va_S A s.heap s.heap [] := va_S.rf
  have hl := lv_entry ([.ref da]) (n := 4) (Nat.le_of_ble_eq_true rfl)
  rw [lg_entry_eq]
  generalize (lg_sl ([.ref da]) ++ List.replicate (4 - (lg_sl ([.ref da])).length) Slot.unset).toArray = ls at hl ⊢
  have hl : lv_has ls 4 [(0, .ref da)] := hl
  refine lv_aload_n hx hb dJ1_pollFirst_0 rfl (lv_at hl 0 rfl) ?_
  refine va_get (D := E.1) (ci := 9) (v := .ref db) (C := RJ1) (T := TJ1) (N := 3) hx hb hts in_J1 hown hK.1 hP 0 rfl rfl 0 (by decide) (hts _ q253) (fun _ h9 => h9) rfl dJ1_pollFirst_1 ?_
  refine lv_dup hx hb dJ1_pollFirst_4 rfl ?_
  refine lv_astore_n (lv' := [(1, .ref db), (0, .ref da)]) hx hb dJ1_pollFirst_5 rfl hl (by decide) rfl (fun ls hl => ?_)
  refine lv_aload_n hx hb dJ1_pollFirst_6 rfl (lv_at hl 1 rfl) ?_
  refine va_get (D := E.1) (ci := 9) (v := iv hd) (C := RJ1) (T := TJ1) (N := 3) hx hb hts in_J1 hown hK.1 hP 0 rfl rfl 1 (by decide) (hts _ q254) (fun _ h9 => h9) rfl dJ1_pollFirst_7 ?_
  refine lv_dup hx hb dJ1_pollFirst_10 rfl ?_
  refine lv_istore_n (lv' := [(2, iv hd), (1, .ref db), (0, .ref da)]) hx hb dJ1_pollFirst_11 rfl hl (by decide) rfl (fun ls hl => ?_)
  refine n_csq (x := fq hd) (va_runS (As := [.ref db, iv hd]) (rest := []) ⟨hx, hb, hml, hown, hts⟩ (mt_J1_elementAt l E db fq hd (by omega)) (va_cwS 2 hts (lw_S q587 q588 q98 q589) rfl rfl rfl (by decide +kernel) ⟨Nat.le_of_ble_eq_true rfl, Nat.le_of_ble_eq_true rfl⟩) (PW_S (hP.sub (ws' := [(db, qa (E.2 4) 17 fq)]) [1] rfl) hK) rfl rfl hl.1 rfl (lv_room (Nat.le_of_ble_eq_true rfl)) dJ1_pollFirst_12 ⟨Nat.le_of_ble_eq_true rfl, Nat.le_of_ble_eq_true rfl⟩) ?_
  rw [hq9]
  refine lv_astore_n (lv' := [(3, .ref q9), (2, iv hd), (1, .ref db), (0, .ref da)]) hx hb dJ1_pollFirst_15 rfl hl (by decide) rfl (fun ls hl => ?_)
  refine lv_aload_n hx hb dJ1_pollFirst_16 rfl (lv_at hl 0 rfl) ?_
  refine lv_ifnull hx hb dJ1_pollFirst_17 ?_
  refine lv_aload_n hx hb dJ1_pollFirst_20 rfl (lv_at hl 2 rfl) ?_
  refine lv_iload_n hx hb dJ1_pollFirst_21 rfl (lv_at hl 1 rfl) ?_
  refine lv_null hx hb dJ1_pollFirst_22 ?_
  refine n_qastN (f := fq) hx hb hK hP hD hS 1 4 rfl rfl (by omega) (by decide) dJ1_pollFirst_23 (w2 := ([(da, .inr (9, [.ref db, iv hd, iv tl]))]) ++ ([(db, qa (E.2 4) 17 (uq fq hd none))])) rfl (fun H locs hP hD hS => ?_)
  refine lv_aload_n hx hb dJ1_pollFirst_24 rfl (lv_at hl 3 rfl) ?_
  refine lv_iload_n hx hb dJ1_pollFirst_25 rfl (lv_at hl 1 rfl) ?_
  refine lv_aload_n hx hb dJ1_pollFirst_26 rfl (lv_at hl 2 rfl) ?_
  refine va_alen (v := iI 17) hx hb hK.1 hP 1 4 rfl rfl rfl dJ1_pollFirst_27 ?_
  refine n_csi (x := (if hd + 1 < 17 then hd + 1 else 0)) (va_runS (As := [iv hd, iv 17]) (rest := [.ref da]) ⟨hx, hb, hml, hown, hts⟩ (mt_J1_inc l E hd 17 (by omega)) (va_cwS 2 hts (lw_S q343 q344 q98 q345) rfl rfl rfl (by decide +kernel) ⟨Nat.le_of_ble_eq_true rfl, Nat.le_of_ble_eq_true rfl⟩) (PW_S (hP.sub (ws' := []) [] rfl) hK) rfl rfl hl.1 rfl (lv_room (Nat.le_of_ble_eq_true rfl)) dJ1_pollFirst_28 ⟨Nat.le_of_ble_eq_true rfl, Nat.le_of_ble_eq_true rfl⟩) ?_
  have b_1 := (show 0 ≤ (if hd + 1 < 17 then hd + 1 else 0) ∧ (if hd + 1 < 17 then hd + 1 else 0) < 17 by split <;> omega)
  refine va_put (D := E.1) (ci := 9) (v := iv (if hd + 1 < 17 then hd + 1 else 0)) (ty := .int) (C := RJ1) (T := TJ1) (N := 3) hx hb hts in_J1 tyJ1 tyJ1_ok nmJ1 hown hK.1 hP hD hS 0 rfl rfl 1 (by decide) (hts _ q254) (fun _ h9 => h9) rfl (by decide +kernel) rfl rfl (Nat.le_of_ble_eq_true rfl) dJ1_pollFirst_31 (fun H locs hP hD hS => ?_)
  have hP : va_P E.1 CL (([(da, .inr (9, [.ref db, iv (if hd + 1 < 17 then hd + 1 else 0), iv tl]))]) ++ ([(db, qa (E.2 4) 17 (uq fq hd none))])) H := hP
  have hD : va_D A (([(da, .inr (9, [.ref db, iv (if hd + 1 < 17 then hd + 1 else 0), iv tl]))]) ++ ([(db, qa (E.2 4) 17 (uq fq hd none))])) := hD
  refine lv_aload_n hx hb dJ1_pollFirst_34 rfl (lv_at hl 0 rfl) ?_
  exact W.aret hx hb hr (Or.inl ⟨_, rfl⟩) (Or.inr ⟨_, rfl⟩) (fun tt_ ht_ hW_ => ⟨⟨(), rfl, trivial, by rw [ht_]; exact hP, hD⟩, hS.F ht_⟩) hS.2.2 dJ1_pollFirst_35
set_option maxHeartbeats 1000000 in
set_option maxRecDepth 100000 in
theorem mt_J1_pollLast (l : Launch) (E : EE) (da : Nat) (hd : Int) (tl : Int) (db : Nat) (fq : Int → Option Nat)  (q9 : Nat) (hh : 0 ≤ hd ∧ hd < 17) (ht : 0 ≤ tl ∧ tl < 17) (hq9 : fq (if tl - 1 < 0 then 17 - 1 else tl - 1) = some q9) (sz : Nat) : Met l yJ1_pollLast (ws_ yJ1_pollLast cJ1_pollLast 4 (some (.object "java/lang/Object"))) { frames := 1, cells := 0, slots := 0, locals := 21 } (va_Pc [.ref da] (UW E (([(da, .inr (9, [.ref db, iv hd, iv tl]))]) ++ ([(db, qa (E.2 4) 17 fq)])) sz)) (UQxr E (fun u : Unit => True) (fun u : Unit => q9) (fun u : Unit => ([(da, .inr (9, [.ref db, iv hd, iv (if tl - 1 < 0 then 17 - 1 else tl - 1)]))]) ++ ([(db, qa (E.2 4) 17 (uq fq (if tl - 1 < 0 then 17 - 1 else tl - 1) none))])) (va_A (([(da, .inr (9, [.ref db, iv hd, iv tl]))]) ++ ([(db, qa (E.2 4) 17 fq)])) sz)) 0 0 (va_A (([(da, .inr (9, [.ref db, iv hd, iv tl]))]) ++ ([(db, qa (E.2 4) 17 fq)])) sz) := by
  refine Met.ofW (cc := cJ1_pollLast) (maxL := 4) (ret := (some (.object "java/lang/Object"))) (by decide) rfl ?_
  intro p e s m args below meth c s₁ B hml hv
  obtain ⟨rfl, hsz, hP, hK, hD0⟩ := hv
  have hx := B.exec
  have hb := B.bytes
  have hr := B.returns
  have hts := atoms_spec (ws := (ws_ yJ1_pollLast cJ1_pollLast 4 (some (.object "java/lang/Object")))) B.pre
  have hts : ∀ w ∈ lw_all, w.before _ s = true := fun w h => hts w (List.mem_cons_of_mem _ h)
  have hown : s.vm.findClass RJ1 = some m.cls := findClass_of_methodNamed B.named
  have hlocks := B.notSynchronized
  subst hsz
  have hD := hD0.self (sz := s.heap.size)
  generalize hAe : va_A (([(da, .inr (9, [.ref db, iv hd, iv tl]))]) ++ ([(db, qa (E.2 4) 17 fq)])) s.heap.size = A at hD ⊢
  have hA : ∀ q : Nat, s.heap.size ≤ q → A q := fun q h => by rw [← hAe]; exact Or.inr h
  have hS : va_S A s.heap s.heap [] := va_S.rf
  have hl := lv_entry ([.ref da]) (n := 4) (Nat.le_of_ble_eq_true rfl)
  rw [lg_entry_eq]
  generalize (lg_sl ([.ref da]) ++ List.replicate (4 - (lg_sl ([.ref da])).length) Slot.unset).toArray = ls at hl ⊢
  have hl : lv_has ls 4 [(0, .ref da)] := hl
  refine lv_aload_n hx hb dJ1_pollLast_0 rfl (lv_at hl 0 rfl) ?_
  refine va_get (D := E.1) (ci := 9) (v := .ref db) (C := RJ1) (T := TJ1) (N := 3) hx hb hts in_J1 hown hK.1 hP 0 rfl rfl 0 (by decide) (hts _ q253) (fun _ h9 => h9) rfl dJ1_pollLast_1 ?_
  refine lv_dup hx hb dJ1_pollLast_4 rfl ?_
  refine lv_astore_n (lv' := [(1, .ref db), (0, .ref da)]) hx hb dJ1_pollLast_5 rfl hl (by decide) rfl (fun ls hl => ?_)
  refine lv_aload_n hx hb dJ1_pollLast_6 rfl (lv_at hl 1 rfl) ?_
  refine va_get (D := E.1) (ci := 9) (v := iv tl) (C := RJ1) (T := TJ1) (N := 3) hx hb hts in_J1 hown hK.1 hP 0 rfl rfl 2 (by decide) (hts _ q255) (fun _ h9 => h9) rfl dJ1_pollLast_7 ?_
  refine lv_aload_n hx hb dJ1_pollLast_10 rfl (lv_at hl 0 rfl) ?_
  refine va_alen (v := iI 17) hx hb hK.1 hP 1 4 rfl rfl rfl dJ1_pollLast_11 ?_
  refine n_csi (x := (if tl - 1 < 0 then 17 - 1 else tl - 1)) (va_runS (As := [iv tl, iv 17]) (rest := [.ref db]) ⟨hx, hb, hml, hown, hts⟩ (mt_J1_dec l E tl 17 (by omega)) (va_cwS 2 hts (lw_S q662 q663 q98 q664) rfl rfl rfl (by decide +kernel) ⟨Nat.le_of_ble_eq_true rfl, Nat.le_of_ble_eq_true rfl⟩) (PW_S (hP.sub (ws' := []) [] rfl) hK) rfl rfl hl.1 rfl (lv_room (Nat.le_of_ble_eq_true rfl)) dJ1_pollLast_12 ⟨Nat.le_of_ble_eq_true rfl, Nat.le_of_ble_eq_true rfl⟩) ?_
  refine lv_dup hx hb dJ1_pollLast_15 rfl ?_
  refine lv_istore_n (lv' := [(2, iv (if tl - 1 < 0 then 17 - 1 else tl - 1)), (1, .ref db), (0, .ref da)]) hx hb dJ1_pollLast_16 rfl hl (by decide) rfl (fun ls hl => ?_)
  have b_1 := (show 0 ≤ (if tl - 1 < 0 then 17 - 1 else tl - 1) ∧ (if tl - 1 < 0 then 17 - 1 else tl - 1) < 17 by split <;> omega)
  refine n_csq (x := fq (if tl - 1 < 0 then 17 - 1 else tl - 1)) (va_runS (As := [.ref db, iv (if tl - 1 < 0 then 17 - 1 else tl - 1)]) (rest := []) ⟨hx, hb, hml, hown, hts⟩ (mt_J1_elementAt l E db fq (if tl - 1 < 0 then 17 - 1 else tl - 1) (by omega)) (va_cwS 2 hts (lw_S q587 q588 q98 q589) rfl rfl rfl (by decide +kernel) ⟨Nat.le_of_ble_eq_true rfl, Nat.le_of_ble_eq_true rfl⟩) (PW_S (hP.sub (ws' := [(db, qa (E.2 4) 17 fq)]) [1] rfl) hK) rfl rfl hl.1 rfl (lv_room (Nat.le_of_ble_eq_true rfl)) dJ1_pollLast_17 ⟨Nat.le_of_ble_eq_true rfl, Nat.le_of_ble_eq_true rfl⟩) ?_
  rw [hq9]
  refine lv_astore_n (lv' := [(3, .ref q9), (2, iv (if tl - 1 < 0 then 17 - 1 else tl - 1)), (1, .ref db), (0, .ref da)]) hx hb dJ1_pollLast_20 rfl hl (by decide) rfl (fun ls hl => ?_)
  refine lv_aload_n hx hb dJ1_pollLast_21 rfl (lv_at hl 0 rfl) ?_
  refine lv_ifnull hx hb dJ1_pollLast_22 ?_
  refine lv_aload_n hx hb dJ1_pollLast_25 rfl (lv_at hl 2 rfl) ?_
  refine lv_aload_n hx hb dJ1_pollLast_26 rfl (lv_at hl 3 rfl) ?_
  refine lv_iload_n hx hb dJ1_pollLast_27 rfl (lv_at hl 1 rfl) ?_
  refine lv_dup_x1 hx hb dJ1_pollLast_28 rfl rfl ?_
  refine va_put (D := E.1) (ci := 9) (v := iv (if tl - 1 < 0 then 17 - 1 else tl - 1)) (ty := .int) (C := RJ1) (T := TJ1) (N := 3) hx hb hts in_J1 tyJ1 tyJ1_ok nmJ1 hown hK.1 hP hD hS 0 rfl rfl 2 (by decide) (hts _ q255) (fun _ h9 => h9) rfl (by decide +kernel) rfl rfl (Nat.le_of_ble_eq_true rfl) dJ1_pollLast_29 (fun H locs hP hD hS => ?_)
  have hP : va_P E.1 CL (([(da, .inr (9, [.ref db, iv hd, iv (if tl - 1 < 0 then 17 - 1 else tl - 1)]))]) ++ ([(db, qa (E.2 4) 17 fq)])) H := hP
  have hD : va_D A (([(da, .inr (9, [.ref db, iv hd, iv (if tl - 1 < 0 then 17 - 1 else tl - 1)]))]) ++ ([(db, qa (E.2 4) 17 fq)])) := hD
  refine lv_null hx hb dJ1_pollLast_32 ?_
  refine n_qastN (f := fq) hx hb hK hP hD hS 1 4 rfl rfl (by omega) (by decide) dJ1_pollLast_33 (w2 := ([(da, .inr (9, [.ref db, iv hd, iv (if tl - 1 < 0 then 17 - 1 else tl - 1)]))]) ++ ([(db, qa (E.2 4) 17 (uq fq (if tl - 1 < 0 then 17 - 1 else tl - 1) none))])) rfl (fun H locs hP hD hS => ?_)
  refine lv_aload_n hx hb dJ1_pollLast_34 rfl (lv_at hl 0 rfl) ?_
  exact W.aret hx hb hr (Or.inl ⟨_, rfl⟩) (Or.inr ⟨_, rfl⟩) (fun tt_ ht_ hW_ => ⟨⟨(), rfl, trivial, by rw [ht_]; exact hP, hD⟩, hS.F ht_⟩) hS.2.2 dJ1_pollLast_35
