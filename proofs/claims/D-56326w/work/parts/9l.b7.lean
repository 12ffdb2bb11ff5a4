set_option maxHeartbeats 2000000 in
set_option maxRecDepth 100000 in
theorem mt_X7_init (l : Launch) (E : EE) (so : Nat) (wy : Nat) (sz : Nat) : Met l yX7_init (ws_ yX7_init cX7_init 2 none) { frames := 3, cells := 5, slots := 44, locals := 60 } (va_Pc [.ref so, .ref wy] (UW E ([(so, .inr (6, [.null, .null, .null, .null, .null, iv 0, iv 0]))]) sz)) (UQxv E (fun u : Nat × Nat × Nat × Nat × Nat => True) (fun u : Nat × Nat × Nat × Nat × Nat => ([(so, .inr (6, [.ref wy, .ref u.1, .ref u.2.1, .ref u.2.2.1, .ref u.2.2.2.1, iv 0, iv 0]))]) ++ ([(u.1, ia (E.2 0) 8 (fun _ => 0))]) ++ ([(u.2.1, ia (E.2 0) 8 (fun _ => 0))]) ++ ([(u.2.2.1, ia (E.2 1) 8 (fun _ => 0))]) ++ ([(u.2.2.2.1, .inr (9, [.ref u.2.2.2.2, iv 0, iv 0]))]) ++ ([(u.2.2.2.2, qa (E.2 4) 17 (fun _ => none))])) (va_A ([(so, .inr (6, [.null, .null, .null, .null, .null, iv 0, iv 0]))]) sz)) 5 44 (va_A ([(so, .inr (6, [.null, .null, .null, .null, .null, iv 0, iv 0]))]) sz) := by
  refine Met.ofW (cc := cX7_init) (maxL := 2) (ret := none) (by decide) rfl ?_
  intro p e s m args below meth c s₁ B hml hv
  obtain ⟨rfl, hsz, hP, hK, hD0⟩ := hv
  have hx := B.exec
  have hb := B.bytes
  have hr := B.returns
  have hts := atoms_spec (ws := (ws_ yX7_init cX7_init 2 none)) B.pre
  have hts : ∀ w ∈ lw_all, w.before _ s = true := fun w h => hts w (List.mem_cons_of_mem _ h)
  have hown : s.vm.findClass RX7 = some m.cls := findClass_of_methodNamed B.named
  have hlocks := B.notSynchronized
  have hin : meth.name = "<init>" := (name_of_methodNamed B.named B.method).1
  subst hsz
  have hD := hD0.self (sz := s.heap.size)
  generalize hAe : va_A ([(so, .inr (6, [.null, .null, .null, .null, .null, iv 0, iv 0]))]) s.heap.size = A at hD ⊢
  have hA : ∀ q : Nat, s.heap.size ≤ q → A q := fun q h => by rw [← hAe]; exact Or.inr h
  have hS : va_S A s.heap s.heap [] := va_S.rf
  have hl := lv_entry ([.ref so, .ref wy]) (n := 2) (Nat.le_of_ble_eq_true rfl)
  rw [lg_entry_eq]
  generalize (lg_sl ([.ref so, .ref wy]) ++ List.replicate (2 - (lg_sl ([.ref so, .ref wy])).length) Slot.unset).toArray = ls at hl ⊢
  have hl : lv_has ls 2 [(0, .ref so), (1, .ref wy)] := hl
  refine lv_aload_n hx hb dX7_init_0 rfl (lv_at hl 0 rfl) ?_
  refine W.objInit hx hb hown (hts _ q612) (hts _ q138) (hts _ q139) rfl (by rw [hml]; exact hl.1) rfl dX7_init_1 (Nat.le_of_ble_eq_true rfl) (Nat.le_of_ble_eq_true rfl) ?_
  refine W.eq (g2 := F0 m 4 ls []) rfl ?_
  refine lv_aload_n hx hb dX7_init_4 rfl (lv_at hl 0 rfl) ?_
  refine lv_bipush (v := iI 8) hx hb dX7_init_5 (by decide) ?_
  refine n_newa hx hb (ty := .int) rfl (hts _ q187) 0 rfl rfl hK hP hD hS hA (N' := 8) rfl (by decide) (by decide) (Nat.le_of_ble_eq_true rfl) (Nat.le_of_ble_eq_true rfl) dX7_init_7 (fun q_1 H hP hD hS => ?_)
  have hP : va_P E.1 CL (([(so, .inr (6, [.null, .null, .null, .null, .null, iv 0, iv 0]))]) ++ ([(q_1, ia (E.2 0) 8 (fun _ => 0))])) H := hP
  have hD : va_D A (([(so, .inr (6, [.null, .null, .null, .null, .null, iv 0, iv 0]))]) ++ ([(q_1, ia (E.2 0) 8 (fun _ => 0))])) := hD
  refine va_putF (D := E.1) (ci := 6) (v := .ref q_1) (ty := (tyX7 1)) (C := RX7) (T := TX7) (N := 7) hx hb hts in_X7 tyX7 tyX7_ok nmX7 hown hK.1 hP hD hS 0 rfl rfl 1 (by decide) (hts _ q616) (fun _ h9 => h9) rfl hin rfl (by decide +kernel) rfl rfl (Nat.le_of_ble_eq_true rfl) dX7_init_9 (fun H locs hP hD hS => ?_)
  have hP : va_P E.1 CL (([(so, .inr (6, [.null, .ref q_1, .null, .null, .null, iv 0, iv 0]))]) ++ ([(q_1, ia (E.2 0) 8 (fun _ => 0))])) H := hP
  have hD : va_D A (([(so, .inr (6, [.null, .ref q_1, .null, .null, .null, iv 0, iv 0]))]) ++ ([(q_1, ia (E.2 0) 8 (fun _ => 0))])) := hD
  refine lv_aload_n hx hb dX7_init_12 rfl (lv_at hl 0 rfl) ?_
  refine lv_bipush (v := iI 8) hx hb dX7_init_13 (by decide) ?_
  refine n_newa hx hb (ty := .int) rfl (hts _ q187) 0 rfl rfl hK hP hD hS hA (N' := 8) rfl (by decide) (by decide) (Nat.le_of_ble_eq_true rfl) (Nat.le_of_ble_eq_true rfl) dX7_init_15 (fun q_2 H hP hD hS => ?_)
  have hP : va_P E.1 CL (([(so, .inr (6, [.null, .ref q_1, .null, .null, .null, iv 0, iv 0]))]) ++ ([(q_1, ia (E.2 0) 8 (fun _ => 0))]) ++ ([(q_2, ia (E.2 0) 8 (fun _ => 0))])) H := hP
  have hD : va_D A (([(so, .inr (6, [.null, .ref q_1, .null, .null, .null, iv 0, iv 0]))]) ++ ([(q_1, ia (E.2 0) 8 (fun _ => 0))]) ++ ([(q_2, ia (E.2 0) 8 (fun _ => 0))])) := hD
  refine va_putF (D := E.1) (ci := 6) (v := .ref q_2) (ty := (tyX7 2)) (C := RX7) (T := TX7) (N := 7) hx hb hts in_X7 tyX7 tyX7_ok nmX7 hown hK.1 hP hD hS 0 rfl rfl 2 (by decide) (hts _ q617) (fun _ h9 => h9) rfl hin rfl (by decide +kernel) rfl rfl (Nat.le_of_ble_eq_true rfl) dX7_init_17 (fun H locs hP hD hS => ?_)
  have hP : va_P E.1 CL (([(so, .inr (6, [.null, .ref q_1, .ref q_2, .null, .null, iv 0, iv 0]))]) ++ ([(q_1, ia (E.2 0) 8 (fun _ => 0))]) ++ ([(q_2, ia (E.2 0) 8 (fun _ => 0))])) H := hP
  have hD : va_D A (([(so, .inr (6, [.null, .ref q_1, .ref q_2, .null, .null, iv 0, iv 0]))]) ++ ([(q_1, ia (E.2 0) 8 (fun _ => 0))]) ++ ([(q_2, ia (E.2 0) 8 (fun _ => 0))])) := hD
  refine lv_aload_n hx hb dX7_init_20 rfl (lv_at hl 0 rfl) ?_
  refine lv_bipush (v := iI 8) hx hb dX7_init_21 (by decide) ?_
  refine n_newa hx hb (ty := .boolean) rfl (hts _ q185) 1 rfl rfl hK hP hD hS hA (N' := 8) rfl (by decide) (by decide) (Nat.le_of_ble_eq_true rfl) (Nat.le_of_ble_eq_true rfl) dX7_init_23 (fun q_3 H hP hD hS => ?_)
  have hP : va_P E.1 CL (([(so, .inr (6, [.null, .ref q_1, .ref q_2, .null, .null, iv 0, iv 0]))]) ++ ([(q_1, ia (E.2 0) 8 (fun _ => 0))]) ++ ([(q_2, ia (E.2 0) 8 (fun _ => 0))]) ++ ([(q_3, ia (E.2 1) 8 (fun _ => 0))])) H := hP
  have hD : va_D A (([(so, .inr (6, [.null, .ref q_1, .ref q_2, .null, .null, iv 0, iv 0]))]) ++ ([(q_1, ia (E.2 0) 8 (fun _ => 0))]) ++ ([(q_2, ia (E.2 0) 8 (fun _ => 0))]) ++ ([(q_3, ia (E.2 1) 8 (fun _ => 0))])) := hD
  refine va_putF (D := E.1) (ci := 6) (v := .ref q_3) (ty := (tyX7 3)) (C := RX7) (T := TX7) (N := 7) hx hb hts in_X7 tyX7 tyX7_ok nmX7 hown hK.1 hP hD hS 0 rfl rfl 3 (by decide) (hts _ q618) (fun _ h9 => h9) rfl hin rfl (by decide +kernel) rfl rfl (Nat.le_of_ble_eq_true rfl) dX7_init_25 (fun H locs hP hD hS => ?_)
  have hP : va_P E.1 CL (([(so, .inr (6, [.null, .ref q_1, .ref q_2, .ref q_3, .null, iv 0, iv 0]))]) ++ ([(q_1, ia (E.2 0) 8 (fun _ => 0))]) ++ ([(q_2, ia (E.2 0) 8 (fun _ => 0))]) ++ ([(q_3, ia (E.2 1) 8 (fun _ => 0))])) H := hP
  have hD : va_D A (([(so, .inr (6, [.null, .ref q_1, .ref q_2, .ref q_3, .null, iv 0, iv 0]))]) ++ ([(q_1, ia (E.2 0) 8 (fun _ => 0))]) ++ ([(q_2, ia (E.2 0) 8 (fun _ => 0))]) ++ ([(q_3, ia (E.2 1) 8 (fun _ => 0))])) := hD
  refine lv_aload_n hx hb dX7_init_28 rfl (lv_at hl 0 rfl) ?_
  have hz9_q_4 : s.heap.size ≤ (H).size := hS.1
  refine n_newK (ci := 9) (fs := [.null, iv 0, iv 0]) (C := RJ1) (T := TJ1) (N := 3) hx hb hts in_J1 tyJ1 tyJ1_ok hown (hts _ q613) (hts _ q243) (hts _ q98) hK hP hD hS hA rfl (fun j hj => by rcases (show j = 0 ∨ j = 1 ∨ j = 2 by omega) with rfl | rfl | rfl <;> rfl) (Nat.le_of_ble_eq_true rfl) (Nat.le_of_ble_eq_true rfl) dX7_init_29 (fun q_4 H hfr_q_4 o_5 hsz_q_4 hP hD hS => ?_)
  have hge_q_4 : s.heap.size ≤ q_4 := Nat.le_trans hz9_q_4 hsz_q_4
  have hP : va_P E.1 CL (([(so, .inr (6, [.null, .ref q_1, .ref q_2, .ref q_3, .null, iv 0, iv 0]))]) ++ ([(q_1, ia (E.2 0) 8 (fun _ => 0))]) ++ ([(q_2, ia (E.2 0) 8 (fun _ => 0))]) ++ ([(q_3, ia (E.2 1) 8 (fun _ => 0))]) ++ ([(q_4, .inr (9, [.null, iv 0, iv 0]))])) H := hP
  have hD : va_D A (([(so, .inr (6, [.null, .ref q_1, .ref q_2, .ref q_3, .null, iv 0, iv 0]))]) ++ ([(q_1, ia (E.2 0) 8 (fun _ => 0))]) ++ ([(q_2, ia (E.2 0) 8 (fun _ => 0))]) ++ ([(q_3, ia (E.2 1) 8 (fun _ => 0))]) ++ ([(q_4, .inr (9, [.null, iv 0, iv 0]))])) := hD
  refine lv_dup hx hb dX7_init_32 rfl ?_
  refine n_cuxvS (w2 := fun u_6 => ([(so, .inr (6, [.null, .ref q_1, .ref q_2, .ref q_3, .null, iv 0, iv 0]))]) ++ ([(q_1, ia (E.2 0) 8 (fun _ => 0))]) ++ ([(q_2, ia (E.2 0) 8 (fun _ => 0))]) ++ ([(q_3, ia (E.2 1) 8 (fun _ => 0))]) ++ ([(q_4, .inr (9, [.ref u_6, iv 0, iv 0]))]) ++ ([(u_6, qa (E.2 4) 17 (fun _ => none))])) (va_runI (As := []) (rest := [.ref q_4, .ref so]) ⟨hx, hb, hml, hown, hts⟩ (mt_J1_init l E q_4  _) (n_cwI 0 hts q614 q245 q98 q246 rfl rfl rfl (by decide +kernel) ⟨Nat.le_of_ble_eq_true rfl, Nat.le_of_ble_eq_true rfl⟩) (UW_S (hP.sub (ws' := [(q_4, .inr (9, [.null, iv 0, iv 0]))]) [4] rfl) hK (hD.sub (ws' := [(q_4, .inr (9, [.null, iv 0, iv 0]))]) [4] rfl rfl)) rfl rfl hl.1 rfl (lv_room (Nat.le_of_ble_eq_true rfl)) dX7_init_33 ⟨Nat.le_of_ble_eq_true rfl, Nat.le_of_ble_eq_true rfl⟩) hP hD hS hA [4] [0, 1, 2, 3] [0, 1, 2, 3, 4, 5] rfl rfl rfl rfl rfl (fun _ => rfl) (fun u_6 H locs hu_6 hP hD hS => ?_)
  have hu_6 : True := hu_6
  have hP : va_P E.1 CL (([(so, .inr (6, [.null, .ref q_1, .ref q_2, .ref q_3, .null, iv 0, iv 0]))]) ++ ([(q_1, ia (E.2 0) 8 (fun _ => 0))]) ++ ([(q_2, ia (E.2 0) 8 (fun _ => 0))]) ++ ([(q_3, ia (E.2 1) 8 (fun _ => 0))]) ++ ([(q_4, .inr (9, [.ref u_6, iv 0, iv 0]))]) ++ ([(u_6, qa (E.2 4) 17 (fun _ => none))])) H := hP
  have hD : va_D A (([(so, .inr (6, [.null, .ref q_1, .ref q_2, .ref q_3, .null, iv 0, iv 0]))]) ++ ([(q_1, ia (E.2 0) 8 (fun _ => 0))]) ++ ([(q_2, ia (E.2 0) 8 (fun _ => 0))]) ++ ([(q_3, ia (E.2 1) 8 (fun _ => 0))]) ++ ([(q_4, .inr (9, [.ref u_6, iv 0, iv 0]))]) ++ ([(u_6, qa (E.2 4) 17 (fun _ => none))])) := hD
  refine va_putF (D := E.1) (ci := 6) (v := .ref q_4) (ty := (tyX7 4)) (C := RX7) (T := TX7) (N := 7) hx hb hts in_X7 tyX7 tyX7_ok nmX7 hown hK.1 hP hD hS 0 rfl rfl 4 (by decide) (hts _ q619) (fun _ h9 => h9) rfl hin rfl (by decide +kernel) rfl rfl (Nat.le_of_ble_eq_true rfl) dX7_init_36 (fun H locs hP hD hS => ?_)
  have hP : va_P E.1 CL (([(so, .inr (6, [.null, .ref q_1, .ref q_2, .ref q_3, .ref q_4, iv 0, iv 0]))]) ++ ([(q_1, ia (E.2 0) 8 (fun _ => 0))]) ++ ([(q_2, ia (E.2 0) 8 (fun _ => 0))]) ++ ([(q_3, ia (E.2 1) 8 (fun _ => 0))]) ++ ([(q_4, .inr (9, [.ref u_6, iv 0, iv 0]))]) ++ ([(u_6, qa (E.2 4) 17 (fun _ => none))])) H := hP
  have hD : va_D A (([(so, .inr (6, [.null, .ref q_1, .ref q_2, .ref q_3, .ref q_4, iv 0, iv 0]))]) ++ ([(q_1, ia (E.2 0) 8 (fun _ => 0))]) ++ ([(q_2, ia (E.2 0) 8 (fun _ => 0))]) ++ ([(q_3, ia (E.2 1) 8 (fun _ => 0))]) ++ ([(q_4, .inr (9, [.ref u_6, iv 0, iv 0]))]) ++ ([(u_6, qa (E.2 4) 17 (fun _ => none))])) := hD
  refine lv_aload_n hx hb dX7_init_39 rfl (lv_at hl 0 rfl) ?_
  refine lv_aload_n hx hb dX7_init_40 rfl (lv_at hl 1 rfl) ?_
  refine va_putF (D := E.1) (ci := 6) (v := .ref wy) (ty := (tyX7 0)) (C := RX7) (T := TX7) (N := 7) hx hb hts in_X7 tyX7 tyX7_ok nmX7 hown hK.1 hP hD hS 0 rfl rfl 0 (by decide) (hts _ q615) (fun _ h9 => h9) rfl hin rfl (by decide +kernel) rfl rfl (Nat.le_of_ble_eq_true rfl) dX7_init_41 (fun H locs hP hD hS => ?_)
  have hP : va_P E.1 CL (([(so, .inr (6, [.ref wy, .ref q_1, .ref q_2, .ref q_3, .ref q_4, iv 0, iv 0]))]) ++ ([(q_1, ia (E.2 0) 8 (fun _ => 0))]) ++ ([(q_2, ia (E.2 0) 8 (fun _ => 0))]) ++ ([(q_3, ia (E.2 1) 8 (fun _ => 0))]) ++ ([(q_4, .inr (9, [.ref u_6, iv 0, iv 0]))]) ++ ([(u_6, qa (E.2 4) 17 (fun _ => none))])) H := hP
  have hD : va_D A (([(so, .inr (6, [.ref wy, .ref q_1, .ref q_2, .ref q_3, .ref q_4, iv 0, iv 0]))]) ++ ([(q_1, ia (E.2 0) 8 (fun _ => 0))]) ++ ([(q_2, ia (E.2 0) 8 (fun _ => 0))]) ++ ([(q_3, ia (E.2 1) 8 (fun _ => 0))]) ++ ([(q_4, .inr (9, [.ref u_6, iv 0, iv 0]))]) ++ ([(u_6, qa (E.2 4) 17 (fun _ => none))])) := hD
  refine W.widen (k := 5) (n := 44) (Nat.le_of_ble_eq_true rfl) (Nat.le_of_ble_eq_true rfl) ?_
  exact W.vret hx hb hr (fun tt_ ht_ hW_ => ⟨⟨(q_1, q_2, q_3, q_4, u_6), rfl, trivial, by rw [ht_]; exact hP, hD⟩, hS.F ht_⟩) hS.2.2 dX7_init_44
set_option maxHeartbeats 2000000 in
set_option maxRecDepth 100000 in
theorem mt_X7_inCircles (l : Launch) (E : EE) (so : Nat) (fnd : Int) (sm : Int) (a1 : Nat) (od : Int → Int) (a2 : Nat) (lw : Int → Int) (a3 : Nat) (io : Int → Int) (da : Nat) (tl : Int) (db : Nat) (fq : Int → Option Nat) (wy : Nat) (o : Nat → Nat) (sc : Nat → Int) (ar : Nat → Int → Int)  (g : Int → Int) (qv : Int → Int) (hbr : BR g ar) (hhn : HN g) (htw : TW g) (hsw : SwOK g) (htj : TJ g (fun _ => false) od io qv tl fnd sm) (hqu : ∀ i, 0 ≤ i → i < tl → fq i = some (BX E (qv i))) (sz : Nat) : Met l yX7_inCircles (ws_ yX7_inCircles cX7_inCircles 2 (some .int)) { frames := 25, cells := 0, slots := 0, locals := 712 } (va_Pc [.ref so] (UX E (([(so, .inr (6, [.ref wy, .ref a1, .ref a2, .ref a3, .ref da, iv fnd, iv sm]))]) ++ ([(a1, ia (E.2 0) 8 od)]) ++ ([(a2, ia (E.2 0) 8 lw)]) ++ ([(a3, ia (E.2 1) 8 io)]) ++ ([(da, .inr (9, [.ref db, iv 0, iv tl]))]) ++ ([(db, qa (E.2 4) 17 fq)]) ++ ([(wy, .inl (E.2 (3000 + 1), 1, .inr (.inr (.inr (.inr (fun _ => some (o 1)))))))]) ++ (BW E o sc ar)) sz)) (UQx E (fun u : (Int → Int) × (Int → Int) × (Int → Int) × (Int → Int) × (Int → Option Nat) × Int × Int × Int => True) (fun u : (Int → Int) × (Int → Int) × (Int → Int) × (Int → Int) × (Int → Option Nat) × Int × Int × Int => sumI (fun k => b2 (m_reach g true k k)) 8) (fun u : (Int → Int) × (Int → Int) × (Int → Int) × (Int → Int) × (Int → Option Nat) × Int × Int × Int => ([(so, .inr (6, [.ref wy, .ref a1, .ref a2, .ref a3, .ref da, iv u.2.2.2.2.2.2.1, iv u.2.2.2.2.2.2.2]))]) ++ ([(a1, ia (E.2 0) 8 u.1)]) ++ ([(a2, ia (E.2 0) 8 u.2.1)]) ++ ([(a3, ia (E.2 1) 8 u.2.2.1)]) ++ ([(da, .inr (9, [.ref db, iv 0, iv u.2.2.2.2.2.1]))]) ++ ([(db, qa (E.2 4) 17 u.2.2.2.2.1)]) ++ ([(wy, .inl (E.2 (3000 + 1), 1, .inr (.inr (.inr (.inr (fun _ => some (o 1)))))))]) ++ (BW E o sc ar)) (va_A (([(so, .inr (6, [.ref wy, .ref a1, .ref a2, .ref a3, .ref da, iv fnd, iv sm]))]) ++ ([(a1, ia (E.2 0) 8 od)]) ++ ([(a2, ia (E.2 0) 8 lw)]) ++ ([(a3, ia (E.2 1) 8 io)]) ++ ([(da, .inr (9, [.ref db, iv 0, iv tl]))]) ++ ([(db, qa (E.2 4) 17 fq)]) ++ ([(wy, .inl (E.2 (3000 + 1), 1, .inr (.inr (.inr (.inr (fun _ => some (o 1)))))))]) ++ (BW E o sc ar)) sz)) 0 0 (va_A (([(so, .inr (6, [.ref wy, .ref a1, .ref a2, .ref a3, .ref da, iv fnd, iv sm]))]) ++ ([(a1, ia (E.2 0) 8 od)]) ++ ([(a2, ia (E.2 0) 8 lw)]) ++ ([(a3, ia (E.2 1) 8 io)]) ++ ([(da, .inr (9, [.ref db, iv 0, iv tl]))]) ++ ([(db, qa (E.2 4) 17 fq)]) ++ ([(wy, .inl (E.2 (3000 + 1), 1, .inr (.inr (.inr (.inr (fun _ => some (o 1)))))))]) ++ (BW E o sc ar)) sz) := by
  refine Met.ofW (cc := cX7_inCircles) (maxL := 2) (ret := (some .int)) (by decide) rfl ?_
  intro p e s m args below meth c s₁ B hml hv
  obtain ⟨rfl, hsz, hP, hK, hD0, hE⟩ := hv
  have hx := B.exec
  have hb := B.bytes
  have hr := B.returns
  have hts := atoms_spec (ws := (ws_ yX7_inCircles cX7_inCircles 2 (some .int))) B.pre
  have hts : ∀ w ∈ lw_all, w.before _ s = true := fun w h => hts w (List.mem_cons_of_mem _ h)
  have hown : s.vm.findClass RX7 = some m.cls := findClass_of_methodNamed B.named
  have hlocks := B.notSynchronized
  subst hsz
  have hD := hD0.self (sz := s.heap.size)
  generalize hAe : va_A (([(so, .inr (6, [.ref wy, .ref a1, .ref a2, .ref a3, .ref da, iv fnd, iv sm]))]) ++ ([(a1, ia (E.2 0) 8 od)]) ++ ([(a2, ia (E.2 0) 8 lw)]) ++ ([(a3, ia (E.2 1) 8 io)]) ++ ([(da, .inr (9, [.ref db, iv 0, iv tl]))]) ++ ([(db, qa (E.2 4) 17 fq)]) ++ ([(wy, .inl (E.2 (3000 + 1), 1, .inr (.inr (.inr (.inr (fun _ => some (o 1)))))))]) ++ (BW E o sc ar)) s.heap.size = A at hD hE ⊢
  have hA : ∀ q : Nat, s.heap.size ≤ q → A q := fun q h => by rw [← hAe]; exact Or.inr h
  have hS : va_S A s.heap s.heap [] := va_S.rf
  have hl := lv_entry ([.ref so]) (n := 2) (Nat.le_of_ble_eq_true rfl)
  rw [lg_entry_eq]
  generalize (lg_sl ([.ref so]) ++ List.replicate (2 - (lg_sl ([.ref so])).length) Slot.unset).toArray = ls at hl ⊢
  have hl : lv_has ls 2 [(0, .ref so)] := hl
  refine lv_iconst (v := iI 0) hx hb dX7_inCircles_0 rfl ?_
  refine lv_istore_n (lv' := [(1, iv 0), (0, .ref so)]) hx hb dX7_inCircles_1 rfl hl (by decide) rfl (fun ls hl => ?_)
  have l2 : ∀ (fu : Nat) (x1 : Int) (nv : Int) (sv : Int) (tv : Int) (ov : Int → Int) (lv : Int → Int) (iv_ : Int → Int) (fv : Int → Option Nat) (qw : Int → Int), (0 ≤ x1 ∧ x1 ≤ 8) → (TJ g (fun _ => false) ov iv_ qw tv nv sv) → (∀ i, 0 ≤ i → i < tv → fv i = some (BX E (qw i))) → (∀ v, 0 ≤ v → v < x1 → 0 < ov v) → (8 - x1 < (fu : Int)) → ∀ (H : Heap) (locs : List Loc), va_P E.1 CL (([(so, .inr (6, [.ref wy, .ref a1, .ref a2, .ref a3, .ref da, iv nv, iv sv]))]) ++ ([(a1, ia (E.2 0) 8 ov)]) ++ ([(a2, ia (E.2 0) 8 lv)]) ++ ([(a3, ia (E.2 1) 8 iv_)]) ++ ([(da, .inr (9, [.ref db, iv 0, iv tv]))]) ++ ([(db, qa (E.2 4) 17 fv)]) ++ ([(wy, .inl (E.2 (3000 + 1), 1, .inr (.inr (.inr (.inr (fun _ => some (o 1)))))))]) ++ (BW E o sc ar)) H → va_D A (([(so, .inr (6, [.ref wy, .ref a1, .ref a2, .ref a3, .ref da, iv nv, iv sv]))]) ++ ([(a1, ia (E.2 0) 8 ov)]) ++ ([(a2, ia (E.2 0) 8 lv)]) ++ ([(a3, ia (E.2 1) 8 iv_)]) ++ ([(da, .inr (9, [.ref db, iv 0, iv tv]))]) ++ ([(db, qa (E.2 4) 17 fv)]) ++ ([(wy, .inl (E.2 (3000 + 1), 1, .inr (.inr (.inr (.inr (fun _ => some (o 1)))))))]) ++ (BW E o sc ar)) → va_S A s.heap H locs → ∀ ls : Array Slot, lv_has ls 2 [(1, iv x1), (0, .ref so)] → W p l e (headSpec (ws_ yX7_inCircles cX7_inCircles 2 (some .int)) { frames := 25, cells := 0, slots := 0, locals := 712 }).room s m ([.ref so] : List Value).toArray below meth c H locs 0 0 (MQ below (UQx E (fun u : (Int → Int) × (Int → Int) × (Int → Int) × (Int → Int) × (Int → Option Nat) × Int × Int × Int => True) (fun u : (Int → Int) × (Int → Int) × (Int → Int) × (Int → Int) × (Int → Option Nat) × Int × Int × Int => sumI (fun k => b2 (m_reach g true k k)) 8) (fun u : (Int → Int) × (Int → Int) × (Int → Int) × (Int → Int) × (Int → Option Nat) × Int × Int × Int => ([(so, .inr (6, [.ref wy, .ref a1, .ref a2, .ref a3, .ref da, iv u.2.2.2.2.2.2.1, iv u.2.2.2.2.2.2.2]))]) ++ ([(a1, ia (E.2 0) 8 u.1)]) ++ ([(a2, ia (E.2 0) 8 u.2.1)]) ++ ([(a3, ia (E.2 1) 8 u.2.2.1)]) ++ ([(da, .inr (9, [.ref db, iv 0, iv u.2.2.2.2.2.1]))]) ++ ([(db, qa (E.2 4) 17 u.2.2.2.2.1)]) ++ ([(wy, .inl (E.2 (3000 + 1), 1, .inr (.inr (.inr (.inr (fun _ => some (o 1)))))))]) ++ (BW E o sc ar)) A) ([.ref so] : List Value).toArray s 0 0 A) (F0 m 2 ls []) := by
    intro fu
    induction fu with
    | zero =>
      intro x1 nv sv tv ov lv iv_ fv qw il2_0 il2_1 il2_2 il2_3 hm
      exfalso; omega
    | succ fu ih =>
      intro x1 nv sv tv ov lv iv_ fv qw il2_0 il2_1 il2_2 il2_3 hm H locs hP hD hS ls hl
      have ihl2 := ih
      refine lv_iload_n hx hb dX7_inCircles_2 rfl (lv_at hl 0 rfl) ?_
      refine lv_bipush (v := iI 8) hx hb dX7_inCircles_3 (by decide) ?_
      refine n_icmp_ge (tgt := 28) hx hb dX7_inCircles_5 (by decide) (by omega) (by omega) (fun c_1 => ?_) (fun c_1 => ?_)
      · have hx8 : x1 = 8 := by omega
        refine lv_aload_n hx hb dX7_inCircles_28 rfl (lv_at hl 1 rfl) ?_
        refine va_get (D := E.1) (ci := 6) (v := iv sv) (C := RX7) (T := TX7) (N := 7) hx hb hts in_X7 hown hK.1 hP 0 rfl rfl 6 (by decide) (hts _ q621) (fun _ h9 => h9) rfl dX7_inCircles_29 ?_
        have hfin : sv = sumI (fun k => b2 (m_reach g true k k)) 8 := by
          exact il2_1.fin (fun v h1 h2 => il2_3 v h1 (by omega))
        exact W.iret (v := iI sv) hx hb hr (fun tt_ ht_ hW_ => ⟨⟨iI sv, (ov, lv, iv_, qw, fv, tv, nv, sv), rfl, ⟨trivial, (congrArg iI hfin)⟩, by rw [ht_]; exact hP, hD⟩, hS.F ht_⟩) hS.2.2 dX7_inCircles_32
      · refine lv_aload_n hx hb dX7_inCircles_8 rfl (lv_at hl 1 rfl) ?_
        refine va_get (D := E.1) (ci := 6) (v := .ref a1) (C := RX7) (T := TX7) (N := 7) hx hb hts in_X7 hown hK.1 hP 0 rfl rfl 1 (by decide) (hts _ q616) (fun _ h9 => h9) rfl dX7_inCircles_9 ?_
        refine lv_iload_n hx hb dX7_inCircles_12 rfl (lv_at hl 0 rfl) ?_
        refine n_iald (f := ov) hx hb hK.1 hP 1 0 rfl rfl (by omega) (by decide) dX7_inCircles_13 ?_
        have b_2 := il2_1.od (v := x1) (by omega)
        refine n_if_ne (tgt := 22) hx hb dX7_inCircles_14 (by decide) (by omega) (fun c_3 => ?_) (fun c_3 => ?_)
        · have htn := il2_1
          have hqn := il2_2
          have hvis : ∀ v, 0 ≤ v → v < x1 + 1 → 0 < ov v := by
            intro v h1 h2; by_cases hv : v = x1
            · have := il2_1.od (v := v) (by omega); rw [hv] at this ⊢; omega
            · exact il2_3 v h1 (by omega)
          refine lv_iinc (v := iI (x1 + 1)) (lv' := [(1, iv (x1 + 1)), (0, .ref so)]) hx hb dX7_inCircles_22 hl (k := 0) rfl (iI_add _ _) (by decide) rfl (fun ls hl => ?_)
          refine lv_goto (tgt := 2) hx hb dX7_inCircles_25 (by decide) ?_
          exact ihl2 (x1 + 1) nv sv tv ov lv iv_ fv qw (by first | omega | rfl) (by exact htn) (by exact hqn) (by exact hvis) (by omega) H locs hP hD hS ls (lv_sub hl [0, 1] rfl)
        · have hf8 := il2_1.f8
          refine lv_aload_n hx hb dX7_inCircles_17 rfl (lv_at hl 1 rfl) ?_
          refine lv_iload_n hx hb dX7_inCircles_18 rfl (lv_at hl 0 rfl) ?_
          refine n_cuxvS (w2 := fun u_4 => ([(so, .inr (6, [.ref wy, .ref a1, .ref a2, .ref a3, .ref da, iv u_4.2.2.2.2.2.2.1, iv u_4.2.2.2.2.2.2.2]))]) ++ ([(a1, ia (E.2 0) 8 u_4.1)]) ++ ([(a2, ia (E.2 0) 8 u_4.2.1)]) ++ ([(a3, ia (E.2 1) 8 u_4.2.2.1)]) ++ ([(da, .inr (9, [.ref db, iv 0, iv u_4.2.2.2.2.2.1]))]) ++ ([(db, qa (E.2 4) 17 u_4.2.2.2.2.1)]) ++ ([(wy, .inl (E.2 (3000 + 1), 1, .inr (.inr (.inr (.inr (fun _ => some (o 1)))))))]) ++ (BW E o sc ar)) (va_runV (As := [iv x1]) (rest := []) ⟨hx, hb, hml, hown, hts⟩ (mt_X7_visit l E 8 so nv sv a1 ov a2 lv a3 iv_ da tv db fv wy o sc ar x1 g (fun _ => false) qw (by omega) (by assumption) (by assumption) (by assumption) (by assumption) (by exact il2_1) (by exact il2_2) (by omega) (by exact fun y _ _ h9 => absurd h9 (by decide)) (by omega) _) (cwV 1 hts (lw_V q641 q643 qs6 q123 q644) rfl rfl rfl (by decide +kernel) ⟨(show 8 + 2 * 8 + 1 ≤ 25 by omega), (show 8 + (3 + 11) + (210 + 60 * 8) ≤ 712 by omega)⟩) (UX_V hP hK (hD) hE hS (va_A_in hD hS hA) (va_recv hK.1 hP (ci := 6) (q0 := 0) rfl rfl)) rfl rfl hl.1 rfl (lv_room (Nat.le_of_ble_eq_true rfl)) dX7_inCircles_19 ⟨Nat.le_of_ble_eq_true rfl, Nat.le_of_ble_eq_true rfl⟩) hP hD hS hA [0, 1, 2, 3, 4, 5, 6, 7, 8, 9, 10, 11, 12, 13, 14] [] [0, 1, 2, 3, 4, 5, 6, 7, 8, 9, 10, 11, 12, 13, 14] rfl rfl rfl rfl rfl (fun _ => rfl) (fun u_4 H locs hu_4 hP hD hS => ?_)
          have hu_4 : VP g (fun _ => false) x1 ov iv_ qw lv tv nv u_4.1 u_4.2.2.1 u_4.2.2.2.1 u_4.2.1 u_4.2.2.2.2.2.1 u_4.2.2.2.2.2.2.1 u_4.2.2.2.2.2.2.2 ∧ (∀ i, 0 ≤ i → i < u_4.2.2.2.2.2.1 → u_4.2.2.2.2.1 i = some (BX E (u_4.2.2.2.1 i))) := hu_4
          have hP : va_P E.1 CL (([(so, .inr (6, [.ref wy, .ref a1, .ref a2, .ref a3, .ref da, iv u_4.2.2.2.2.2.2.1, iv u_4.2.2.2.2.2.2.2]))]) ++ ([(a1, ia (E.2 0) 8 u_4.1)]) ++ ([(a2, ia (E.2 0) 8 u_4.2.1)]) ++ ([(a3, ia (E.2 1) 8 u_4.2.2.1)]) ++ ([(da, .inr (9, [.ref db, iv 0, iv u_4.2.2.2.2.2.1]))]) ++ ([(db, qa (E.2 4) 17 u_4.2.2.2.2.1)]) ++ ([(wy, .inl (E.2 (3000 + 1), 1, .inr (.inr (.inr (.inr (fun _ => some (o 1)))))))]) ++ (BW E o sc ar)) H := hP
          have hD : va_D A (([(so, .inr (6, [.ref wy, .ref a1, .ref a2, .ref a3, .ref da, iv u_4.2.2.2.2.2.2.1, iv u_4.2.2.2.2.2.2.2]))]) ++ ([(a1, ia (E.2 0) 8 u_4.1)]) ++ ([(a2, ia (E.2 0) 8 u_4.2.1)]) ++ ([(a3, ia (E.2 1) 8 u_4.2.2.1)]) ++ ([(da, .inr (9, [.ref db, iv 0, iv u_4.2.2.2.2.2.1]))]) ++ ([(db, qa (E.2 4) 17 u_4.2.2.2.2.1)]) ++ ([(wy, .inl (E.2 (3000 + 1), 1, .inr (.inr (.inr (.inr (fun _ => some (o 1)))))))]) ++ (BW E o sc ar)) := hD
          obtain ⟨hvp, hqn⟩ := hu_4
          have htn := hvp.1
          have hvis : ∀ v, 0 ≤ v → v < x1 + 1 → 0 < u_4.1 v := by
            intro v h1 h2; by_cases hv : v = x1
            · rw [hv]; exact hvp.2.2.2.2.1.1
            · rw [(hvp.2.1 v h1 (by omega) (il2_3 v h1 (by omega))).1]; exact il2_3 v h1 (by omega)
          refine lv_iinc (v := iI (x1 + 1)) (lv' := [(1, iv (x1 + 1)), (0, .ref so)]) hx hb dX7_inCircles_22 hl (k := 0) rfl (iI_add _ _) (by decide) rfl (fun ls hl => ?_)
          refine lv_goto (tgt := 2) hx hb dX7_inCircles_25 (by decide) ?_
          exact ihl2 (x1 + 1) u_4.2.2.2.2.2.2.1 u_4.2.2.2.2.2.2.2 u_4.2.2.2.2.2.1 u_4.1 u_4.2.1 u_4.2.2.1 u_4.2.2.2.2.1 u_4.2.2.2.1 (by first | omega | rfl) (by exact htn) (by exact hqn) (by exact hvis) (by omega) H locs hP hD hS ls (lv_sub hl [0, 1] rfl)
  exact l2 9 0 fnd sm tl od lw io fq qv (by first | omega | rfl | trivial) (by exact htj) (by exact hqu) (by intro v h1 h2; omega) (by omega) s.heap [] hP hD hS ls hl
set_option maxHeartbeats 2000000 in
set_option maxRecDepth 100000 in
theorem mt_X3_inCirclesBySets (l : Launch) (E : EE) (o : Nat → Nat) (sc : Nat → Int) (ar : Nat → Int → Int)  (g : Int → Int) (hbr : BR g ar) (hhn : HN g) (htw : TW g) (hsw : SwOK g) (sz : Nat) : Met l yX3_inCirclesBySets (ws_ yX3_inCirclesBySets cX3_inCirclesBySets 1 (some .int)) { frames := 26, cells := 7, slots := 52, locals := 3093 } (va_Pc [.ref (o 1)] (UX E (BW E o sc ar) sz)) (UQi E (sumI (fun k => b2 (m_reach g true k k)) 8) (BW E o sc ar) (va_A (BW E o sc ar) sz)) 7 52 (va_A (BW E o sc ar) sz) := by
  refine Met.ofW (cc := cX3_inCirclesBySets) (maxL := 1) (ret := (some .int)) (by decide) rfl ?_
  intro p e s m args below meth c s₁ B hml hv
  obtain ⟨rfl, hsz, hP, hK, hD0, hE⟩ := hv
  have hx := B.exec
  have hb := B.bytes
  have hr := B.returns
  have hts := atoms_spec (ws := (ws_ yX3_inCirclesBySets cX3_inCirclesBySets 1 (some .int))) B.pre
  have hts : ∀ w ∈ lw_all, w.before _ s = true := fun w h => hts w (List.mem_cons_of_mem _ h)
  have hown : s.vm.findClass RX3 = some m.cls := findClass_of_methodNamed B.named
  have hlocks := B.notSynchronized
  subst hsz
  have hD := hD0.self (sz := s.heap.size)
  generalize hAe : va_A (BW E o sc ar) s.heap.size = A at hD hE ⊢
  have hA : ∀ q : Nat, s.heap.size ≤ q → A q := fun q h => by rw [← hAe]; exact Or.inr h
  have hS : va_S A s.heap s.heap [] := va_S.rf
  have hl := lv_entry ([.ref (o 1)]) (n := 1) (Nat.le_of_ble_eq_true rfl)
  rw [lg_entry_eq]
  generalize (lg_sl ([.ref (o 1)]) ++ List.replicate (1 - (lg_sl ([.ref (o 1)])).length) Slot.unset).toArray = ls at hl ⊢
  have hl : lv_has ls 1 [(0, .ref (o 1))] := hl
  have hz9_q_1 : s.heap.size ≤ (s.heap).size := hS.1
  refine n_newK (ci := 6) (fs := [.null, .null, .null, .null, .null, iv 0, iv 0]) (C := RX7) (T := TX7) (N := 7) hx hb hts in_X7 tyX7 tyX7_ok hown (hts _ q607) (hts _ q608) (hts _ q123) hK hP hD hS hA rfl (fun j hj => by rcases (show j = 0 ∨ j = 1 ∨ j = 2 ∨ j = 3 ∨ j = 4 ∨ j = 5 ∨ j = 6 by omega) with rfl | rfl | rfl | rfl | rfl | rfl | rfl <;> rfl) (Nat.le_of_ble_eq_true rfl) (Nat.le_of_ble_eq_true rfl) dX3_inCirclesBySets_0 (fun q_1 H hfr_q_1 o_2 hsz_q_1 hP hD hS => ?_)
  have hge_q_1 : s.heap.size ≤ q_1 := Nat.le_trans hz9_q_1 hsz_q_1
  have hP : va_P E.1 CL ((BW E o sc ar) ++ ([(q_1, .inr (6, [.null, .null, .null, .null, .null, iv 0, iv 0]))])) H := hP
  have hD : va_D A ((BW E o sc ar) ++ ([(q_1, .inr (6, [.null, .null, .null, .null, .null, iv 0, iv 0]))])) := hD
  refine lv_dup hx hb dX3_inCirclesBySets_3 rfl ?_
  refine lv_aload_n hx hb dX3_inCirclesBySets_4 rfl (lv_at hl 0 rfl) ?_
  refine n_cuxrS (x := fun u_3 => u_3) (w2 := fun u_3 => (BW E o sc ar) ++ ([(q_1, .inr (6, [.null, .null, .null, .null, .null, iv 0, iv 0]))]) ++ ([(u_3, .inl (E.2 (3000 + 1), 1, .inr (.inr (.inr (.inr (fun _ => some (o 1)))))))])) (va_runV (As := []) (rest := [.ref q_1, .ref q_1]) ⟨hx, hb, hml, hown, hts⟩ (mt_X3_anyWay l E o sc ar  _) (cwV 0 hts (lw_V q526 q527 q528 q96 q529) rfl rfl rfl (by decide +kernel) ⟨Nat.le_of_ble_eq_true rfl, Nat.le_of_ble_eq_true rfl⟩) (UX_V (hP.sub (ws' := BW E o sc ar) [0, 1, 2, 3, 4, 5, 6, 7] rfl) hK (hD.sub (ws' := BW E o sc ar) [0, 1, 2, 3, 4, 5, 6, 7] rfl rfl) hE hS (va_sub_free hD hS hA [0, 1, 2, 3, 4, 5, 6, 7] rfl) (va_recv hK.1 hP (ci := 3) (q0 := 0) rfl rfl)) rfl rfl hl.1 rfl (lv_room (Nat.le_of_ble_eq_true rfl)) dX3_inCirclesBySets_5 ⟨Nat.le_of_ble_eq_true rfl, Nat.le_of_ble_eq_true rfl⟩) hP hD hS hA [0, 1, 2, 3, 4, 5, 6, 7] [8] [1, 2, 3, 4, 5, 6, 7, 8, 0, 9] rfl rfl rfl rfl rfl (fun _ => rfl) (fun u_3 H locs hu_3 hP hD hS => ?_)
  have hu_3 : True := hu_3
  have hP : va_P E.1 CL ((BW E o sc ar) ++ ([(q_1, .inr (6, [.null, .null, .null, .null, .null, iv 0, iv 0]))]) ++ ([(u_3, .inl (E.2 (3000 + 1), 1, .inr (.inr (.inr (.inr (fun _ => some (o 1)))))))])) H := hP
  have hD : va_D A ((BW E o sc ar) ++ ([(q_1, .inr (6, [.null, .null, .null, .null, .null, iv 0, iv 0]))]) ++ ([(u_3, .inl (E.2 (3000 + 1), 1, .inr (.inr (.inr (.inr (fun _ => some (o 1)))))))])) := hD
  refine n_cuxvS (w2 := fun u_4 : Nat × Nat × Nat × Nat × Nat => (BW E o sc ar) ++ ([(q_1, .inr (6, [.ref u_3, .ref u_4.1, .ref u_4.2.1, .ref u_4.2.2.1, .ref u_4.2.2.2.1, iv 0, iv 0]))]) ++ ([(u_3, .inl (E.2 (3000 + 1), 1, .inr (.inr (.inr (.inr (fun _ => some (o 1)))))))]) ++ ([(u_4.1, ia (E.2 0) 8 (fun _ => 0))]) ++ ([(u_4.2.1, ia (E.2 0) 8 (fun _ => 0))]) ++ ([(u_4.2.2.1, ia (E.2 1) 8 (fun _ => 0))]) ++ ([(u_4.2.2.2.1, .inr (9, [.ref u_4.2.2.2.2, iv 0, iv 0]))]) ++ ([(u_4.2.2.2.2, qa (E.2 4) 17 (fun _ => none))])) (va_runI (As := [.ref u_3]) (rest := [.ref q_1]) ⟨hx, hb, hml, hown, hts⟩ (mt_X7_init l E q_1 u_3 _) (n_cwI 1 hts q609 q610 q123 q611 rfl rfl rfl (by decide +kernel) ⟨Nat.le_of_ble_eq_true rfl, Nat.le_of_ble_eq_true rfl⟩) (UW_S (hP.sub (ws' := [(q_1, .inr (6, [.null, .null, .null, .null, .null, iv 0, iv 0]))]) [8] rfl) hK (hD.sub (ws' := [(q_1, .inr (6, [.null, .null, .null, .null, .null, iv 0, iv 0]))]) [8] rfl rfl)) rfl rfl hl.1 rfl (lv_room (Nat.le_of_ble_eq_true rfl)) dX3_inCirclesBySets_8 ⟨Nat.le_of_ble_eq_true rfl, Nat.le_of_ble_eq_true rfl⟩) hP hD hS hA [8] [0, 1, 2, 3, 4, 5, 6, 7, 9] [0, 1, 2, 3, 4, 5, 6, 7, 9, 8, 10, 11, 12, 13, 14] rfl rfl rfl rfl rfl (fun _ => rfl) (fun u_4 H locs hu_4 hP hD hS => ?_)
  have hu_4 : True := hu_4
  have hP : va_P E.1 CL ((BW E o sc ar) ++ ([(q_1, .inr (6, [.ref u_3, .ref u_4.1, .ref u_4.2.1, .ref u_4.2.2.1, .ref u_4.2.2.2.1, iv 0, iv 0]))]) ++ ([(u_3, .inl (E.2 (3000 + 1), 1, .inr (.inr (.inr (.inr (fun _ => some (o 1)))))))]) ++ ([(u_4.1, ia (E.2 0) 8 (fun _ => 0))]) ++ ([(u_4.2.1, ia (E.2 0) 8 (fun _ => 0))]) ++ ([(u_4.2.2.1, ia (E.2 1) 8 (fun _ => 0))]) ++ ([(u_4.2.2.2.1, .inr (9, [.ref u_4.2.2.2.2, iv 0, iv 0]))]) ++ ([(u_4.2.2.2.2, qa (E.2 4) 17 (fun _ => none))])) H := hP
  have hD : va_D A ((BW E o sc ar) ++ ([(q_1, .inr (6, [.ref u_3, .ref u_4.1, .ref u_4.2.1, .ref u_4.2.2.1, .ref u_4.2.2.2.1, iv 0, iv 0]))]) ++ ([(u_3, .inl (E.2 (3000 + 1), 1, .inr (.inr (.inr (.inr (fun _ => some (o 1)))))))]) ++ ([(u_4.1, ia (E.2 0) 8 (fun _ => 0))]) ++ ([(u_4.2.1, ia (E.2 0) 8 (fun _ => 0))]) ++ ([(u_4.2.2.1, ia (E.2 1) 8 (fun _ => 0))]) ++ ([(u_4.2.2.2.1, .inr (9, [.ref u_4.2.2.2.2, iv 0, iv 0]))]) ++ ([(u_4.2.2.2.2, qa (E.2 4) 17 (fun _ => none))])) := hD
  refine n_cuxS (x := fun u_5 => sumI (fun k => b2 (m_reach g true k k)) 8) (w2 := fun u_5 => (BW E o sc ar) ++ ([(q_1, .inr (6, [.ref u_3, .ref u_4.1, .ref u_4.2.1, .ref u_4.2.2.1, .ref u_4.2.2.2.1, iv u_5.2.2.2.2.2.2.1, iv u_5.2.2.2.2.2.2.2]))]) ++ ([(u_3, .inl (E.2 (3000 + 1), 1, .inr (.inr (.inr (.inr (fun _ => some (o 1)))))))]) ++ ([(u_4.1, ia (E.2 0) 8 u_5.1)]) ++ ([(u_4.2.1, ia (E.2 0) 8 u_5.2.1)]) ++ ([(u_4.2.2.1, ia (E.2 1) 8 u_5.2.2.1)]) ++ ([(u_4.2.2.2.1, .inr (9, [.ref u_4.2.2.2.2, iv 0, iv u_5.2.2.2.2.2.1]))]) ++ ([(u_4.2.2.2.2, qa (E.2 4) 17 u_5.2.2.2.2.1)])) (va_runV (As := []) (rest := []) ⟨hx, hb, hml, hown, hts⟩ (mt_X7_inCircles l E q_1 0 0 u_4.1 (fun _ => 0) u_4.2.1 (fun _ => 0) u_4.2.2.1 (fun _ => 0) u_4.2.2.2.1 0 u_4.2.2.2.2 (fun _ => none) u_3 o sc ar  g (fun _ => 0) (by assumption) (by assumption) (by assumption) (by assumption) (by exact TJ_init) (by intro i h1 h2; omega) _) (cwV 0 hts (lw_V q637 q638 q639 q123 q640) rfl rfl rfl (by decide +kernel) ⟨Nat.le_of_ble_eq_true rfl, Nat.le_of_ble_eq_true rfl⟩) (UX_V (hP.sub (ws' := ([(q_1, .inr (6, [.ref u_3, .ref u_4.1, .ref u_4.2.1, .ref u_4.2.2.1, .ref u_4.2.2.2.1, iv 0, iv 0]))]) ++ ([(u_4.1, ia (E.2 0) 8 (fun _ => 0))]) ++ ([(u_4.2.1, ia (E.2 0) 8 (fun _ => 0))]) ++ ([(u_4.2.2.1, ia (E.2 1) 8 (fun _ => 0))]) ++ ([(u_4.2.2.2.1, .inr (9, [.ref u_4.2.2.2.2, iv 0, iv 0]))]) ++ ([(u_4.2.2.2.2, qa (E.2 4) 17 (fun _ => none))]) ++ ([(u_3, .inl (E.2 (3000 + 1), 1, .inr (.inr (.inr (.inr (fun _ => some (o 1)))))))]) ++ (BW E o sc ar)) [8, 10, 11, 12, 13, 14, 9, 0, 1, 2, 3, 4, 5, 6, 7] rfl) hK (hD.sub (ws' := ([(q_1, .inr (6, [.ref u_3, .ref u_4.1, .ref u_4.2.1, .ref u_4.2.2.1, .ref u_4.2.2.2.1, iv 0, iv 0]))]) ++ ([(u_4.1, ia (E.2 0) 8 (fun _ => 0))]) ++ ([(u_4.2.1, ia (E.2 0) 8 (fun _ => 0))]) ++ ([(u_4.2.2.1, ia (E.2 1) 8 (fun _ => 0))]) ++ ([(u_4.2.2.2.1, .inr (9, [.ref u_4.2.2.2.2, iv 0, iv 0]))]) ++ ([(u_4.2.2.2.2, qa (E.2 4) 17 (fun _ => none))]) ++ ([(u_3, .inl (E.2 (3000 + 1), 1, .inr (.inr (.inr (.inr (fun _ => some (o 1)))))))]) ++ (BW E o sc ar)) [8, 10, 11, 12, 13, 14, 9, 0, 1, 2, 3, 4, 5, 6, 7] rfl rfl) hE hS (va_sub_free hD hS hA [8, 10, 11, 12, 13, 14, 9, 0, 1, 2, 3, 4, 5, 6, 7] rfl) (va_recv hK.1 hP (ci := 6) (q0 := 8) rfl rfl)) rfl rfl hl.1 rfl (lv_room (Nat.le_of_ble_eq_true rfl)) dX3_inCirclesBySets_11 ⟨Nat.le_of_ble_eq_true rfl, Nat.le_of_ble_eq_true rfl⟩) hP hD hS hA [8, 10, 11, 12, 13, 14, 9, 0, 1, 2, 3, 4, 5, 6, 7] [] [7, 8, 9, 10, 11, 12, 13, 14, 0, 6, 1, 2, 3, 4, 5] rfl rfl rfl rfl rfl (fun _ => rfl) (fun u_5 H locs hu_5 hP hD hS => ?_)
  have hu_5 : True := hu_5
  have hP : va_P E.1 CL ((BW E o sc ar) ++ ([(q_1, .inr (6, [.ref u_3, .ref u_4.1, .ref u_4.2.1, .ref u_4.2.2.1, .ref u_4.2.2.2.1, iv u_5.2.2.2.2.2.2.1, iv u_5.2.2.2.2.2.2.2]))]) ++ ([(u_3, .inl (E.2 (3000 + 1), 1, .inr (.inr (.inr (.inr (fun _ => some (o 1)))))))]) ++ ([(u_4.1, ia (E.2 0) 8 u_5.1)]) ++ ([(u_4.2.1, ia (E.2 0) 8 u_5.2.1)]) ++ ([(u_4.2.2.1, ia (E.2 1) 8 u_5.2.2.1)]) ++ ([(u_4.2.2.2.1, .inr (9, [.ref u_4.2.2.2.2, iv 0, iv u_5.2.2.2.2.2.1]))]) ++ ([(u_4.2.2.2.2, qa (E.2 4) 17 u_5.2.2.2.2.1)])) H := hP
  have hD : va_D A ((BW E o sc ar) ++ ([(q_1, .inr (6, [.ref u_3, .ref u_4.1, .ref u_4.2.1, .ref u_4.2.2.1, .ref u_4.2.2.2.1, iv u_5.2.2.2.2.2.2.1, iv u_5.2.2.2.2.2.2.2]))]) ++ ([(u_3, .inl (E.2 (3000 + 1), 1, .inr (.inr (.inr (.inr (fun _ => some (o 1)))))))]) ++ ([(u_4.1, ia (E.2 0) 8 u_5.1)]) ++ ([(u_4.2.1, ia (E.2 0) 8 u_5.2.1)]) ++ ([(u_4.2.2.1, ia (E.2 1) 8 u_5.2.2.1)]) ++ ([(u_4.2.2.2.1, .inr (9, [.ref u_4.2.2.2.2, iv 0, iv u_5.2.2.2.2.2.1]))]) ++ ([(u_4.2.2.2.2, qa (E.2 4) 17 u_5.2.2.2.2.1)])) := hD
  have hP := hP.sub (ws' := BW E o sc ar) [0, 1, 2, 3, 4, 5, 6, 7] rfl
  have hD := hD.sub (ws' := BW E o sc ar) [0, 1, 2, 3, 4, 5, 6, 7] (by decide) rfl
  refine W.widen (k := 7) (n := 52) (Nat.le_of_ble_eq_true rfl) (Nat.le_of_ble_eq_true rfl) ?_
  exact W.iret (v := iI (sumI (fun k => b2 (m_reach g true k k)) 8)) hx hb hr (fun tt_ ht_ hW_ => ⟨⟨iI (sumI (fun k => b2 (m_reach g true k k)) 8), (), rfl, rfl, by rw [ht_]; exact hP, hD⟩, hS.F ht_⟩) hS.2.2 dX3_inCirclesBySets_14
