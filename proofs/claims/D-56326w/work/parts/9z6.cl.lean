set_option maxHeartbeats 1000000 in
set_option maxRecDepth 100000 in
theorem mt_X3_write (l : Launch) (E : EE) (o : Nat → Nat) (sc : Nat → Int) (ar : Nat → Int → Int) (sb : Nat) (sm : Int) (sv : Nat) (sf : Int → Int) (t : Int) (g : Int → Int) (ht : 0 ≤ t ∧ t < 8) (hbr : BR g ar) (hh : m_has g t = true) (htw : TW g) (hsw : SwOK g) (htm : TM g) (hsc : SC g) (sz : Nat) : Met l yX3_write (ws_ yX3_write cX3_write 4 none) { frames := 5, cells := 0, slots := 0, locals := 108 } (va_Pc [.ref (o 1), .ref sb, iv t] (UX E ((BW E o sc ar) ++ ([(sb, .inr (10, [.ref sv, iv 0, iv sm, iv (lenI [])]))] : va_W) ++ ([(sv, ia (E.2 3) 16 (wR [] sf))] : va_W)) sz)) (UQv E ((BW E o sc ar) ++ ([(sb, .inr (10, [.ref sv, iv 0, iv sm, iv (lenI (m_wrec g (97 + t)))]))] : va_W) ++ ([(sv, ia (E.2 3) 16 (wR (m_wrec g (97 + t)) sf))] : va_W)) (va_A ((BW E o sc ar) ++ ([(sb, .inr (10, [.ref sv, iv 0, iv sm, iv (lenI [])]))] : va_W) ++ ([(sv, ia (E.2 3) 16 (wR [] sf))] : va_W)) sz)) 0 0 (va_A ((BW E o sc ar) ++ ([(sb, .inr (10, [.ref sv, iv 0, iv sm, iv (lenI [])]))] : va_W) ++ ([(sv, ia (E.2 3) 16 (wR [] sf))] : va_W)) sz) := by
  refine Met.ofW (cc := cX3_write) (maxL := 4) (ret := none) (by decide) rfl ?_
  intro p e s m args below meth c s₁ B hml hv
  obtain ⟨rfl, hsz, hP, hK, hD0, hE⟩ := hv
  have hx := B.exec
  have hb := B.bytes
  have hr := B.returns
  have hts := atoms_spec (ws := (ws_ yX3_write cX3_write 4 none)) B.pre
  have hts : ∀ w ∈ lw_all, w.before _ s = true := fun w h => hts w (List.mem_cons_of_mem _ h)
  have hown : s.vm.findClass RX3 = some m.cls := findClass_of_methodNamed B.named
  have hlocks := B.notSynchronized
  subst hsz
  have hD := hD0.self (sz := s.heap.size)
  generalize hAe : va_A ((BW E o sc ar) ++ ([(sb, .inr (10, [.ref sv, iv 0, iv sm, iv (lenI [])]))] : va_W) ++ ([(sv, ia (E.2 3) 16 (wR [] sf))] : va_W)) s.heap.size = A at hD hE ⊢
  have hA : ∀ q : Nat, s.heap.size ≤ q → A q := fun q h => by rw [← hAe]; exact Or.inr h
  have hS : va_S A s.heap s.heap [] := va_S.rf
  have hl := lv_entry ([.ref (o 1), .ref sb, iv t]) (n := 4) (Nat.le_of_ble_eq_true rfl)
  rw [lg_entry_eq]
  generalize (lg_sl ([.ref (o 1), .ref sb, iv t]) ++ List.replicate (4 - (lg_sl ([.ref (o 1), .ref sb, iv t])).length) Slot.unset).toArray = ls at hl ⊢
  have hl : lv_has ls 4 [(0, .ref (o 1)), (1, .ref sb), (2, iv t)] := hl
  have hw2 := htw t ht.1 ht.2
  have hm2 := htm t ht.1 ht.2
  have hsq := hsw t ht.1 ht.2
  have hs4 := hsc t ht.1 ht.2
  have hL00 : lenI [] = 0 := rfl
  refine lv_aload_n hx hb dX3_write_0 rfl (lv_at hl 1 rfl) ?_
  refine lv_iload_n hx hb dX3_write_1 rfl (lv_at hl 2 rfl) ?_
  refine n_csi (x := 97 + t) (va_runSN (As := [iv t]) (rest := [.ref sb]) ⟨hx, hb, hml, hown, hts⟩ (mt_X1_letterOf l E t (by omega)) ⟨(va_cnB 1 hts (lw_meth q1128) rfl rfl rfl (hK.nv q1668) (hts _ q94) (by decide +kernel) ⟨Nat.le_of_ble_eq_true rfl, Nat.le_of_ble_eq_true rfl⟩), hts _ q1127, trivial⟩ (PW_S (hP.sub (ws' := []) [] rfl) hK) rfl rfl hl.1 rfl (lv_room (Nat.le_of_ble_eq_true rfl)) dX3_write_2 ⟨Nat.le_of_ble_eq_true rfl, Nat.le_of_ble_eq_true rfl⟩) ?_
  refine n_cuxrS (x := fun u_1 => sb) (w2 := fun u_1 => (BW E o sc ar) ++ ([(sb, .inr (10, [.ref sv, iv 0, iv sm, iv ((lenI []) + 1)]))] : va_W) ++ ([(sv, ia (E.2 3) 16 (ui (wR [] sf) (lenI []) (97 + t)))] : va_W)) (va_runV (As := [iv (97 + t)]) (rest := []) ⟨hx, hb, hml, hown, hts⟩ (mt_J3_appendC l E sb sm (lenI []) sv (wR [] sf) (97 + t) (16) (by first | omega | ((try simp only [lenI]); omega)) (by first | omega | ((try simp only [lenI]); omega)) (by decide) _) (cwV 1 hts (lw_V q1669 q1670 q1671 q100 q1672) rfl rfl rfl (by decide +kernel) ⟨Nat.le_of_ble_eq_true rfl, Nat.le_of_ble_eq_true rfl⟩) (UX_V (hP.sub (ws' := ([(sb, .inr (10, [.ref sv, iv 0, iv sm, iv (lenI [])]))] : va_W) ++ ([(sv, ia (E.2 3) 16 (wR [] sf))] : va_W)) [8, 9] rfl) hK (hD.sub (ws' := ([(sb, .inr (10, [.ref sv, iv 0, iv sm, iv (lenI [])]))] : va_W) ++ ([(sv, ia (E.2 3) 16 (wR [] sf))] : va_W)) [8, 9] rfl rfl) hE hS (va_sub_free hD hS hA [8, 9] rfl) (va_recv hK.1 hP (ci := 10) (q0 := 8) rfl rfl)) rfl rfl hl.1 rfl (lv_room (Nat.le_of_ble_eq_true rfl)) dX3_write_5 ⟨Nat.le_of_ble_eq_true rfl, Nat.le_of_ble_eq_true rfl⟩) hP hD hS hA [8, 9] [0, 1, 2, 3, 4, 5, 6, 7] [0, 1, 2, 3, 4, 5, 6, 7, 8, 9] rfl rfl rfl rfl rfl (fun _ => rfl) (fun u_1 H locs hu_1 hP hD hS => ?_)
  have hu_1 : True := hu_1
  have hP : va_P E.1 CL ((BW E o sc ar) ++ ([(sb, .inr (10, [.ref sv, iv 0, iv sm, iv ((lenI []) + 1)]))] : va_W) ++ ([(sv, ia (E.2 3) 16 (ui (wR [] sf) (lenI []) (97 + t)))] : va_W)) H := hP
  have hD : va_D A ((BW E o sc ar) ++ ([(sb, .inr (10, [.ref sv, iv 0, iv sm, iv ((lenI []) + 1)]))] : va_W) ++ ([(sv, ia (E.2 3) 16 (ui (wR [] sf) (lenI []) (97 + t)))] : va_W)) := hD
  have hP : va_P E.1 CL ((BW E o sc ar) ++ ([(sb, .inr (10, [.ref sv, iv 0, iv sm, iv (lenI ((97 + t) :: []))]))] : va_W) ++ ([(sv, ia (E.2 3) 16 (wR ((97 + t) :: []) sf))] : va_W)) H := hP
  have hD : va_D A ((BW E o sc ar) ++ ([(sb, .inr (10, [.ref sv, iv 0, iv sm, iv (lenI ((97 + t) :: []))]))] : va_W) ++ ([(sv, ia (E.2 3) 16 (wR ((97 + t) :: []) sf))] : va_W)) := hD
  refine lv_aload_n hx hb dX3_write_8 rfl (lv_at hl 0 rfl) ?_
  refine va_get (D := E.1) (ci := 3) (v := .ref (o 3)) (C := RX3) (T := TX3) (N := 7) hx hb hts in_X3 hown hK.1 hP 0 rfl rfl 1 (by decide) (hts _ q156) (fun _ h9 => h9) rfl dX3_write_9 ?_
  refine lv_iload_n hx hb dX3_write_12 rfl (lv_at hl 2 rfl) ?_
  refine n_cald (f := ar 3) hx hb hK.1 hP 2 2 rfl rfl (by omega) (by decide) dX3_write_13 ?_
  rw [hbr.sco (t := t) (by omega) (by first | assumption | exact HN_pos hhn (t := t) (by omega) (by omega))]
  have b_2 := hsc t (by omega) (by omega)
  refine n_cuxrS (x := fun u_3 => sb) (w2 := fun u_3 => (BW E o sc ar) ++ ([(sb, .inr (10, [.ref sv, iv 0, iv sm, iv ((lenI ((97 + t) :: [])) + 1)]))] : va_W) ++ ([(sv, ia (E.2 3) 16 (ui (wR ((97 + t) :: []) sf) (lenI ((97 + t) :: [])) (m_of g t 0)))] : va_W)) (va_runV (As := [iv (m_of g t 0)]) (rest := []) ⟨hx, hb, hml, hown, hts⟩ (mt_J3_appendC l E sb sm (lenI ((97 + t) :: [])) sv (wR ((97 + t) :: []) sf) (m_of g t 0) (16) (by first | omega | ((try simp only [lenI]); omega)) (by first | omega | ((try simp only [lenI]); omega)) (by decide) _) (cwV 1 hts (lw_V q1669 q1670 q1671 q100 q1672) rfl rfl rfl (by decide +kernel) ⟨Nat.le_of_ble_eq_true rfl, Nat.le_of_ble_eq_true rfl⟩) (UX_V (hP.sub (ws' := ([(sb, .inr (10, [.ref sv, iv 0, iv sm, iv (lenI ((97 + t) :: []))]))] : va_W) ++ ([(sv, ia (E.2 3) 16 (wR ((97 + t) :: []) sf))] : va_W)) [8, 9] rfl) hK (hD.sub (ws' := ([(sb, .inr (10, [.ref sv, iv 0, iv sm, iv (lenI ((97 + t) :: []))]))] : va_W) ++ ([(sv, ia (E.2 3) 16 (wR ((97 + t) :: []) sf))] : va_W)) [8, 9] rfl rfl) hE hS (va_sub_free hD hS hA [8, 9] rfl) (va_recv hK.1 hP (ci := 10) (q0 := 8) rfl rfl)) rfl rfl hl.1 rfl (lv_room (Nat.le_of_ble_eq_true rfl)) dX3_write_14 ⟨Nat.le_of_ble_eq_true rfl, Nat.le_of_ble_eq_true rfl⟩) hP hD hS hA [8, 9] [0, 1, 2, 3, 4, 5, 6, 7] [0, 1, 2, 3, 4, 5, 6, 7, 8, 9] rfl rfl rfl rfl rfl (fun _ => rfl) (fun u_3 H locs hu_3 hP hD hS => ?_)
  have hu_3 : True := hu_3
  have hP : va_P E.1 CL ((BW E o sc ar) ++ ([(sb, .inr (10, [.ref sv, iv 0, iv sm, iv ((lenI ((97 + t) :: [])) + 1)]))] : va_W) ++ ([(sv, ia (E.2 3) 16 (ui (wR ((97 + t) :: []) sf) (lenI ((97 + t) :: [])) (m_of g t 0)))] : va_W)) H := hP
  have hD : va_D A ((BW E o sc ar) ++ ([(sb, .inr (10, [.ref sv, iv 0, iv sm, iv ((lenI ((97 + t) :: [])) + 1)]))] : va_W) ++ ([(sv, ia (E.2 3) 16 (ui (wR ((97 + t) :: []) sf) (lenI ((97 + t) :: [])) (m_of g t 0)))] : va_W)) := hD
  have hP : va_P E.1 CL ((BW E o sc ar) ++ ([(sb, .inr (10, [.ref sv, iv 0, iv sm, iv (lenI ((m_of g t 0) :: ((97 + t) :: [])))]))] : va_W) ++ ([(sv, ia (E.2 3) 16 (wR ((m_of g t 0) :: ((97 + t) :: [])) sf))] : va_W)) H := hP
  have hD : va_D A ((BW E o sc ar) ++ ([(sb, .inr (10, [.ref sv, iv 0, iv sm, iv (lenI ((m_of g t 0) :: ((97 + t) :: [])))]))] : va_W) ++ ([(sv, ia (E.2 3) 16 (wR ((m_of g t 0) :: ((97 + t) :: [])) sf))] : va_W)) := hD
  refine lv_aload_n hx hb dX3_write_17 rfl (lv_at hl 0 rfl) ?_
  refine va_get (D := E.1) (ci := 3) (v := .ref (o 4)) (C := RX3) (T := TX3) (N := 7) hx hb hts in_X3 hown hK.1 hP 0 rfl rfl 2 (by decide) (hts _ q160) (fun _ h9 => h9) rfl dX3_write_18 ?_
  refine lv_iload_n hx hb dX3_write_21 rfl (lv_at hl 2 rfl) ?_
  refine n_iald (f := ar 4) hx hb hK.1 hP 3 0 rfl rfl (by omega) (by decide) dX3_write_22 ?_
  rw [hbr.mns (t := t) (by omega) (by first | assumption | exact HN_pos hhn (t := t) (by omega) (by omega))]
  have b_4 := htm t (by omega) (by omega)
  refine n_cuxrS (x := fun u_5 => sb) (w2 := fun u_5 => (BW E o sc ar) ++ ([(sb, .inr (10, [.ref sv, iv 0, iv sm, iv ((lenI ((m_of g t 0) :: ((97 + t) :: []))) + (dgn (m_of g t 1)))]))] : va_W) ++ ([(sv, ia (E.2 3) 16 (dgF (m_of g t 1) ((lenI ((m_of g t 0) :: ((97 + t) :: []))) + (dgn (m_of g t 1))) (wR ((m_of g t 0) :: ((97 + t) :: [])) sf)))] : va_W)) (va_runV (As := [iv (m_of g t 1)]) (rest := []) ⟨hx, hb, hml, hown, hts⟩ (mt_J3_appendI l E sb sm (lenI ((m_of g t 0) :: ((97 + t) :: []))) sv (wR ((m_of g t 0) :: ((97 + t) :: [])) sf) (m_of g t 1) (16) (by first | omega | ((try simp only [lenI]); omega)) (by have h9 := dgn_r (m_of g t 1); first | omega | ((try simp only [lenI]); omega)) (by decide) _) (cwV 1 hts (lw_V q1691 q1540 q1541 q100 q1542) rfl rfl rfl (by decide +kernel) ⟨Nat.le_of_ble_eq_true rfl, Nat.le_of_ble_eq_true rfl⟩) (UX_V (hP.sub (ws' := ([(sb, .inr (10, [.ref sv, iv 0, iv sm, iv (lenI ((m_of g t 0) :: ((97 + t) :: [])))]))] : va_W) ++ ([(sv, ia (E.2 3) 16 (wR ((m_of g t 0) :: ((97 + t) :: [])) sf))] : va_W)) [8, 9] rfl) hK (hD.sub (ws' := ([(sb, .inr (10, [.ref sv, iv 0, iv sm, iv (lenI ((m_of g t 0) :: ((97 + t) :: [])))]))] : va_W) ++ ([(sv, ia (E.2 3) 16 (wR ((m_of g t 0) :: ((97 + t) :: [])) sf))] : va_W)) [8, 9] rfl rfl) hE hS (va_sub_free hD hS hA [8, 9] rfl) (va_recv hK.1 hP (ci := 10) (q0 := 8) rfl rfl)) rfl rfl hl.1 rfl (lv_room (Nat.le_of_ble_eq_true rfl)) dX3_write_23 ⟨Nat.le_of_ble_eq_true rfl, Nat.le_of_ble_eq_true rfl⟩) hP hD hS hA [8, 9] [0, 1, 2, 3, 4, 5, 6, 7] [0, 1, 2, 3, 4, 5, 6, 7, 8, 9] rfl rfl rfl rfl rfl (fun _ => rfl) (fun u_5 H locs hu_5 hP hD hS => ?_)
  have hu_5 : True := hu_5
  have hP : va_P E.1 CL ((BW E o sc ar) ++ ([(sb, .inr (10, [.ref sv, iv 0, iv sm, iv ((lenI ((m_of g t 0) :: ((97 + t) :: []))) + (dgn (m_of g t 1)))]))] : va_W) ++ ([(sv, ia (E.2 3) 16 (dgF (m_of g t 1) ((lenI ((m_of g t 0) :: ((97 + t) :: []))) + (dgn (m_of g t 1))) (wR ((m_of g t 0) :: ((97 + t) :: [])) sf)))] : va_W)) H := hP
  have hD : va_D A ((BW E o sc ar) ++ ([(sb, .inr (10, [.ref sv, iv 0, iv sm, iv ((lenI ((m_of g t 0) :: ((97 + t) :: []))) + (dgn (m_of g t 1)))]))] : va_W) ++ ([(sv, ia (E.2 3) 16 (dgF (m_of g t 1) ((lenI ((m_of g t 0) :: ((97 + t) :: []))) + (dgn (m_of g t 1))) (wR ((m_of g t 0) :: ((97 + t) :: [])) sf)))] : va_W)) := hD
  rw [dgF_w ((m_of g t 0) :: ((97 + t) :: [])) sf (by omega), dgn_w ((m_of g t 0) :: ((97 + t) :: [])) (by omega)] at hP hD
  have b_6 := dgR_len (m_of g t 1) ((m_of g t 0) :: ((97 + t) :: []))
  (try simp only [lenI] at b_6)
  have hP : va_P E.1 CL ((BW E o sc ar) ++ ([(sb, .inr (10, [.ref sv, iv 0, iv sm, iv (lenI (dgR (m_of g t 1) ((m_of g t 0) :: ((97 + t) :: []))))]))] : va_W) ++ ([(sv, ia (E.2 3) 16 (wR (dgR (m_of g t 1) ((m_of g t 0) :: ((97 + t) :: []))) sf))] : va_W)) H := hP
  have hD : va_D A ((BW E o sc ar) ++ ([(sb, .inr (10, [.ref sv, iv 0, iv sm, iv (lenI (dgR (m_of g t 1) ((m_of g t 0) :: ((97 + t) :: []))))]))] : va_W) ++ ([(sv, ia (E.2 3) 16 (wR (dgR (m_of g t 1) ((m_of g t 0) :: ((97 + t) :: []))) sf))] : va_W)) := hD
  refine lv_pop hx hb dX3_write_26 rfl ?_
  refine lv_iconst (v := iI 0) hx hb dX3_write_27 rfl ?_
  refine lv_istore_n (lv' := [(3, iv 0), (0, .ref (o 1)), (1, .ref sb), (2, iv t)]) hx hb dX3_write_28 rfl hl (by decide) rfl (fun ls hl => ?_)
  have l29 : ∀ (fu : Nat) (x3 : Int) (Lq : List Int), (0 ≤ x3 ∧ x3 ≤ m_of g t 2) → (Lq = itI (m_wn g t) x3 (dgR (m_of g t 1) [m_of g t 0, 97 + t])) → (lenI Lq ≤ 4 + 3 * x3) → (m_of g t 2 - x3 < (fu : Int)) → ∀ (H : Heap) (locs : List Loc), va_P E.1 CL ((BW E o sc ar) ++ ([(sb, .inr (10, [.ref sv, iv 0, iv sm, iv (lenI Lq)]))] : va_W) ++ ([(sv, ia (E.2 3) 16 (wR Lq sf))] : va_W)) H → va_D A ((BW E o sc ar) ++ ([(sb, .inr (10, [.ref sv, iv 0, iv sm, iv (lenI Lq)]))] : va_W) ++ ([(sv, ia (E.2 3) 16 (wR Lq sf))] : va_W)) → va_S A s.heap H locs → ∀ ls : Array Slot, lv_has ls 4 [(3, iv x3), (0, .ref (o 1)), (1, .ref sb), (2, iv t)] → W p l e (headSpec (ws_ yX3_write cX3_write 4 none) { frames := 5, cells := 0, slots := 0, locals := 108 }).room s m ([.ref (o 1), .ref sb, iv t] : List Value).toArray below meth c H locs 0 0 (MQ below (UQv E ((BW E o sc ar) ++ ([(sb, .inr (10, [.ref sv, iv 0, iv sm, iv (lenI (m_wrec g (97 + t)))]))] : va_W) ++ ([(sv, ia (E.2 3) 16 (wR (m_wrec g (97 + t)) sf))] : va_W)) A) ([.ref (o 1), .ref sb, iv t] : List Value).toArray s 0 0 A) (F0 m 29 ls []) := by
    intro fu
    induction fu with
    | zero =>
      intro x3 Lq il29_0 il29_1 il29_2 hm
      exfalso; omega
    | succ fu ih =>
      intro x3 Lq il29_0 il29_1 il29_2 hm H locs hP hD hS ls hl
      have ihl29 := ih
      have hL0 := lenI_0 Lq
      refine lv_iload_n hx hb dX3_write_29 rfl (lv_at hl 0 rfl) ?_
      refine lv_aload_n hx hb dX3_write_30 rfl (lv_at hl 1 rfl) ?_
      refine va_get (D := E.1) (ci := 3) (v := .ref (o 5)) (C := RX3) (T := TX3) (N := 7) hx hb hts in_X3 hown hK.1 hP 0 rfl rfl 3 (by decide) (hts _ q162) (fun _ h9 => h9) rfl dX3_write_31 ?_
      refine lv_iload_n hx hb dX3_write_34 rfl (lv_at hl 3 rfl) ?_
      refine n_iald (f := ar 5) hx hb hK.1 hP 4 0 rfl rfl (by omega) (by decide) dX3_write_35 ?_
      rw [hbr.cnt (t := t) (by omega) (by first | assumption | exact HN_pos hhn (t := t) (by omega) (by omega))]
      have b_7 := htw t (by omega) (by omega)
      refine n_icmp_ge (tgt := 78) hx hb dX3_write_36 (by decide) (by omega) (by omega) (fun c_8 => ?_) (fun c_8 => ?_)
      · refine lv_aload_n hx hb dX3_write_78 rfl (lv_at hl 1 rfl) ?_
        refine va_get (D := E.1) (ci := 3) (v := .ref (o 8)) (C := RX3) (T := TX3) (N := 7) hx hb hts in_X3 hown hK.1 hP 0 rfl rfl 6 (by decide) (hts _ q168) (fun _ h9 => h9) rfl dX3_write_79 ?_
        refine lv_iload_n hx hb dX3_write_82 rfl (lv_at hl 3 rfl) ?_
        refine n_iald (f := ar 8) hx hb hK.1 hP 7 0 rfl rfl (by omega) (by decide) dX3_write_83 ?_
        rw [hbr.rep (t := t) (by omega)]
        refine lv_iconst (v := iI (-1)) hx hb dX3_write_84 rfl ?_
        have b_9 := hsw t (by omega) (by omega)
        refine n_icmp_eq (tgt := 107) hx hb dX3_write_85 (by decide) (by omega) (by omega) (fun c_10 => ?_) (fun c_10 => ?_)
        · obtain rfl : x3 = m_of g t 2 := by omega
          have heq : m_wrec g (97 + t) = Lq := by first | exact m_wrec_1 il29_1 (by omega) | exact m_wrec_0 il29_1 (by omega)
          have w_11 : (lenI Lq : Int) = lenI (m_wrec g (97 + t)) := by rw [heq]
          rw [w_11] at hP hD
          have hP : va_P E.1 CL ((BW E o sc ar) ++ ([(sb, .inr (10, [.ref sv, iv 0, iv sm, iv (lenI (m_wrec g (97 + t)))]))] : va_W) ++ ([(sv, ia (E.2 3) 16 (wR Lq sf))] : va_W)) H := hP
          have hD : va_D A ((BW E o sc ar) ++ ([(sb, .inr (10, [.ref sv, iv 0, iv sm, iv (lenI (m_wrec g (97 + t)))]))] : va_W) ++ ([(sv, ia (E.2 3) 16 (wR Lq sf))] : va_W)) := hD
          have w_12 : wR Lq sf = wR (m_wrec g (97 + t)) sf := by
            rw [heq]
          rw [show [(sv, ia (E.2 3) 16 (wR Lq sf))] = [(sv, ia (E.2 3) 16 (wR (m_wrec g (97 + t)) sf))] from congrArg (fun z0 : Int → Int => [(sv, ia (E.2 3) 16 z0)]) w_12] at hP hD
          exact W.vret hx hb hr (fun tt_ ht_ hW_ => ⟨⟨(), rfl, trivial, by rw [ht_]; exact hP, hD⟩, hS.F ht_⟩) hS.2.2 dX3_write_107
        · refine lv_aload_n hx hb dX3_write_88 rfl (lv_at hl 2 rfl) ?_
          refine lv_bipush (v := iI 62) hx hb dX3_write_89 (by decide) ?_
          refine n_cuxrS (x := fun u_13 => sb) (w2 := fun u_13 => (BW E o sc ar) ++ ([(sb, .inr (10, [.ref sv, iv 0, iv sm, iv ((lenI Lq) + 1)]))] : va_W) ++ ([(sv, ia (E.2 3) 16 (ui (wR Lq sf) (lenI Lq) 62))] : va_W)) (va_runV (As := [iv 62]) (rest := []) ⟨hx, hb, hml, hown, hts⟩ (mt_J3_appendC l E sb sm (lenI Lq) sv (wR Lq sf) 62 (16) (by first | omega | ((try simp only [lenI]); omega)) (by first | omega | ((try simp only [lenI]); omega)) (by decide) _) (cwV 1 hts (lw_V q1669 q1670 q1671 q100 q1672) rfl rfl rfl (by decide +kernel) ⟨Nat.le_of_ble_eq_true rfl, Nat.le_of_ble_eq_true rfl⟩) (UX_V (hP.sub (ws' := ([(sb, .inr (10, [.ref sv, iv 0, iv sm, iv (lenI Lq)]))] : va_W) ++ ([(sv, ia (E.2 3) 16 (wR Lq sf))] : va_W)) [8, 9] rfl) hK (hD.sub (ws' := ([(sb, .inr (10, [.ref sv, iv 0, iv sm, iv (lenI Lq)]))] : va_W) ++ ([(sv, ia (E.2 3) 16 (wR Lq sf))] : va_W)) [8, 9] rfl rfl) hE hS (va_sub_free hD hS hA [8, 9] rfl) (va_recv hK.1 hP (ci := 10) (q0 := 8) rfl rfl)) rfl rfl hl.1 rfl (lv_room (Nat.le_of_ble_eq_true rfl)) dX3_write_91 ⟨Nat.le_of_ble_eq_true rfl, Nat.le_of_ble_eq_true rfl⟩) hP hD hS hA [8, 9] [0, 1, 2, 3, 4, 5, 6, 7] [0, 1, 2, 3, 4, 5, 6, 7, 8, 9] rfl rfl rfl rfl rfl (fun _ => rfl) (fun u_13 H locs hu_13 hP hD hS => ?_)
          have hu_13 : True := hu_13
          have hP : va_P E.1 CL ((BW E o sc ar) ++ ([(sb, .inr (10, [.ref sv, iv 0, iv sm, iv ((lenI Lq) + 1)]))] : va_W) ++ ([(sv, ia (E.2 3) 16 (ui (wR Lq sf) (lenI Lq) 62))] : va_W)) H := hP
          have hD : va_D A ((BW E o sc ar) ++ ([(sb, .inr (10, [.ref sv, iv 0, iv sm, iv ((lenI Lq) + 1)]))] : va_W) ++ ([(sv, ia (E.2 3) 16 (ui (wR Lq sf) (lenI Lq) 62))] : va_W)) := hD
          have hP : va_P E.1 CL ((BW E o sc ar) ++ ([(sb, .inr (10, [.ref sv, iv 0, iv sm, iv (lenI (62 :: Lq))]))] : va_W) ++ ([(sv, ia (E.2 3) 16 (wR (62 :: Lq) sf))] : va_W)) H := hP
          have hD : va_D A ((BW E o sc ar) ++ ([(sb, .inr (10, [.ref sv, iv 0, iv sm, iv (lenI (62 :: Lq))]))] : va_W) ++ ([(sv, ia (E.2 3) 16 (wR (62 :: Lq) sf))] : va_W)) := hD
          refine lv_aload_n hx hb dX3_write_94 rfl (lv_at hl 1 rfl) ?_
          refine va_get (D := E.1) (ci := 3) (v := .ref (o 8)) (C := RX3) (T := TX3) (N := 7) hx hb hts in_X3 hown hK.1 hP 0 rfl rfl 6 (by decide) (hts _ q168) (fun _ h9 => h9) rfl dX3_write_95 ?_
          refine lv_iload_n hx hb dX3_write_98 rfl (lv_at hl 3 rfl) ?_
          refine n_iald (f := ar 8) hx hb hK.1 hP 7 0 rfl rfl (by omega) (by decide) dX3_write_99 ?_
          rw [hbr.rep (t := t) (by omega)]
          refine n_csi (x := 97 + (m_of g t 6 - 1)) (va_runSN (As := [iv (m_of g t 6 - 1)]) (rest := [.ref sb]) ⟨hx, hb, hml, hown, hts⟩ (mt_X1_letterOf l E (m_of g t 6 - 1) (by omega)) ⟨(va_cnB 1 hts (lw_meth q1128) rfl rfl rfl (hK.nv q1668) (hts _ q94) (by decide +kernel) ⟨Nat.le_of_ble_eq_true rfl, Nat.le_of_ble_eq_true rfl⟩), hts _ q1127, trivial⟩ (PW_S (hP.sub (ws' := []) [] rfl) hK) rfl rfl hl.1 rfl (lv_room (Nat.le_of_ble_eq_true rfl)) dX3_write_100 ⟨Nat.le_of_ble_eq_true rfl, Nat.le_of_ble_eq_true rfl⟩) ?_
          refine n_cuxrS (x := fun u_14 => sb) (w2 := fun u_14 => (BW E o sc ar) ++ ([(sb, .inr (10, [.ref sv, iv 0, iv sm, iv ((lenI (62 :: Lq)) + 1)]))] : va_W) ++ ([(sv, ia (E.2 3) 16 (ui (wR (62 :: Lq) sf) (lenI (62 :: Lq)) (97 + (m_of g t 6 - 1))))] : va_W)) (va_runV (As := [iv (97 + (m_of g t 6 - 1))]) (rest := []) ⟨hx, hb, hml, hown, hts⟩ (mt_J3_appendC l E sb sm (lenI (62 :: Lq)) sv (wR (62 :: Lq) sf) (97 + (m_of g t 6 - 1)) (16) (by first | omega | ((try simp only [lenI]); omega)) (by first | omega | ((try simp only [lenI]); omega)) (by decide) _) (cwV 1 hts (lw_V q1669 q1670 q1671 q100 q1672) rfl rfl rfl (by decide +kernel) ⟨Nat.le_of_ble_eq_true rfl, Nat.le_of_ble_eq_true rfl⟩) (UX_V (hP.sub (ws' := ([(sb, .inr (10, [.ref sv, iv 0, iv sm, iv (lenI (62 :: Lq))]))] : va_W) ++ ([(sv, ia (E.2 3) 16 (wR (62 :: Lq) sf))] : va_W)) [8, 9] rfl) hK (hD.sub (ws' := ([(sb, .inr (10, [.ref sv, iv 0, iv sm, iv (lenI (62 :: Lq))]))] : va_W) ++ ([(sv, ia (E.2 3) 16 (wR (62 :: Lq) sf))] : va_W)) [8, 9] rfl rfl) hE hS (va_sub_free hD hS hA [8, 9] rfl) (va_recv hK.1 hP (ci := 10) (q0 := 8) rfl rfl)) rfl rfl hl.1 rfl (lv_room (Nat.le_of_ble_eq_true rfl)) dX3_write_103 ⟨Nat.le_of_ble_eq_true rfl, Nat.le_of_ble_eq_true rfl⟩) hP hD hS hA [8, 9] [0, 1, 2, 3, 4, 5, 6, 7] [0, 1, 2, 3, 4, 5, 6, 7, 8, 9] rfl rfl rfl rfl rfl (fun _ => rfl) (fun u_14 H locs hu_14 hP hD hS => ?_)
          have hu_14 : True := hu_14
          have hP : va_P E.1 CL ((BW E o sc ar) ++ ([(sb, .inr (10, [.ref sv, iv 0, iv sm, iv ((lenI (62 :: Lq)) + 1)]))] : va_W) ++ ([(sv, ia (E.2 3) 16 (ui (wR (62 :: Lq) sf) (lenI (62 :: Lq)) (97 + (m_of g t 6 - 1))))] : va_W)) H := hP
          have hD : va_D A ((BW E o sc ar) ++ ([(sb, .inr (10, [.ref sv, iv 0, iv sm, iv ((lenI (62 :: Lq)) + 1)]))] : va_W) ++ ([(sv, ia (E.2 3) 16 (ui (wR (62 :: Lq) sf) (lenI (62 :: Lq)) (97 + (m_of g t 6 - 1))))] : va_W)) := hD
          have hP : va_P E.1 CL ((BW E o sc ar) ++ ([(sb, .inr (10, [.ref sv, iv 0, iv sm, iv (lenI ((97 + (m_of g t 6 - 1)) :: (62 :: Lq)))]))] : va_W) ++ ([(sv, ia (E.2 3) 16 (wR ((97 + (m_of g t 6 - 1)) :: (62 :: Lq)) sf))] : va_W)) H := hP
          have hD : va_D A ((BW E o sc ar) ++ ([(sb, .inr (10, [.ref sv, iv 0, iv sm, iv (lenI ((97 + (m_of g t 6 - 1)) :: (62 :: Lq)))]))] : va_W) ++ ([(sv, ia (E.2 3) 16 (wR ((97 + (m_of g t 6 - 1)) :: (62 :: Lq)) sf))] : va_W)) := hD
          refine lv_pop hx hb dX3_write_106 rfl ?_
          obtain rfl : x3 = m_of g t 2 := by omega
          have heq : m_wrec g (97 + t) = ((97 + (m_of g t 6 - 1)) :: (62 :: Lq)) := by first | exact m_wrec_1 il29_1 (by omega) | exact m_wrec_0 il29_1 (by omega)
          have w_15 : (lenI ((97 + (m_of g t 6 - 1)) :: (62 :: Lq)) : Int) = lenI (m_wrec g (97 + t)) := by rw [heq]
          rw [w_15] at hP hD
          have hP : va_P E.1 CL ((BW E o sc ar) ++ ([(sb, .inr (10, [.ref sv, iv 0, iv sm, iv (lenI (m_wrec g (97 + t)))]))] : va_W) ++ ([(sv, ia (E.2 3) 16 (wR ((97 + (m_of g t 6 - 1)) :: (62 :: Lq)) sf))] : va_W)) H := hP
          have hD : va_D A ((BW E o sc ar) ++ ([(sb, .inr (10, [.ref sv, iv 0, iv sm, iv (lenI (m_wrec g (97 + t)))]))] : va_W) ++ ([(sv, ia (E.2 3) 16 (wR ((97 + (m_of g t 6 - 1)) :: (62 :: Lq)) sf))] : va_W)) := hD
          have w_16 : wR ((97 + (m_of g t 6 - 1)) :: (62 :: Lq)) sf = wR (m_wrec g (97 + t)) sf := by
            rw [heq]
          rw [show [(sv, ia (E.2 3) 16 (wR ((97 + (m_of g t 6 - 1)) :: (62 :: Lq)) sf))] = [(sv, ia (E.2 3) 16 (wR (m_wrec g (97 + t)) sf))] from congrArg (fun z0 : Int → Int => [(sv, ia (E.2 3) 16 z0)]) w_16] at hP hD
          exact W.vret hx hb hr (fun tt_ ht_ hW_ => ⟨⟨(), rfl, trivial, by rw [ht_]; exact hP, hD⟩, hS.F ht_⟩) hS.2.2 dX3_write_107
      · refine lv_aload_n hx hb dX3_write_39 rfl (lv_at hl 2 rfl) ?_
        refine lv_aload_n hx hb dX3_write_40 rfl (lv_at hl 1 rfl) ?_
        refine lv_iload_n hx hb dX3_write_41 rfl (lv_at hl 3 rfl) ?_
        refine lv_iload_n hx hb dX3_write_42 rfl (lv_at hl 0 rfl) ?_
        refine n_csi (x := b2 (!(m_dir g t x3))) (va_runV (As := [iv t, iv x3]) (rest := [.ref sb]) ⟨hx, hb, hml, hown, hts⟩ (mt_X3_isLazy l E o sc ar t x3 g (by omega) (by assumption) (by first | assumption | exact HN_pos hhn (t := t) (by omega) (by omega)) (by omega) (by assumption)) (cwV 2 hts (lw_V q549 q550 q551 q96 q552) rfl rfl rfl (by decide +kernel) ⟨Nat.le_of_ble_eq_true rfl, Nat.le_of_ble_eq_true rfl⟩) (PW_V (hP.sub (ws' := BW E o sc ar) [0, 1, 2, 3, 4, 5, 6, 7] rfl) hK (va_recv hK.1 hP (ci := 3) (q0 := 0) rfl rfl)) rfl rfl hl.1 rfl (lv_room (Nat.le_of_ble_eq_true rfl)) dX3_write_43 ⟨Nat.le_of_ble_eq_true rfl, Nat.le_of_ble_eq_true rfl⟩) ?_
        refine n_ifb_eq (tgt := 54) hx hb dX3_write_46 (by decide) (fun c_17 => ?_) (fun c_17 => ?_)
        · refine va_ldcS hx hb (own := RX3) (tx := " ") (index := 145) (q := EX E (2 * 8)) hown (hK.ks ("ClockworkTailor$Book", 145, " ", 8) (List.mem_of_getElem? (i := 8) rfl)) dX3_write_54 ?_
          refine n_cuxrS (x := fun u_18 => sb) (w2 := fun u_18 => (BW E o sc ar) ++ ([(sb, .inr (10, [.ref sv, iv 0, iv sm, iv ((lenI Lq) + ((TX.getD 8 []).length : Int))]))] : va_W) ++ ([(sv, ia (E.2 3) 16 (cpD (TX.getD 8 []) (lenI Lq) (wR Lq sf)))] : va_W)) (va_runV (As := [.ref (EX E (2 * 8))]) (rest := []) ⟨hx, hb, hml, hown, hts⟩ (mt_J3_appendT l E sb sm (lenI Lq) sv (wR Lq sf) 8 (16) (by decide) (by (try simp only [lenI]); refine ⟨by omega, ?_⟩; show _ + ((TX.getD 8 []).length : Int) ≤ _; rw [show ((TX.getD 8 []).length : Int) = 1 from rfl]; omega) (by decide) _) (cwV 1 hts (lw_V q1694 q1430 q1431 q100 q1432) rfl rfl rfl (by decide +kernel) ⟨Nat.le_of_ble_eq_true rfl, Nat.le_of_ble_eq_true rfl⟩) (UX_V (hP.sub (ws' := ([(sb, .inr (10, [.ref sv, iv 0, iv sm, iv (lenI Lq)]))] : va_W) ++ ([(sv, ia (E.2 3) 16 (wR Lq sf))] : va_W)) [8, 9] rfl) hK (hD.sub (ws' := ([(sb, .inr (10, [.ref sv, iv 0, iv sm, iv (lenI Lq)]))] : va_W) ++ ([(sv, ia (E.2 3) 16 (wR Lq sf))] : va_W)) [8, 9] rfl rfl) hE hS (va_sub_free hD hS hA [8, 9] rfl) (va_recv hK.1 hP (ci := 10) (q0 := 8) rfl rfl)) rfl rfl hl.1 rfl (lv_room (Nat.le_of_ble_eq_true rfl)) dX3_write_56 ⟨Nat.le_of_ble_eq_true rfl, Nat.le_of_ble_eq_true rfl⟩) hP hD hS hA [8, 9] [0, 1, 2, 3, 4, 5, 6, 7] [0, 1, 2, 3, 4, 5, 6, 7, 8, 9] rfl rfl rfl rfl rfl (fun _ => rfl) (fun u_18 H locs hu_18 hP hD hS => ?_)
          have hu_18 : True := hu_18
          have hP : va_P E.1 CL ((BW E o sc ar) ++ ([(sb, .inr (10, [.ref sv, iv 0, iv sm, iv ((lenI Lq) + ((TX.getD 8 []).length : Int))]))] : va_W) ++ ([(sv, ia (E.2 3) 16 (cpD (TX.getD 8 []) (lenI Lq) (wR Lq sf)))] : va_W)) H := hP
          have hD : va_D A ((BW E o sc ar) ++ ([(sb, .inr (10, [.ref sv, iv 0, iv sm, iv ((lenI Lq) + ((TX.getD 8 []).length : Int))]))] : va_W) ++ ([(sv, ia (E.2 3) 16 (cpD (TX.getD 8 []) (lenI Lq) (wR Lq sf)))] : va_W)) := hD
          rw [← wR_cp, ← lenI_apT] at hP hD
          have hP : va_P E.1 CL ((BW E o sc ar) ++ ([(sb, .inr (10, [.ref sv, iv 0, iv sm, iv (lenI (32 :: Lq))]))] : va_W) ++ ([(sv, ia (E.2 3) 16 (wR (32 :: Lq) sf))] : va_W)) H := hP
          have hD : va_D A ((BW E o sc ar) ++ ([(sb, .inr (10, [.ref sv, iv 0, iv sm, iv (lenI (32 :: Lq))]))] : va_W) ++ ([(sv, ia (E.2 3) 16 (wR (32 :: Lq) sf))] : va_W)) := hD
          refine lv_aload_n hx hb dX3_write_59 rfl (lv_at hl 1 rfl) ?_
          refine lv_iload_n hx hb dX3_write_60 rfl (lv_at hl 3 rfl) ?_
          refine lv_iload_n hx hb dX3_write_61 rfl (lv_at hl 0 rfl) ?_
          refine n_csi (x := m_need g t x3) (va_runV (As := [iv t, iv x3]) (rest := [.ref sb]) ⟨hx, hb, hml, hown, hts⟩ (mt_X3_need l E o sc ar t x3 g (by omega) (by assumption) (by first | assumption | exact HN_pos hhn (t := t) (by omega) (by omega)) (by omega) (by assumption)) (cwV 2 hts (lw_V q541 q542 q543 q96 q544) rfl rfl rfl (by decide +kernel) ⟨Nat.le_of_ble_eq_true rfl, Nat.le_of_ble_eq_true rfl⟩) (PW_V (hP.sub (ws' := BW E o sc ar) [0, 1, 2, 3, 4, 5, 6, 7] rfl) hK (va_recv hK.1 hP (ci := 3) (q0 := 0) rfl rfl)) rfl rfl hl.1 rfl (lv_room (Nat.le_of_ble_eq_true rfl)) dX3_write_62 ⟨Nat.le_of_ble_eq_true rfl, Nat.le_of_ble_eq_true rfl⟩) ?_
          have b_19 := m_need_r g t x3
          refine n_csi (x := 97 + (m_need g t x3)) (va_runSN (As := [iv (m_need g t x3)]) (rest := [.ref sb]) ⟨hx, hb, hml, hown, hts⟩ (mt_X1_letterOf l E (m_need g t x3) (by omega)) ⟨(va_cnB 1 hts (lw_meth q1128) rfl rfl rfl (hK.nv q1668) (hts _ q94) (by decide +kernel) ⟨Nat.le_of_ble_eq_true rfl, Nat.le_of_ble_eq_true rfl⟩), hts _ q1127, trivial⟩ (PW_S (hP.sub (ws' := []) [] rfl) hK) rfl rfl hl.1 rfl (lv_room (Nat.le_of_ble_eq_true rfl)) dX3_write_65 ⟨Nat.le_of_ble_eq_true rfl, Nat.le_of_ble_eq_true rfl⟩) ?_
          refine n_cuxrS (x := fun u_20 => sb) (w2 := fun u_20 => (BW E o sc ar) ++ ([(sb, .inr (10, [.ref sv, iv 0, iv sm, iv ((lenI (32 :: Lq)) + 1)]))] : va_W) ++ ([(sv, ia (E.2 3) 16 (ui (wR (32 :: Lq) sf) (lenI (32 :: Lq)) (97 + (m_need g t x3))))] : va_W)) (va_runV (As := [iv (97 + (m_need g t x3))]) (rest := []) ⟨hx, hb, hml, hown, hts⟩ (mt_J3_appendC l E sb sm (lenI (32 :: Lq)) sv (wR (32 :: Lq) sf) (97 + (m_need g t x3)) (16) (by first | omega | ((try simp only [lenI]); omega)) (by first | omega | ((try simp only [lenI]); omega)) (by decide) _) (cwV 1 hts (lw_V q1669 q1670 q1671 q100 q1672) rfl rfl rfl (by decide +kernel) ⟨Nat.le_of_ble_eq_true rfl, Nat.le_of_ble_eq_true rfl⟩) (UX_V (hP.sub (ws' := ([(sb, .inr (10, [.ref sv, iv 0, iv sm, iv (lenI (32 :: Lq))]))] : va_W) ++ ([(sv, ia (E.2 3) 16 (wR (32 :: Lq) sf))] : va_W)) [8, 9] rfl) hK (hD.sub (ws' := ([(sb, .inr (10, [.ref sv, iv 0, iv sm, iv (lenI (32 :: Lq))]))] : va_W) ++ ([(sv, ia (E.2 3) 16 (wR (32 :: Lq) sf))] : va_W)) [8, 9] rfl rfl) hE hS (va_sub_free hD hS hA [8, 9] rfl) (va_recv hK.1 hP (ci := 10) (q0 := 8) rfl rfl)) rfl rfl hl.1 rfl (lv_room (Nat.le_of_ble_eq_true rfl)) dX3_write_68 ⟨Nat.le_of_ble_eq_true rfl, Nat.le_of_ble_eq_true rfl⟩) hP hD hS hA [8, 9] [0, 1, 2, 3, 4, 5, 6, 7] [0, 1, 2, 3, 4, 5, 6, 7, 8, 9] rfl rfl rfl rfl rfl (fun _ => rfl) (fun u_20 H locs hu_20 hP hD hS => ?_)
          have hu_20 : True := hu_20
          have hP : va_P E.1 CL ((BW E o sc ar) ++ ([(sb, .inr (10, [.ref sv, iv 0, iv sm, iv ((lenI (32 :: Lq)) + 1)]))] : va_W) ++ ([(sv, ia (E.2 3) 16 (ui (wR (32 :: Lq) sf) (lenI (32 :: Lq)) (97 + (m_need g t x3))))] : va_W)) H := hP
          have hD : va_D A ((BW E o sc ar) ++ ([(sb, .inr (10, [.ref sv, iv 0, iv sm, iv ((lenI (32 :: Lq)) + 1)]))] : va_W) ++ ([(sv, ia (E.2 3) 16 (ui (wR (32 :: Lq) sf) (lenI (32 :: Lq)) (97 + (m_need g t x3))))] : va_W)) := hD
          have hP : va_P E.1 CL ((BW E o sc ar) ++ ([(sb, .inr (10, [.ref sv, iv 0, iv sm, iv (lenI ((97 + (m_need g t x3)) :: (32 :: Lq)))]))] : va_W) ++ ([(sv, ia (E.2 3) 16 (wR ((97 + (m_need g t x3)) :: (32 :: Lq)) sf))] : va_W)) H := hP
          have hD : va_D A ((BW E o sc ar) ++ ([(sb, .inr (10, [.ref sv, iv 0, iv sm, iv (lenI ((97 + (m_need g t x3)) :: (32 :: Lq)))]))] : va_W) ++ ([(sv, ia (E.2 3) 16 (wR ((97 + (m_need g t x3)) :: (32 :: Lq)) sf))] : va_W)) := hD
          refine lv_pop hx hb dX3_write_71 rfl ?_
          refine lv_iinc (v := iI (x3 + 1)) (lv' := [(3, iv (x3 + 1)), (0, .ref (o 1)), (1, .ref sb), (2, iv t)]) hx hb dX3_write_72 hl (k := 0) rfl (iI_add _ _) (by decide) rfl (fun ls hl => ?_)
          refine lv_goto (tgt := 29) hx hb dX3_write_75 (by decide) ?_
          exact ihl29 (x3 + 1) ((97 + (m_need g t x3)) :: (32 :: Lq)) (by first | omega | rfl) (by first | exact m_wn_s (by omega) il29_1 (if_pos (by simp_all)) | exact m_wn_s (by omega) il29_1 (if_neg (by simp_all))) (by (simp only [lenI]); omega) (by omega) H locs hP hD hS ls (lv_sub hl [0, 1, 2, 3] rfl)
        · refine va_ldcS hx hb (own := RX3) (tx := " ?") (index := 143) (q := EX E (2 * 7)) hown (hK.ks ("ClockworkTailor$Book", 143, " ?", 7) (List.mem_of_getElem? (i := 7) rfl)) dX3_write_49 ?_
          refine lv_goto (tgt := 56) hx hb dX3_write_51 (by decide) ?_
          refine n_cuxrS (x := fun u_21 => sb) (w2 := fun u_21 => (BW E o sc ar) ++ ([(sb, .inr (10, [.ref sv, iv 0, iv sm, iv ((lenI Lq) + ((TX.getD 7 []).length : Int))]))] : va_W) ++ ([(sv, ia (E.2 3) 16 (cpD (TX.getD 7 []) (lenI Lq) (wR Lq sf)))] : va_W)) (va_runV (As := [.ref (EX E (2 * 7))]) (rest := []) ⟨hx, hb, hml, hown, hts⟩ (mt_J3_appendT l E sb sm (lenI Lq) sv (wR Lq sf) 7 (16) (by decide) (by (try simp only [lenI]); refine ⟨by omega, ?_⟩; show _ + ((TX.getD 7 []).length : Int) ≤ _; rw [show ((TX.getD 7 []).length : Int) = 2 from rfl]; omega) (by decide) _) (cwV 1 hts (lw_V q1694 q1430 q1431 q100 q1432) rfl rfl rfl (by decide +kernel) ⟨Nat.le_of_ble_eq_true rfl, Nat.le_of_ble_eq_true rfl⟩) (UX_V (hP.sub (ws' := ([(sb, .inr (10, [.ref sv, iv 0, iv sm, iv (lenI Lq)]))] : va_W) ++ ([(sv, ia (E.2 3) 16 (wR Lq sf))] : va_W)) [8, 9] rfl) hK (hD.sub (ws' := ([(sb, .inr (10, [.ref sv, iv 0, iv sm, iv (lenI Lq)]))] : va_W) ++ ([(sv, ia (E.2 3) 16 (wR Lq sf))] : va_W)) [8, 9] rfl rfl) hE hS (va_sub_free hD hS hA [8, 9] rfl) (va_recv hK.1 hP (ci := 10) (q0 := 8) rfl rfl)) rfl rfl hl.1 rfl (lv_room (Nat.le_of_ble_eq_true rfl)) dX3_write_56 ⟨Nat.le_of_ble_eq_true rfl, Nat.le_of_ble_eq_true rfl⟩) hP hD hS hA [8, 9] [0, 1, 2, 3, 4, 5, 6, 7] [0, 1, 2, 3, 4, 5, 6, 7, 8, 9] rfl rfl rfl rfl rfl (fun _ => rfl) (fun u_21 H locs hu_21 hP hD hS => ?_)
          have hu_21 : True := hu_21
          have hP : va_P E.1 CL ((BW E o sc ar) ++ ([(sb, .inr (10, [.ref sv, iv 0, iv sm, iv ((lenI Lq) + ((TX.getD 7 []).length : Int))]))] : va_W) ++ ([(sv, ia (E.2 3) 16 (cpD (TX.getD 7 []) (lenI Lq) (wR Lq sf)))] : va_W)) H := hP
          have hD : va_D A ((BW E o sc ar) ++ ([(sb, .inr (10, [.ref sv, iv 0, iv sm, iv ((lenI Lq) + ((TX.getD 7 []).length : Int))]))] : va_W) ++ ([(sv, ia (E.2 3) 16 (cpD (TX.getD 7 []) (lenI Lq) (wR Lq sf)))] : va_W)) := hD
          rw [← wR_cp, ← lenI_apT] at hP hD
          have hP : va_P E.1 CL ((BW E o sc ar) ++ ([(sb, .inr (10, [.ref sv, iv 0, iv sm, iv (lenI (63 :: (32 :: Lq)))]))] : va_W) ++ ([(sv, ia (E.2 3) 16 (wR (63 :: (32 :: Lq)) sf))] : va_W)) H := hP
          have hD : va_D A ((BW E o sc ar) ++ ([(sb, .inr (10, [.ref sv, iv 0, iv sm, iv (lenI (63 :: (32 :: Lq)))]))] : va_W) ++ ([(sv, ia (E.2 3) 16 (wR (63 :: (32 :: Lq)) sf))] : va_W)) := hD
          refine lv_aload_n hx hb dX3_write_59 rfl (lv_at hl 1 rfl) ?_
          refine lv_iload_n hx hb dX3_write_60 rfl (lv_at hl 3 rfl) ?_
          refine lv_iload_n hx hb dX3_write_61 rfl (lv_at hl 0 rfl) ?_
          refine n_csi (x := m_need g t x3) (va_runV (As := [iv t, iv x3]) (rest := [.ref sb]) ⟨hx, hb, hml, hown, hts⟩ (mt_X3_need l E o sc ar t x3 g (by omega) (by assumption) (by first | assumption | exact HN_pos hhn (t := t) (by omega) (by omega)) (by omega) (by assumption)) (cwV 2 hts (lw_V q541 q542 q543 q96 q544) rfl rfl rfl (by decide +kernel) ⟨Nat.le_of_ble_eq_true rfl, Nat.le_of_ble_eq_true rfl⟩) (PW_V (hP.sub (ws' := BW E o sc ar) [0, 1, 2, 3, 4, 5, 6, 7] rfl) hK (va_recv hK.1 hP (ci := 3) (q0 := 0) rfl rfl)) rfl rfl hl.1 rfl (lv_room (Nat.le_of_ble_eq_true rfl)) dX3_write_62 ⟨Nat.le_of_ble_eq_true rfl, Nat.le_of_ble_eq_true rfl⟩) ?_
          have b_22 := m_need_r g t x3
          refine n_csi (x := 97 + (m_need g t x3)) (va_runSN (As := [iv (m_need g t x3)]) (rest := [.ref sb]) ⟨hx, hb, hml, hown, hts⟩ (mt_X1_letterOf l E (m_need g t x3) (by omega)) ⟨(va_cnB 1 hts (lw_meth q1128) rfl rfl rfl (hK.nv q1668) (hts _ q94) (by decide +kernel) ⟨Nat.le_of_ble_eq_true rfl, Nat.le_of_ble_eq_true rfl⟩), hts _ q1127, trivial⟩ (PW_S (hP.sub (ws' := []) [] rfl) hK) rfl rfl hl.1 rfl (lv_room (Nat.le_of_ble_eq_true rfl)) dX3_write_65 ⟨Nat.le_of_ble_eq_true rfl, Nat.le_of_ble_eq_true rfl⟩) ?_
          refine n_cuxrS (x := fun u_23 => sb) (w2 := fun u_23 => (BW E o sc ar) ++ ([(sb, .inr (10, [.ref sv, iv 0, iv sm, iv ((lenI (63 :: (32 :: Lq))) + 1)]))] : va_W) ++ ([(sv, ia (E.2 3) 16 (ui (wR (63 :: (32 :: Lq)) sf) (lenI (63 :: (32 :: Lq))) (97 + (m_need g t x3))))] : va_W)) (va_runV (As := [iv (97 + (m_need g t x3))]) (rest := []) ⟨hx, hb, hml, hown, hts⟩ (mt_J3_appendC l E sb sm (lenI (63 :: (32 :: Lq))) sv (wR (63 :: (32 :: Lq)) sf) (97 + (m_need g t x3)) (16) (by first | omega | ((try simp only [lenI]); omega)) (by first | omega | ((try simp only [lenI]); omega)) (by decide) _) (cwV 1 hts (lw_V q1669 q1670 q1671 q100 q1672) rfl rfl rfl (by decide +kernel) ⟨Nat.le_of_ble_eq_true rfl, Nat.le_of_ble_eq_true rfl⟩) (UX_V (hP.sub (ws' := ([(sb, .inr (10, [.ref sv, iv 0, iv sm, iv (lenI (63 :: (32 :: Lq)))]))] : va_W) ++ ([(sv, ia (E.2 3) 16 (wR (63 :: (32 :: Lq)) sf))] : va_W)) [8, 9] rfl) hK (hD.sub (ws' := ([(sb, .inr (10, [.ref sv, iv 0, iv sm, iv (lenI (63 :: (32 :: Lq)))]))] : va_W) ++ ([(sv, ia (E.2 3) 16 (wR (63 :: (32 :: Lq)) sf))] : va_W)) [8, 9] rfl rfl) hE hS (va_sub_free hD hS hA [8, 9] rfl) (va_recv hK.1 hP (ci := 10) (q0 := 8) rfl rfl)) rfl rfl hl.1 rfl (lv_room (Nat.le_of_ble_eq_true rfl)) dX3_write_68 ⟨Nat.le_of_ble_eq_true rfl, Nat.le_of_ble_eq_true rfl⟩) hP hD hS hA [8, 9] [0, 1, 2, 3, 4, 5, 6, 7] [0, 1, 2, 3, 4, 5, 6, 7, 8, 9] rfl rfl rfl rfl rfl (fun _ => rfl) (fun u_23 H locs hu_23 hP hD hS => ?_)
          have hu_23 : True := hu_23
          have hP : va_P E.1 CL ((BW E o sc ar) ++ ([(sb, .inr (10, [.ref sv, iv 0, iv sm, iv ((lenI (63 :: (32 :: Lq))) + 1)]))] : va_W) ++ ([(sv, ia (E.2 3) 16 (ui (wR (63 :: (32 :: Lq)) sf) (lenI (63 :: (32 :: Lq))) (97 + (m_need g t x3))))] : va_W)) H := hP
          have hD : va_D A ((BW E o sc ar) ++ ([(sb, .inr (10, [.ref sv, iv 0, iv sm, iv ((lenI (63 :: (32 :: Lq))) + 1)]))] : va_W) ++ ([(sv, ia (E.2 3) 16 (ui (wR (63 :: (32 :: Lq)) sf) (lenI (63 :: (32 :: Lq))) (97 + (m_need g t x3))))] : va_W)) := hD
          have hP : va_P E.1 CL ((BW E o sc ar) ++ ([(sb, .inr (10, [.ref sv, iv 0, iv sm, iv (lenI ((97 + (m_need g t x3)) :: (63 :: (32 :: Lq))))]))] : va_W) ++ ([(sv, ia (E.2 3) 16 (wR ((97 + (m_need g t x3)) :: (63 :: (32 :: Lq))) sf))] : va_W)) H := hP
          have hD : va_D A ((BW E o sc ar) ++ ([(sb, .inr (10, [.ref sv, iv 0, iv sm, iv (lenI ((97 + (m_need g t x3)) :: (63 :: (32 :: Lq))))]))] : va_W) ++ ([(sv, ia (E.2 3) 16 (wR ((97 + (m_need g t x3)) :: (63 :: (32 :: Lq))) sf))] : va_W)) := hD
          refine lv_pop hx hb dX3_write_71 rfl ?_
          refine lv_iinc (v := iI (x3 + 1)) (lv' := [(3, iv (x3 + 1)), (0, .ref (o 1)), (1, .ref sb), (2, iv t)]) hx hb dX3_write_72 hl (k := 0) rfl (iI_add _ _) (by decide) rfl (fun ls hl => ?_)
          refine lv_goto (tgt := 29) hx hb dX3_write_75 (by decide) ?_
          exact ihl29 (x3 + 1) ((97 + (m_need g t x3)) :: (63 :: (32 :: Lq))) (by first | omega | rfl) (by first | exact m_wn_s (by omega) il29_1 (if_pos (by simp_all)) | exact m_wn_s (by omega) il29_1 (if_neg (by simp_all))) (by (simp only [lenI]); omega) (by omega) H locs hP hD hS ls (lv_sub hl [0, 1, 2, 3] rfl)
  exact l29 4 0 (dgR (m_of g t 1) ((m_of g t 0) :: ((97 + t) :: []))) (by first | omega | rfl | trivial) (by rfl) (by (simp only [lenI] at *); omega) (by omega) H locs hP hD hS ls hl
set_option maxHeartbeats 1000000 in
set_option maxRecDepth 100000 in
theorem mt_X2_writeObject (l : Launch) (E : EE) (o : Nat → Nat) (sc : Nat → Int) (ar : Nat → Int → Int) (sb : Nat) (sm : Int) (sv : Nat) (sf : Int → Int) (k : Int) (g : Int → Int) (hsr : SR g sc ar) (how : OY g) (hk : 0 ≤ k ∧ k < g 1) (h100 : g 1 ≤ 100) (sz : Nat) : Met l yX2_writeObject (ws_ yX2_writeObject cX2_writeObject 5 none) { frames := 5, cells := 0, slots := 0, locals := 108 } (va_Pc [.ref (o 0), .ref sb, iv k] (UX E ((SW E o sc ar) ++ ([(sb, .inr (10, [.ref sv, iv 0, iv sm, iv (lenI [])]))] : va_W) ++ ([(sv, ia (E.2 3) 16 (wR [] sf))] : va_W)) sz)) (UQv E ((SW E o sc ar) ++ ([(sb, .inr (10, [.ref sv, iv 0, iv sm, iv (lenI (m_wobj g k))]))] : va_W) ++ ([(sv, ia (E.2 3) 16 (wR (m_wobj g k) sf))] : va_W)) (va_A ((SW E o sc ar) ++ ([(sb, .inr (10, [.ref sv, iv 0, iv sm, iv (lenI [])]))] : va_W) ++ ([(sv, ia (E.2 3) 16 (wR [] sf))] : va_W)) sz)) 0 0 (va_A ((SW E o sc ar) ++ ([(sb, .inr (10, [.ref sv, iv 0, iv sm, iv (lenI [])]))] : va_W) ++ ([(sv, ia (E.2 3) 16 (wR [] sf))] : va_W)) sz) := by
  refine Met.ofW (cc := cX2_writeObject) (maxL := 5) (ret := none) (by decide) rfl ?_
  intro p e s m args below meth c s₁ B hml hv
  obtain ⟨rfl, hsz, hP, hK, hD0, hE⟩ := hv
  have hx := B.exec
  have hb := B.bytes
  have hr := B.returns
  have hts := atoms_spec (ws := (ws_ yX2_writeObject cX2_writeObject 5 none)) B.pre
  have hts : ∀ w ∈ lw_all, w.before _ s = true := fun w h => hts w (List.mem_cons_of_mem _ h)
  have hown : s.vm.findClass RX2 = some m.cls := findClass_of_methodNamed B.named
  have hlocks := B.notSynchronized
  subst hsz
  have hD := hD0.self (sz := s.heap.size)
  generalize hAe : va_A ((SW E o sc ar) ++ ([(sb, .inr (10, [.ref sv, iv 0, iv sm, iv (lenI [])]))] : va_W) ++ ([(sv, ia (E.2 3) 16 (wR [] sf))] : va_W)) s.heap.size = A at hD hE ⊢
  have hA : ∀ q : Nat, s.heap.size ≤ q → A q := fun q h => by rw [← hAe]; exact Or.inr h
  have hS : va_S A s.heap s.heap [] := va_S.rf
  have hl := lv_entry ([.ref (o 0), .ref sb, iv k]) (n := 5) (Nat.le_of_ble_eq_true rfl)
  rw [lg_entry_eq]
  generalize (lg_sl ([.ref (o 0), .ref sb, iv k]) ++ List.replicate (5 - (lg_sl ([.ref (o 0), .ref sb, iv k])).length) Slot.unset).toArray = ls at hl ⊢
  have hl : lv_has ls 5 [(0, .ref (o 0)), (1, .ref sb), (2, iv k)] := hl
  have hn1 := hsr.n1
  have ho1 := how.1
  have ho2 := how.2.1
  have hob := how.2.2 k (by omega) (by omega)
  have hob3 := hob.2.1
  have hL00 : lenI [] = 0 := rfl
  refine lv_aload_n hx hb dX2_writeObject_0 rfl (lv_at hl 1 rfl) ?_
  refine lv_iload_n hx hb dX2_writeObject_1 rfl (lv_at hl 2 rfl) ?_
  refine n_cuxrS (x := fun u_1 => sb) (w2 := fun u_1 => (SW E o sc ar) ++ ([(sb, .inr (10, [.ref sv, iv 0, iv sm, iv ((lenI []) + (dgn k))]))] : va_W) ++ ([(sv, ia (E.2 3) 16 (dgF k ((lenI []) + (dgn k)) (wR [] sf)))] : va_W)) (va_runV (As := [iv k]) (rest := []) ⟨hx, hb, hml, hown, hts⟩ (mt_J3_appendI l E sb sm (lenI []) sv (wR [] sf) k (16) (by first | omega | ((try simp only [lenI]); omega)) (by have h9 := dgn_r k; first | omega | ((try simp only [lenI]); omega)) (by decide) _) (cwV 1 hts (lw_V q1707 q1540 q1541 q100 q1542) rfl rfl rfl (by decide +kernel) ⟨Nat.le_of_ble_eq_true rfl, Nat.le_of_ble_eq_true rfl⟩) (UX_V (hP.sub (ws' := ([(sb, .inr (10, [.ref sv, iv 0, iv sm, iv (lenI [])]))] : va_W) ++ ([(sv, ia (E.2 3) 16 (wR [] sf))] : va_W)) [17, 18] rfl) hK (hD.sub (ws' := ([(sb, .inr (10, [.ref sv, iv 0, iv sm, iv (lenI [])]))] : va_W) ++ ([(sv, ia (E.2 3) 16 (wR [] sf))] : va_W)) [17, 18] rfl rfl) hE hS (va_sub_free hD hS hA [17, 18] rfl) (va_recv hK.1 hP (ci := 10) (q0 := 17) rfl rfl)) rfl rfl hl.1 rfl (lv_room (Nat.le_of_ble_eq_true rfl)) dX2_writeObject_2 ⟨Nat.le_of_ble_eq_true rfl, Nat.le_of_ble_eq_true rfl⟩) hP hD hS hA [17, 18] [0, 1, 2, 3, 4, 5, 6, 7, 8, 9, 10, 11, 12, 13, 14, 15, 16] [0, 1, 2, 3, 4, 5, 6, 7, 8, 9, 10, 11, 12, 13, 14, 15, 16, 17, 18] rfl rfl rfl rfl rfl (fun _ => rfl) (fun u_1 H locs hu_1 hP hD hS => ?_)
  have hu_1 : True := hu_1
  have hP : va_P E.1 CL ((SW E o sc ar) ++ ([(sb, .inr (10, [.ref sv, iv 0, iv sm, iv ((lenI []) + (dgn k))]))] : va_W) ++ ([(sv, ia (E.2 3) 16 (dgF k ((lenI []) + (dgn k)) (wR [] sf)))] : va_W)) H := hP
  have hD : va_D A ((SW E o sc ar) ++ ([(sb, .inr (10, [.ref sv, iv 0, iv sm, iv ((lenI []) + (dgn k))]))] : va_W) ++ ([(sv, ia (E.2 3) 16 (dgF k ((lenI []) + (dgn k)) (wR [] sf)))] : va_W)) := hD
  rw [dgF_w [] sf (by omega), dgn_w [] (by omega)] at hP hD
  have b_2 := dgR_len k []
  (try simp only [lenI] at b_2)
  have hP : va_P E.1 CL ((SW E o sc ar) ++ ([(sb, .inr (10, [.ref sv, iv 0, iv sm, iv (lenI (dgR k []))]))] : va_W) ++ ([(sv, ia (E.2 3) 16 (wR (dgR k []) sf))] : va_W)) H := hP
  have hD : va_D A ((SW E o sc ar) ++ ([(sb, .inr (10, [.ref sv, iv 0, iv sm, iv (lenI (dgR k []))]))] : va_W) ++ ([(sv, ia (E.2 3) 16 (wR (dgR k []) sf))] : va_W)) := hD
  refine lv_aload_n hx hb dX2_writeObject_5 rfl (lv_at hl 0 rfl) ?_
  refine va_get (D := E.1) (ci := 2) (v := .ref (o 10)) (C := RX2) (T := TX2) (N := 14) hx hb hts in_X2 hown hK.1 hP 0 rfl rfl 3 (by decide) (hts _ q195) (fun _ h9 => h9) rfl dX2_writeObject_6 ?_
  refine lv_iload_n hx hb dX2_writeObject_9 rfl (lv_at hl 2 rfl) ?_
  refine n_iald (f := ar 10) hx hb hK.1 hP 10 0 rfl rfl (by omega) (by decide) dX2_writeObject_10 ?_
  rw [hsr.kind (k := k) (by omega)]
  have b_3 := (how.2.2 k (by omega) (by omega)).1
  refine n_csi (x := 97 + (m_thing g k 0)) (va_runSN (As := [iv (m_thing g k 0)]) (rest := [.ref sb]) ⟨hx, hb, hml, hown, hts⟩ (mt_X1_letterOf l E (m_thing g k 0) (by omega)) ⟨(va_cnB 1 hts (lw_meth q1128) rfl rfl rfl (hK.nv q1171) (hts _ q94) (by decide +kernel) ⟨Nat.le_of_ble_eq_true rfl, Nat.le_of_ble_eq_true rfl⟩), hts _ q1127, trivial⟩ (PW_S (hP.sub (ws' := []) [] rfl) hK) rfl rfl hl.1 rfl (lv_room (Nat.le_of_ble_eq_true rfl)) dX2_writeObject_11 ⟨Nat.le_of_ble_eq_true rfl, Nat.le_of_ble_eq_true rfl⟩) ?_
  refine n_cuxrS (x := fun u_4 => sb) (w2 := fun u_4 => (SW E o sc ar) ++ ([(sb, .inr (10, [.ref sv, iv 0, iv sm, iv ((lenI (dgR k [])) + 1)]))] : va_W) ++ ([(sv, ia (E.2 3) 16 (ui (wR (dgR k []) sf) (lenI (dgR k [])) (97 + (m_thing g k 0))))] : va_W)) (va_runV (As := [iv (97 + (m_thing g k 0))]) (rest := []) ⟨hx, hb, hml, hown, hts⟩ (mt_J3_appendC l E sb sm (lenI (dgR k [])) sv (wR (dgR k []) sf) (97 + (m_thing g k 0)) (16) (by first | omega | ((try simp only [lenI]); omega)) (by first | omega | ((try simp only [lenI]); omega)) (by decide) _) (cwV 1 hts (lw_V q1708 q1670 q1671 q100 q1672) rfl rfl rfl (by decide +kernel) ⟨Nat.le_of_ble_eq_true rfl, Nat.le_of_ble_eq_true rfl⟩) (UX_V (hP.sub (ws' := ([(sb, .inr (10, [.ref sv, iv 0, iv sm, iv (lenI (dgR k []))]))] : va_W) ++ ([(sv, ia (E.2 3) 16 (wR (dgR k []) sf))] : va_W)) [17, 18] rfl) hK (hD.sub (ws' := ([(sb, .inr (10, [.ref sv, iv 0, iv sm, iv (lenI (dgR k []))]))] : va_W) ++ ([(sv, ia (E.2 3) 16 (wR (dgR k []) sf))] : va_W)) [17, 18] rfl rfl) hE hS (va_sub_free hD hS hA [17, 18] rfl) (va_recv hK.1 hP (ci := 10) (q0 := 17) rfl rfl)) rfl rfl hl.1 rfl (lv_room (Nat.le_of_ble_eq_true rfl)) dX2_writeObject_14 ⟨Nat.le_of_ble_eq_true rfl, Nat.le_of_ble_eq_true rfl⟩) hP hD hS hA [17, 18] [0, 1, 2, 3, 4, 5, 6, 7, 8, 9, 10, 11, 12, 13, 14, 15, 16] [0, 1, 2, 3, 4, 5, 6, 7, 8, 9, 10, 11, 12, 13, 14, 15, 16, 17, 18] rfl rfl rfl rfl rfl (fun _ => rfl) (fun u_4 H locs hu_4 hP hD hS => ?_)
  have hu_4 : True := hu_4
  have hP : va_P E.1 CL ((SW E o sc ar) ++ ([(sb, .inr (10, [.ref sv, iv 0, iv sm, iv ((lenI (dgR k [])) + 1)]))] : va_W) ++ ([(sv, ia (E.2 3) 16 (ui (wR (dgR k []) sf) (lenI (dgR k [])) (97 + (m_thing g k 0))))] : va_W)) H := hP
  have hD : va_D A ((SW E o sc ar) ++ ([(sb, .inr (10, [.ref sv, iv 0, iv sm, iv ((lenI (dgR k [])) + 1)]))] : va_W) ++ ([(sv, ia (E.2 3) 16 (ui (wR (dgR k []) sf) (lenI (dgR k [])) (97 + (m_thing g k 0))))] : va_W)) := hD
  have hP : va_P E.1 CL ((SW E o sc ar) ++ ([(sb, .inr (10, [.ref sv, iv 0, iv sm, iv (lenI ((97 + (m_thing g k 0)) :: (dgR k [])))]))] : va_W) ++ ([(sv, ia (E.2 3) 16 (wR ((97 + (m_thing g k 0)) :: (dgR k [])) sf))] : va_W)) H := hP
  have hD : va_D A ((SW E o sc ar) ++ ([(sb, .inr (10, [.ref sv, iv 0, iv sm, iv (lenI ((97 + (m_thing g k 0)) :: (dgR k [])))]))] : va_W) ++ ([(sv, ia (E.2 3) 16 (wR ((97 + (m_thing g k 0)) :: (dgR k [])) sf))] : va_W)) := hD
  refine lv_pop hx hb dX2_writeObject_17 rfl ?_
  refine lv_iconst (v := iI 0) hx hb dX2_writeObject_18 rfl ?_
  refine lv_istore_n (lv' := [(3, iv 0), (0, .ref (o 0)), (1, .ref sb), (2, iv k)]) hx hb dX2_writeObject_19 rfl hl (by decide) rfl (fun ls hl => ?_)
  have l20 : ∀ (fu : Nat) (x3 : Int) (Lq : List Int), (0 ≤ x3 ∧ x3 ≤ m_thing g k 3) → (Lq = itI (m_wf g k) x3 ((97 + m_thing g k 0) :: dgR k [])) → (lenI Lq ≤ 3 + 3 * x3) → (m_thing g k 3 - x3 < (fu : Int)) → ∀ (H : Heap) (locs : List Loc), va_P E.1 CL ((SW E o sc ar) ++ ([(sb, .inr (10, [.ref sv, iv 0, iv sm, iv (lenI Lq)]))] : va_W) ++ ([(sv, ia (E.2 3) 16 (wR Lq sf))] : va_W)) H → va_D A ((SW E o sc ar) ++ ([(sb, .inr (10, [.ref sv, iv 0, iv sm, iv (lenI Lq)]))] : va_W) ++ ([(sv, ia (E.2 3) 16 (wR Lq sf))] : va_W)) → va_S A s.heap H locs → ∀ ls : Array Slot, lv_has ls 5 [(3, iv x3), (0, .ref (o 0)), (1, .ref sb), (2, iv k)] → W p l e (headSpec (ws_ yX2_writeObject cX2_writeObject 5 none) { frames := 5, cells := 0, slots := 0, locals := 108 }).room s m ([.ref (o 0), .ref sb, iv k] : List Value).toArray below meth c H locs 0 0 (MQ below (UQv E ((SW E o sc ar) ++ ([(sb, .inr (10, [.ref sv, iv 0, iv sm, iv (lenI (m_wobj g k))]))] : va_W) ++ ([(sv, ia (E.2 3) 16 (wR (m_wobj g k) sf))] : va_W)) A) ([.ref (o 0), .ref sb, iv k] : List Value).toArray s 0 0 A) (F0 m 20 ls []) := by
    intro fu
    induction fu with
    | zero =>
      intro x3 Lq il20_0 il20_1 il20_2 hm
      exfalso; omega
    | succ fu ih =>
      intro x3 Lq il20_0 il20_1 il20_2 hm H locs hP hD hS ls hl
      have ihl20 := ih
      have hL0 := lenI_0 Lq
      refine lv_iload_n hx hb dX2_writeObject_20 rfl (lv_at hl 0 rfl) ?_
      refine lv_aload_n hx hb dX2_writeObject_21 rfl (lv_at hl 1 rfl) ?_
      refine va_get (D := E.1) (ci := 2) (v := .ref (o 13)) (C := RX2) (T := TX2) (N := 14) hx hb hts in_X2 hown hK.1 hP 0 rfl rfl 6 (by decide) (hts _ q201) (fun _ h9 => h9) rfl dX2_writeObject_22 ?_
      refine lv_iload_n hx hb dX2_writeObject_25 rfl (lv_at hl 3 rfl) ?_
      refine n_iald (f := ar 13) hx hb hK.1 hP 13 0 rfl rfl (by omega) (by decide) dX2_writeObject_26 ?_
      rw [hsr.many (k := k) (by omega)]
      have b_5 := (how.2.2 k (by omega) (by omega)).2.1
      refine n_icmp_ge (tgt := 76) hx hb dX2_writeObject_27 (by decide) (by omega) (by omega) (fun c_6 => ?_) (fun c_6 => ?_)
      · obtain rfl : x3 = m_thing g k 3 := by omega
        have heq : m_wobj g k = Lq := il20_1.symm
        have w_7 : (lenI Lq : Int) = lenI (m_wobj g k) := by rw [heq]
        rw [w_7] at hP hD
        have hP : va_P E.1 CL ((SW E o sc ar) ++ ([(sb, .inr (10, [.ref sv, iv 0, iv sm, iv (lenI (m_wobj g k))]))] : va_W) ++ ([(sv, ia (E.2 3) 16 (wR Lq sf))] : va_W)) H := hP
        have hD : va_D A ((SW E o sc ar) ++ ([(sb, .inr (10, [.ref sv, iv 0, iv sm, iv (lenI (m_wobj g k))]))] : va_W) ++ ([(sv, ia (E.2 3) 16 (wR Lq sf))] : va_W)) := hD
        have w_8 : wR Lq sf = wR (m_wobj g k) sf := by
          rw [heq]
        rw [show [(sv, ia (E.2 3) 16 (wR Lq sf))] = [(sv, ia (E.2 3) 16 (wR (m_wobj g k) sf))] from congrArg (fun z0 : Int → Int => [(sv, ia (E.2 3) 16 z0)]) w_8] at hP hD
        exact W.vret hx hb hr (fun tt_ ht_ hW_ => ⟨⟨(), rfl, trivial, by rw [ht_]; exact hP, hD⟩, hS.F ht_⟩) hS.2.2 dX2_writeObject_76
      · refine lv_aload_n hx hb dX2_writeObject_30 rfl (lv_at hl 1 rfl) ?_
        refine va_get (D := E.1) (ci := 2) (v := .ref (o 15)) (C := RX2) (T := TX2) (N := 14) hx hb hts in_X2 hown hK.1 hP 0 rfl rfl 8 (by decide) (hts _ q203) (fun _ h9 => h9) rfl dX2_writeObject_31 ?_
        refine lv_iconst (v := iI 3) hx hb dX2_writeObject_34 rfl ?_
        refine lv_iload_n hx hb dX2_writeObject_35 rfl (lv_at hl 3 rfl) ?_
        refine n_imul hx hb dX2_writeObject_36 ?_
        refine lv_iload_n hx hb dX2_writeObject_37 rfl (lv_at hl 0 rfl) ?_
        refine n_iadd hx hb dX2_writeObject_38 ?_
        refine n_iald (f := ar 15) hx hb hK.1 hP 15 0 rfl rfl (by omega) (by decide) dX2_writeObject_39 ?_
        rw [hsr.fil (k := k) (j := x3) (by omega) (by omega)]
        refine lv_istore (lv' := [(4, iv (m_thing g k (7 + x3) - 1)), (3, iv x3), (0, .ref (o 0)), (1, .ref sb), (2, iv k)]) hx hb dX2_writeObject_40 hl (by decide) rfl (fun ls hl => ?_)
        refine lv_iload hx hb dX2_writeObject_42 (lv_at hl 0 rfl) ?_
        refine lv_iconst (v := iI (-1)) hx hb dX2_writeObject_44 rfl ?_
        have b_9 := hob.2.2.1 x3 (by omega) (by omega) (by omega)
        refine n_icmp_ne (tgt := 58) hx hb dX2_writeObject_45 (by decide) (by omega) (by omega) (fun c_10 => ?_) (fun c_10 => ?_)
        · refine lv_aload_n hx hb dX2_writeObject_58 rfl (lv_at hl 3 rfl) ?_
          refine lv_bipush (v := iI 32) hx hb dX2_writeObject_59 (by decide) ?_
          refine n_cuxrS (x := fun u_11 => sb) (w2 := fun u_11 => (SW E o sc ar) ++ ([(sb, .inr (10, [.ref sv, iv 0, iv sm, iv ((lenI Lq) + 1)]))] : va_W) ++ ([(sv, ia (E.2 3) 16 (ui (wR Lq sf) (lenI Lq) 32))] : va_W)) (va_runV (As := [iv 32]) (rest := []) ⟨hx, hb, hml, hown, hts⟩ (mt_J3_appendC l E sb sm (lenI Lq) sv (wR Lq sf) 32 (16) (by first | omega | ((try simp only [lenI]); omega)) (by first | omega | ((try simp only [lenI]); omega)) (by decide) _) (cwV 1 hts (lw_V q1708 q1670 q1671 q100 q1672) rfl rfl rfl (by decide +kernel) ⟨Nat.le_of_ble_eq_true rfl, Nat.le_of_ble_eq_true rfl⟩) (UX_V (hP.sub (ws' := ([(sb, .inr (10, [.ref sv, iv 0, iv sm, iv (lenI Lq)]))] : va_W) ++ ([(sv, ia (E.2 3) 16 (wR Lq sf))] : va_W)) [17, 18] rfl) hK (hD.sub (ws' := ([(sb, .inr (10, [.ref sv, iv 0, iv sm, iv (lenI Lq)]))] : va_W) ++ ([(sv, ia (E.2 3) 16 (wR Lq sf))] : va_W)) [17, 18] rfl rfl) hE hS (va_sub_free hD hS hA [17, 18] rfl) (va_recv hK.1 hP (ci := 10) (q0 := 17) rfl rfl)) rfl rfl hl.1 rfl (lv_room (Nat.le_of_ble_eq_true rfl)) dX2_writeObject_61 ⟨Nat.le_of_ble_eq_true rfl, Nat.le_of_ble_eq_true rfl⟩) hP hD hS hA [17, 18] [0, 1, 2, 3, 4, 5, 6, 7, 8, 9, 10, 11, 12, 13, 14, 15, 16] [0, 1, 2, 3, 4, 5, 6, 7, 8, 9, 10, 11, 12, 13, 14, 15, 16, 17, 18] rfl rfl rfl rfl rfl (fun _ => rfl) (fun u_11 H locs hu_11 hP hD hS => ?_)
          have hu_11 : True := hu_11
          have hP : va_P E.1 CL ((SW E o sc ar) ++ ([(sb, .inr (10, [.ref sv, iv 0, iv sm, iv ((lenI Lq) + 1)]))] : va_W) ++ ([(sv, ia (E.2 3) 16 (ui (wR Lq sf) (lenI Lq) 32))] : va_W)) H := hP
          have hD : va_D A ((SW E o sc ar) ++ ([(sb, .inr (10, [.ref sv, iv 0, iv sm, iv ((lenI Lq) + 1)]))] : va_W) ++ ([(sv, ia (E.2 3) 16 (ui (wR Lq sf) (lenI Lq) 32))] : va_W)) := hD
          have hP : va_P E.1 CL ((SW E o sc ar) ++ ([(sb, .inr (10, [.ref sv, iv 0, iv sm, iv (lenI (32 :: Lq))]))] : va_W) ++ ([(sv, ia (E.2 3) 16 (wR (32 :: Lq) sf))] : va_W)) H := hP
          have hD : va_D A ((SW E o sc ar) ++ ([(sb, .inr (10, [.ref sv, iv 0, iv sm, iv (lenI (32 :: Lq))]))] : va_W) ++ ([(sv, ia (E.2 3) 16 (wR (32 :: Lq) sf))] : va_W)) := hD
          refine lv_iload hx hb dX2_writeObject_64 (lv_at hl 0 rfl) ?_
          refine n_cuxrS (x := fun u_12 => sb) (w2 := fun u_12 => (SW E o sc ar) ++ ([(sb, .inr (10, [.ref sv, iv 0, iv sm, iv ((lenI (32 :: Lq)) + (dgn (m_thing g k (7 + x3) - 1)))]))] : va_W) ++ ([(sv, ia (E.2 3) 16 (dgF (m_thing g k (7 + x3) - 1) ((lenI (32 :: Lq)) + (dgn (m_thing g k (7 + x3) - 1))) (wR (32 :: Lq) sf)))] : va_W)) (va_runV (As := [iv (m_thing g k (7 + x3) - 1)]) (rest := []) ⟨hx, hb, hml, hown, hts⟩ (mt_J3_appendI l E sb sm (lenI (32 :: Lq)) sv (wR (32 :: Lq) sf) (m_thing g k (7 + x3) - 1) (16) (by first | omega | ((try simp only [lenI]); omega)) (by have h9 := dgn_r (m_thing g k (7 + x3) - 1); first | omega | ((try simp only [lenI]); omega)) (by decide) _) (cwV 1 hts (lw_V q1707 q1540 q1541 q100 q1542) rfl rfl rfl (by decide +kernel) ⟨Nat.le_of_ble_eq_true rfl, Nat.le_of_ble_eq_true rfl⟩) (UX_V (hP.sub (ws' := ([(sb, .inr (10, [.ref sv, iv 0, iv sm, iv (lenI (32 :: Lq))]))] : va_W) ++ ([(sv, ia (E.2 3) 16 (wR (32 :: Lq) sf))] : va_W)) [17, 18] rfl) hK (hD.sub (ws' := ([(sb, .inr (10, [.ref sv, iv 0, iv sm, iv (lenI (32 :: Lq))]))] : va_W) ++ ([(sv, ia (E.2 3) 16 (wR (32 :: Lq) sf))] : va_W)) [17, 18] rfl rfl) hE hS (va_sub_free hD hS hA [17, 18] rfl) (va_recv hK.1 hP (ci := 10) (q0 := 17) rfl rfl)) rfl rfl hl.1 rfl (lv_room (Nat.le_of_ble_eq_true rfl)) dX2_writeObject_66 ⟨Nat.le_of_ble_eq_true rfl, Nat.le_of_ble_eq_true rfl⟩) hP hD hS hA [17, 18] [0, 1, 2, 3, 4, 5, 6, 7, 8, 9, 10, 11, 12, 13, 14, 15, 16] [0, 1, 2, 3, 4, 5, 6, 7, 8, 9, 10, 11, 12, 13, 14, 15, 16, 17, 18] rfl rfl rfl rfl rfl (fun _ => rfl) (fun u_12 H locs hu_12 hP hD hS => ?_)
          have hu_12 : True := hu_12
          have hP : va_P E.1 CL ((SW E o sc ar) ++ ([(sb, .inr (10, [.ref sv, iv 0, iv sm, iv ((lenI (32 :: Lq)) + (dgn (m_thing g k (7 + x3) - 1)))]))] : va_W) ++ ([(sv, ia (E.2 3) 16 (dgF (m_thing g k (7 + x3) - 1) ((lenI (32 :: Lq)) + (dgn (m_thing g k (7 + x3) - 1))) (wR (32 :: Lq) sf)))] : va_W)) H := hP
          have hD : va_D A ((SW E o sc ar) ++ ([(sb, .inr (10, [.ref sv, iv 0, iv sm, iv ((lenI (32 :: Lq)) + (dgn (m_thing g k (7 + x3) - 1)))]))] : va_W) ++ ([(sv, ia (E.2 3) 16 (dgF (m_thing g k (7 + x3) - 1) ((lenI (32 :: Lq)) + (dgn (m_thing g k (7 + x3) - 1))) (wR (32 :: Lq) sf)))] : va_W)) := hD
          rw [dgF_w (32 :: Lq) sf (by omega), dgn_w (32 :: Lq) (by omega)] at hP hD
          have b_13 := dgR_len (m_thing g k (7 + x3) - 1) (32 :: Lq)
          (try simp only [lenI] at b_13)
          have hP : va_P E.1 CL ((SW E o sc ar) ++ ([(sb, .inr (10, [.ref sv, iv 0, iv sm, iv (lenI (dgR (m_thing g k (7 + x3) - 1) (32 :: Lq)))]))] : va_W) ++ ([(sv, ia (E.2 3) 16 (wR (dgR (m_thing g k (7 + x3) - 1) (32 :: Lq)) sf))] : va_W)) H := hP
          have hD : va_D A ((SW E o sc ar) ++ ([(sb, .inr (10, [.ref sv, iv 0, iv sm, iv (lenI (dgR (m_thing g k (7 + x3) - 1) (32 :: Lq)))]))] : va_W) ++ ([(sv, ia (E.2 3) 16 (wR (dgR (m_thing g k (7 + x3) - 1) (32 :: Lq)) sf))] : va_W)) := hD
          refine lv_pop hx hb dX2_writeObject_69 rfl ?_
          refine lv_iinc (v := iI (x3 + 1)) (lv' := [(3, iv (x3 + 1)), (4, iv (m_thing g k (7 + x3) - 1)), (0, .ref (o 0)), (1, .ref sb), (2, iv k)]) hx hb dX2_writeObject_70 hl (k := 1) rfl (iI_add _ _) (by decide) rfl (fun ls hl => ?_)
          refine lv_goto (tgt := 20) hx hb dX2_writeObject_73 (by decide) ?_
          exact ihl20 (x3 + 1) (dgR (m_thing g k (7 + x3) - 1) (32 :: Lq)) (by first | omega | rfl) (by first | exact m_wf_s (by omega) il20_1 (if_pos (by omega)) | exact m_wf_s (by omega) il20_1 (if_neg (by omega))) (by (try simp only [lenI]); (try simp only [lenI] at *); omega) (by omega) H locs hP hD hS ls (lv_sub hl [0, 2, 3, 4] rfl)
        · refine lv_aload_n hx hb dX2_writeObject_48 rfl (lv_at hl 3 rfl) ?_
          refine va_ldcS hx hb (own := RX2) (tx := " ?") (index := 237) (q := EX E (2 * 9)) hown (hK.ks ("ClockworkTailor$State", 237, " ?", 9) (List.mem_of_getElem? (i := 9) rfl)) dX2_writeObject_49 ?_
          refine n_cuxrS (x := fun u_14 => sb) (w2 := fun u_14 => (SW E o sc ar) ++ ([(sb, .inr (10, [.ref sv, iv 0, iv sm, iv ((lenI Lq) + ((TX.getD 9 []).length : Int))]))] : va_W) ++ ([(sv, ia (E.2 3) 16 (cpD (TX.getD 9 []) (lenI Lq) (wR Lq sf)))] : va_W)) (va_runV (As := [.ref (EX E (2 * 9))]) (rest := []) ⟨hx, hb, hml, hown, hts⟩ (mt_J3_appendT l E sb sm (lenI Lq) sv (wR Lq sf) 9 (16) (by decide) (by (try simp only [lenI]); refine ⟨by omega, ?_⟩; show _ + ((TX.getD 9 []).length : Int) ≤ _; rw [show ((TX.getD 9 []).length : Int) = 2 from rfl]; omega) (by decide) _) (cwV 1 hts (lw_V q1710 q1430 q1431 q100 q1432) rfl rfl rfl (by decide +kernel) ⟨Nat.le_of_ble_eq_true rfl, Nat.le_of_ble_eq_true rfl⟩) (UX_V (hP.sub (ws' := ([(sb, .inr (10, [.ref sv, iv 0, iv sm, iv (lenI Lq)]))] : va_W) ++ ([(sv, ia (E.2 3) 16 (wR Lq sf))] : va_W)) [17, 18] rfl) hK (hD.sub (ws' := ([(sb, .inr (10, [.ref sv, iv 0, iv sm, iv (lenI Lq)]))] : va_W) ++ ([(sv, ia (E.2 3) 16 (wR Lq sf))] : va_W)) [17, 18] rfl rfl) hE hS (va_sub_free hD hS hA [17, 18] rfl) (va_recv hK.1 hP (ci := 10) (q0 := 17) rfl rfl)) rfl rfl hl.1 rfl (lv_room (Nat.le_of_ble_eq_true rfl)) dX2_writeObject_51 ⟨Nat.le_of_ble_eq_true rfl, Nat.le_of_ble_eq_true rfl⟩) hP hD hS hA [17, 18] [0, 1, 2, 3, 4, 5, 6, 7, 8, 9, 10, 11, 12, 13, 14, 15, 16] [0, 1, 2, 3, 4, 5, 6, 7, 8, 9, 10, 11, 12, 13, 14, 15, 16, 17, 18] rfl rfl rfl rfl rfl (fun _ => rfl) (fun u_14 H locs hu_14 hP hD hS => ?_)
          have hu_14 : True := hu_14
          have hP : va_P E.1 CL ((SW E o sc ar) ++ ([(sb, .inr (10, [.ref sv, iv 0, iv sm, iv ((lenI Lq) + ((TX.getD 9 []).length : Int))]))] : va_W) ++ ([(sv, ia (E.2 3) 16 (cpD (TX.getD 9 []) (lenI Lq) (wR Lq sf)))] : va_W)) H := hP
          have hD : va_D A ((SW E o sc ar) ++ ([(sb, .inr (10, [.ref sv, iv 0, iv sm, iv ((lenI Lq) + ((TX.getD 9 []).length : Int))]))] : va_W) ++ ([(sv, ia (E.2 3) 16 (cpD (TX.getD 9 []) (lenI Lq) (wR Lq sf)))] : va_W)) := hD
          rw [← wR_cp, ← lenI_apT] at hP hD
          have hP : va_P E.1 CL ((SW E o sc ar) ++ ([(sb, .inr (10, [.ref sv, iv 0, iv sm, iv (lenI (63 :: (32 :: Lq)))]))] : va_W) ++ ([(sv, ia (E.2 3) 16 (wR (63 :: (32 :: Lq)) sf))] : va_W)) H := hP
          have hD : va_D A ((SW E o sc ar) ++ ([(sb, .inr (10, [.ref sv, iv 0, iv sm, iv (lenI (63 :: (32 :: Lq)))]))] : va_W) ++ ([(sv, ia (E.2 3) 16 (wR (63 :: (32 :: Lq)) sf))] : va_W)) := hD
          refine lv_pop hx hb dX2_writeObject_54 rfl ?_
          refine lv_goto (tgt := 70) hx hb dX2_writeObject_55 (by decide) ?_
          refine lv_iinc (v := iI (x3 + 1)) (lv' := [(3, iv (x3 + 1)), (4, iv (m_thing g k (7 + x3) - 1)), (0, .ref (o 0)), (1, .ref sb), (2, iv k)]) hx hb dX2_writeObject_70 hl (k := 1) rfl (iI_add _ _) (by decide) rfl (fun ls hl => ?_)
          refine lv_goto (tgt := 20) hx hb dX2_writeObject_73 (by decide) ?_
          exact ihl20 (x3 + 1) (63 :: (32 :: Lq)) (by first | omega | rfl) (by first | exact m_wf_s (by omega) il20_1 (if_pos (by omega)) | exact m_wf_s (by omega) il20_1 (if_neg (by omega))) (by (try simp only [lenI]); (try simp only [lenI] at *); omega) (by omega) H locs hP hD hS ls (lv_sub hl [0, 2, 3, 4] rfl)
  exact l20 4 0 ((97 + (m_thing g k 0)) :: (dgR k [])) (by first | omega | rfl | trivial) (by rfl) (by (simp only [lenI] at *); omega) (by omega) H locs hP hD hS ls hl
set_option maxHeartbeats 1000000 in
set_option maxRecDepth 100000 in
theorem mt_X1_lineAt (l : Launch) (E : EE) (cw : Nat) (stA : Nat) (oaA : Nat) (osA : Nat) (hsn : Int) (hdA : Nat) (spA : Nat) (bfA : Nat) (prA : Nat) (ep : Int) (lt : Option Nat) (ln : Nat) (lm : Int) (lk : Int) (lv : Nat) (lf : Int → Int) (k : Int) (hst : l.stackTraces = false) (hk : -2147483648 ≤ k ∧ k < 2147483648) (hlk : 0 ≤ lk ∧ lk ≤ 16) (hb7 : B7 lf) (sz : Nat) : vx_Met l yX1_lineAt (ws_ yX1_lineAt cX1_lineAt 2 (some .char)) { frames := 7, cells := 1, slots := 6, locals := 112 } (va_Pc [.ref cw, iv k] (UX E (([(cw, .inr (1, [.ref stA, .ref oaA, .ref osA, iv hsn, .ref hdA, .ref spA, .ref bfA, .ref ln, .ref prA, iv ep, va_rf lt]))] : va_W) ++ ([(ln, .inr (10, [.ref lv, iv 0, iv lm, iv lk]))] : va_W) ++ ([(lv, ia (E.2 3) 16 lf)] : va_W)) sz)) (UQx E (fun u : Unit => c_line lk k = 0) (fun u : Unit => lf k) (fun u : Unit => ([(cw, .inr (1, [.ref stA, .ref oaA, .ref osA, iv hsn, .ref hdA, .ref spA, .ref bfA, .ref ln, .ref prA, iv ep, va_rf lt]))] : va_W) ++ ([(ln, .inr (10, [.ref lv, iv 0, iv lm, iv lk]))] : va_W) ++ ([(lv, ia (E.2 3) 16 lf)] : va_W)) (va_A (([(cw, .inr (1, [.ref stA, .ref oaA, .ref osA, iv hsn, .ref hdA, .ref spA, .ref bfA, .ref ln, .ref prA, iv ep, va_rf lt]))] : va_W) ++ ([(ln, .inr (10, [.ref lv, iv 0, iv lm, iv lk]))] : va_W) ++ ([(lv, ia (E.2 3) 16 lf)] : va_W)) sz)) (UXx E (fun (En : String) (u : Unit) => 0 < c_line lk k ∧ En = nmX "java/lang/IndexOutOfBoundsException" "" "" (c_line lk k)) (fun u : Unit => ([(cw, .inr (1, [.ref stA, .ref oaA, .ref osA, iv hsn, .ref hdA, .ref spA, .ref bfA, .ref ln, .ref prA, iv ep, va_rf lt]))] : va_W) ++ ([(ln, .inr (10, [.ref lv, iv 0, iv lm, iv lk]))] : va_W) ++ ([(lv, ia (E.2 3) 16 lf)] : va_W)) (fun u : Unit => none) (va_A (([(cw, .inr (1, [.ref stA, .ref oaA, .ref osA, iv hsn, .ref hdA, .ref spA, .ref bfA, .ref ln, .ref prA, iv ep, va_rf lt]))] : va_W) ++ ([(ln, .inr (10, [.ref lv, iv 0, iv lm, iv lk]))] : va_W) ++ ([(lv, ia (E.2 3) 16 lf)] : va_W)) sz)) 1 6 (va_A (([(cw, .inr (1, [.ref stA, .ref oaA, .ref osA, iv hsn, .ref hdA, .ref spA, .ref bfA, .ref ln, .ref prA, iv ep, va_rf lt]))] : va_W) ++ ([(ln, .inr (10, [.ref lv, iv 0, iv lm, iv lk]))] : va_W) ++ ([(lv, ia (E.2 3) 16 lf)] : va_W)) sz) := by
  refine vx_ofW (cc := cX1_lineAt) (maxL := 2) (ret := (some .char)) (by decide) rfl ?_
  intro p e s m args below meth c s₁ B hml htb hv
  obtain ⟨rfl, hsz, hP, hK, hD0, hE⟩ := hv
  have hx := B.exec
  have hb := B.bytes
  have hr := B.returns
  have hts := atoms_spec (ws := (ws_ yX1_lineAt cX1_lineAt 2 (some .char))) B.pre
  have hts : ∀ w ∈ lw_all, w.before _ s = true := fun w h => hts w (List.mem_cons_of_mem _ h)
  have hown : s.vm.findClass RX1 = some m.cls := findClass_of_methodNamed B.named
  have hlocks := B.notSynchronized
  subst hsz
  have hD := hD0.self (sz := s.heap.size)
  generalize hAe : va_A (([(cw, .inr (1, [.ref stA, .ref oaA, .ref osA, iv hsn, .ref hdA, .ref spA, .ref bfA, .ref ln, .ref prA, iv ep, va_rf lt]))] : va_W) ++ ([(ln, .inr (10, [.ref lv, iv 0, iv lm, iv lk]))] : va_W) ++ ([(lv, ia (E.2 3) 16 lf)] : va_W)) s.heap.size = A at hD hE ⊢
  have hA : ∀ q : Nat, s.heap.size ≤ q → A q := fun q h => by rw [← hAe]; exact Or.inr h
  have hS : va_S A s.heap s.heap [] := va_S.rf
  have hl := lv_entry ([.ref cw, iv k]) (n := 2) (Nat.le_of_ble_eq_true rfl)
  rw [lg_entry_eq]
  generalize (lg_sl ([.ref cw, iv k]) ++ List.replicate (2 - (lg_sl ([.ref cw, iv k])).length) Slot.unset).toArray = ls at hl ⊢
  have hl : lv_has ls 2 [(0, .ref cw), (1, iv k)] := hl
  refine lv_iload_n hx hb dX1_lineAt_0 rfl (lv_at hl 1 rfl) ?_
  refine lv_iconst (v := iI 0) hx hb dX1_lineAt_1 rfl ?_
  refine lv_aload_n hx hb dX1_lineAt_2 rfl (lv_at hl 0 rfl) ?_
  refine va_get (D := E.1) (ci := 1) (v := .ref ln) (C := RX1) (T := TX1) (N := 11) hx hb hts in_X1 hown hK.1 hP 0 rfl rfl 7 (by decide) (hts _ q479) (fun _ h9 => h9) rfl dX1_lineAt_3 ?_
  refine n_csi (x := lk) (va_runV (As := []) (rest := [iv 0, iv k]) ⟨hx, hb, hml, hown, hts⟩ (mt_J3_length l E ln lv lm lk ) (cwV 0 hts (lw_V q1695 q1585 q2544 q100 q1586) rfl rfl rfl (by decide +kernel) ⟨Nat.le_of_ble_eq_true rfl, Nat.le_of_ble_eq_true rfl⟩) (PW_V (hP.sub (ws' := [(ln, .inr (10, [.ref lv, iv 0, iv lm, iv lk]))]) [1] rfl) hK (va_recv hK.1 hP (ci := 10) (q0 := 1) rfl rfl)) rfl rfl hl.1 rfl (lv_room (Nat.le_of_ble_eq_true rfl)) dX1_lineAt_6 ⟨Nat.le_of_ble_eq_true rfl, Nat.le_of_ble_eq_true rfl⟩) ?_
  refine lv_iconst (v := iI 1) hx hb dX1_lineAt_9 rfl ?_
  refine n_isub hx hb dX1_lineAt_10 ?_
  refine n_csi (x := b2 (decide (0 ≤ k ∧ k ≤ lk - 1))) (va_runS (As := [iv k, iv 0, iv (lk - 1)]) (rest := []) ⟨hx, hb, hml, hown, hts⟩ (mt_X1_inRange l E k 0 (lk - 1) (by omega) (by omega) (by omega)) (va_cwS 3 hts (lw_S q882 q883 q94 q884) rfl rfl rfl (by decide +kernel) ⟨Nat.le_of_ble_eq_true rfl, Nat.le_of_ble_eq_true rfl⟩) (PW_S (hP.sub (ws' := []) [] rfl) hK) rfl rfl hl.1 rfl (lv_room (Nat.le_of_ble_eq_true rfl)) dX1_lineAt_11 ⟨Nat.le_of_ble_eq_true rfl, Nat.le_of_ble_eq_true rfl⟩) ?_
  have hz_1 : s.heap.size ≤ s.heap.size := hS.1
  refine n_txvS (w2 := fun u_2 => ([(cw, .inr (1, [.ref stA, .ref oaA, .ref osA, iv hsn, .ref hdA, .ref spA, .ref bfA, .ref ln, .ref prA, iv ep, va_rf lt]))] : va_W) ++ ([(ln, .inr (10, [.ref lv, iv 0, iv lm, iv lk]))] : va_W) ++ ([(lv, ia (E.2 3) 16 lf)] : va_W)) (w3 := fun u_3 => ([(cw, .inr (1, [.ref stA, .ref oaA, .ref osA, iv hsn, .ref hdA, .ref spA, .ref bfA, .ref ln, .ref prA, iv ep, va_rf lt]))] : va_W) ++ ([(ln, .inr (10, [.ref lv, iv 0, iv lm, iv lk]))] : va_W) ++ ([(lv, ia (E.2 3) 16 lf)] : va_W)) (vx_runS (As := [iv (b2 (decide (0 ≤ k ∧ k ≤ lk - 1)))]) (rest := []) ⟨hx, hb, hml, hown, hts⟩ (mt_X1_checkIndex l E (decide (0 ≤ k ∧ k ≤ lk - 1)) (by exact hst) _) (va_cwS 1 hts (lw_S q1107 q1108 q94 q1109) rfl rfl rfl (by decide +kernel) ⟨Nat.le_of_ble_eq_true rfl, Nat.le_of_ble_eq_true rfl⟩) (UX_S (hP.sub (ws' := []) [] rfl) hK (hD.sub (ws' := []) [] rfl rfl) hE hS (va_sub_free hD hS hA [] rfl)) rfl rfl hl.1 rfl (lv_room (Nat.le_of_ble_eq_true rfl)) dX1_lineAt_14 ⟨Nat.le_of_ble_eq_true rfl, Nat.le_of_ble_eq_true rfl⟩) hP hD hS hA [] [0, 1, 2] [0, 1, 2] [0, 1, 2] rfl rfl rfl rfl rfl (fun _ => rfl) rfl (fun _ => rfl) ?_ ?_
  · intro En ce q9 u_3 H locs hCx hP hD hS hxf hq9 hce hcv hcl
    have hCx : En = "java/lang/IndexOutOfBoundsException" ∧ (decide (0 ≤ k ∧ k ≤ lk - 1)) = false := hCx
    have hP : va_P E.1 CL (([(cw, .inr (1, [.ref stA, .ref oaA, .ref osA, iv hsn, .ref hdA, .ref spA, .ref bfA, .ref ln, .ref prA, iv ep, va_rf lt]))] : va_W) ++ ([(ln, .inr (10, [.ref lv, iv 0, iv lm, iv lk]))] : va_W) ++ ([(lv, ia (E.2 3) 16 lf)] : va_W)) H := hP
    have hD : va_D A (([(cw, .inr (1, [.ref stA, .ref oaA, .ref osA, iv hsn, .ref hdA, .ref spA, .ref bfA, .ref ln, .ref prA, iv ep, va_rf lt]))] : va_W) ++ ([(ln, .inr (10, [.ref lv, iv 0, iv lm, iv lk]))] : va_W) ++ ([(lv, ia (E.2 3) 16 lf)] : va_W)) := hD
    exact n_out () (by exact cx_k (k := 1) (by exact c_line_1 (of_decide_eq_false hCx.2)) (by decide) hCx.1) hP hD hS hxf (Nat.le_trans hz_1 hq9) hce hcv hcl (fun x hx9 => (htb x hx9).elim) hlocks (Nat.le_of_ble_eq_true rfl) (Nat.le_of_ble_eq_true rfl)
  · intro u_2 H locs hC hP hD hS
    have hu_2 : (decide (0 ≤ k ∧ k ≤ lk - 1)) = true := hC
    have hP : va_P E.1 CL (([(cw, .inr (1, [.ref stA, .ref oaA, .ref osA, iv hsn, .ref hdA, .ref spA, .ref bfA, .ref ln, .ref prA, iv ep, va_rf lt]))] : va_W) ++ ([(ln, .inr (10, [.ref lv, iv 0, iv lm, iv lk]))] : va_W) ++ ([(lv, ia (E.2 3) 16 lf)] : va_W)) H := hP
    have hD : va_D A (([(cw, .inr (1, [.ref stA, .ref oaA, .ref osA, iv hsn, .ref hdA, .ref spA, .ref bfA, .ref ln, .ref prA, iv ep, va_rf lt]))] : va_W) ++ ([(ln, .inr (10, [.ref lv, iv 0, iv lm, iv lk]))] : va_W) ++ ([(lv, ia (E.2 3) 16 lf)] : va_W)) := hD
    have hin := of_decide_eq_true hu_2
    have hcb := hb7 k
    refine lv_aload_n hx hb dX1_lineAt_17 rfl (lv_at hl 0 rfl) ?_
    refine va_get (D := E.1) (ci := 1) (v := .ref ln) (C := RX1) (T := TX1) (N := 11) hx hb hts in_X1 hown hK.1 hP 0 rfl rfl 7 (by decide) (hts _ q479) (fun _ h9 => h9) rfl dX1_lineAt_18 ?_
    refine lv_iload_n hx hb dX1_lineAt_21 rfl (lv_at hl 1 rfl) ?_
    refine n_csi (x := lf k) (va_runV (As := [iv k]) (rest := []) ⟨hx, hb, hml, hown, hts⟩ (mt_J3_charAt l E ln lm lk lv lf k (16) (by omega) (by decide) (by exact hb7 _)) (cwV 1 hts (lw_V q1718 q1719 q1720 q100 q1721) rfl rfl rfl (by decide +kernel) ⟨Nat.le_of_ble_eq_true rfl, Nat.le_of_ble_eq_true rfl⟩) (PX_V (hP.sub (ws' := ([(ln, .inr (10, [.ref lv, iv 0, iv lm, iv lk]))] : va_W) ++ ([(lv, ia (E.2 3) 16 lf)] : va_W)) [1, 2] rfl) hK hE hS (va_recv hK.1 hP (ci := 10) (q0 := 1) rfl rfl)) rfl rfl hl.1 rfl (lv_room (Nat.le_of_ble_eq_true rfl)) dX1_lineAt_22 ⟨Nat.le_of_ble_eq_true rfl, Nat.le_of_ble_eq_true rfl⟩) ?_
    refine vx_ret ?_
    refine W.widen (k := 1) (n := 6) (Nat.le_of_ble_eq_true rfl) (Nat.le_of_ble_eq_true rfl) ?_
    exact W.zret (v := iI (lf k)) hx hb hr (nr_c (by omega)) (fun tt_ ht_ hW_ => ⟨⟨iI (lf k), (), rfl, ⟨by exact c_line_0 hin, rfl⟩, by rw [ht_]; exact hP, hD⟩, hS.F ht_⟩) hS.2.2 dX1_lineAt_25
set_option maxHeartbeats 1000000 in
set_option maxRecDepth 100000 in
theorem mt_X1_writeRecipe (l : Launch) (E : EE) (cw : Nat) (oaA : Nat) (osA : Nat) (hsn : Int) (hdA : Nat) (spA : Nat) (bfA : Nat) (prA : Nat) (ep : Int) (lt : Option Nat) (o : Nat → Nat) (sc : Nat → Int) (ar : Nat → Int → Int) (ln : Nat) (lm : Int) (lk : Int) (lv : Nat) (lf : Int → Int) (t : Int) (g : Int → Int) (hst : l.stackTraces = false) (hsr : SR g sc ar) (ht : 0 ≤ t ∧ t < 65536) (hlk : 0 ≤ lk ∧ lk ≤ 16) (hhn : HN g) (htw : TW g) (hsw : SwOK g) (htm : TM g) (hsc : SC g) (sz : Nat) : vx_Met l yX1_writeRecipe (ws_ yX1_writeRecipe cX1_writeRecipe 3 (some .int)) { frames := 9, cells := 2, slots := 12, locals := 155 } (va_Pc [.ref cw, iv t] (UX E (([(cw, .inr (1, [.ref (o 0), .ref oaA, .ref osA, iv hsn, .ref hdA, .ref spA, .ref bfA, .ref ln, .ref prA, iv ep, va_rf lt]))] : va_W) ++ (SW E o sc ar) ++ ([(ln, .inr (10, [.ref lv, iv 0, iv lm, iv lk]))] : va_W) ++ ([(lv, ia (E.2 3) 16 lf)] : va_W)) sz)) (UQx E (fun u : Unit => c_none g t = 0) (fun u : Unit => lenI (m_wrec g t)) (fun u : Unit => ([(cw, .inr (1, [.ref (o 0), .ref oaA, .ref osA, iv hsn, .ref hdA, .ref spA, .ref bfA, .ref ln, .ref prA, iv ep, va_rf lt]))] : va_W) ++ (SW E o sc ar) ++ ([(ln, .inr (10, [.ref lv, iv 0, iv (if 0 < lk then 1 else lm), iv (lenI (m_wrec g t))]))] : va_W) ++ ([(lv, ia (E.2 3) 16 (wR (m_wrec g t) lf))] : va_W)) (va_A (([(cw, .inr (1, [.ref (o 0), .ref oaA, .ref osA, iv hsn, .ref hdA, .ref spA, .ref bfA, .ref ln, .ref prA, iv ep, va_rf lt]))] : va_W) ++ (SW E o sc ar) ++ ([(ln, .inr (10, [.ref lv, iv 0, iv lm, iv lk]))] : va_W) ++ ([(lv, ia (E.2 3) 16 lf)] : va_W)) sz)) (UXx E (fun (En : String) (u : Unit) => 0 < c_none g t ∧ En = nmX "java/lang/IllegalArgumentException" "java/util/NoSuchElementException" "java/lang/IndexOutOfBoundsException" (c_none g t)) (fun u : Unit => ([(cw, .inr (1, [.ref (o 0), .ref oaA, .ref osA, iv hsn, .ref hdA, .ref spA, .ref bfA, .ref ln, .ref prA, iv ep, va_rf lt]))] : va_W) ++ (SW E o sc ar) ++ ([(ln, .inr (10, [.ref lv, iv 0, iv lm, iv lk]))] : va_W) ++ ([(lv, ia (E.2 3) 16 lf)] : va_W)) (fun u : Unit => none) (va_A (([(cw, .inr (1, [.ref (o 0), .ref oaA, .ref osA, iv hsn, .ref hdA, .ref spA, .ref bfA, .ref ln, .ref prA, iv ep, va_rf lt]))] : va_W) ++ (SW E o sc ar) ++ ([(ln, .inr (10, [.ref lv, iv 0, iv lm, iv lk]))] : va_W) ++ ([(lv, ia (E.2 3) 16 lf)] : va_W)) sz)) 2 12 (va_A (([(cw, .inr (1, [.ref (o 0), .ref oaA, .ref osA, iv hsn, .ref hdA, .ref spA, .ref bfA, .ref ln, .ref prA, iv ep, va_rf lt]))] : va_W) ++ (SW E o sc ar) ++ ([(ln, .inr (10, [.ref lv, iv 0, iv lm, iv lk]))] : va_W) ++ ([(lv, ia (E.2 3) 16 lf)] : va_W)) sz) := by
  refine vx_ofW (cc := cX1_writeRecipe) (maxL := 3) (ret := (some .int)) (by decide) rfl ?_
  intro p e s m args below meth c s₁ B hml htb hv
  obtain ⟨rfl, hsz, hP, hK, hD0, hE⟩ := hv
  have hx := B.exec
  have hb := B.bytes
  have hr := B.returns
  have hts := atoms_spec (ws := (ws_ yX1_writeRecipe cX1_writeRecipe 3 (some .int))) B.pre
  have hts : ∀ w ∈ lw_all, w.before _ s = true := fun w h => hts w (List.mem_cons_of_mem _ h)
  have hown : s.vm.findClass RX1 = some m.cls := findClass_of_methodNamed B.named
  have hlocks := B.notSynchronized
  subst hsz
  have hD := hD0.self (sz := s.heap.size)
  generalize hAe : va_A (([(cw, .inr (1, [.ref (o 0), .ref oaA, .ref osA, iv hsn, .ref hdA, .ref spA, .ref bfA, .ref ln, .ref prA, iv ep, va_rf lt]))] : va_W) ++ (SW E o sc ar) ++ ([(ln, .inr (10, [.ref lv, iv 0, iv lm, iv lk]))] : va_W) ++ ([(lv, ia (E.2 3) 16 lf)] : va_W)) s.heap.size = A at hD hE ⊢
  have hA : ∀ q : Nat, s.heap.size ≤ q → A q := fun q h => by rw [← hAe]; exact Or.inr h
  have hS : va_S A s.heap s.heap [] := va_S.rf
  have hl := lv_entry ([.ref cw, iv t]) (n := 3) (Nat.le_of_ble_eq_true rfl)
  rw [lg_entry_eq]
  generalize (lg_sl ([.ref cw, iv t]) ++ List.replicate (3 - (lg_sl ([.ref cw, iv t])).length) Slot.unset).toArray = ls at hl ⊢
  have hl : lv_has ls 3 [(0, .ref cw), (1, iv t)] := hl
  refine lv_aload_n hx hb dX1_writeRecipe_0 rfl (lv_at hl 0 rfl) ?_
  refine lv_iload_n hx hb dX1_writeRecipe_1 rfl (lv_at hl 1 rfl) ?_
  have hz_1 : s.heap.size ≤ s.heap.size := hS.1
  refine n_txS (x := fun u_2 => t - 97) (w2 := fun u_2 => ([(cw, .inr (1, [.ref (o 0), .ref oaA, .ref osA, iv hsn, .ref hdA, .ref spA, .ref bfA, .ref ln, .ref prA, iv ep, va_rf lt]))] : va_W) ++ (SW E o sc ar) ++ ([(ln, .inr (10, [.ref lv, iv 0, iv lm, iv lk]))] : va_W) ++ ([(lv, ia (E.2 3) 16 lf)] : va_W)) (w3 := fun u_3 => ([(cw, .inr (1, [.ref (o 0), .ref oaA, .ref osA, iv hsn, .ref hdA, .ref spA, .ref bfA, .ref ln, .ref prA, iv ep, va_rf lt]))] : va_W) ++ (SW E o sc ar) ++ ([(ln, .inr (10, [.ref lv, iv 0, iv lm, iv lk]))] : va_W) ++ ([(lv, ia (E.2 3) 16 lf)] : va_W)) (vx_runV (As := [iv t]) (rest := []) ⟨hx, hb, hml, hown, hts⟩ (mt_X1_withRecipe l E cw oaA osA hsn hdA spA bfA ln prA ep lt o sc ar t g (by exact hst) (by assumption) (by omega) _) (cwV 1 hts (lw_V q1060 q1062 qs19 q94 q1063) rfl rfl rfl (by decide +kernel) ⟨Nat.le_of_ble_eq_true rfl, Nat.le_of_ble_eq_true rfl⟩) (UX_V (hP.sub (ws' := ([(cw, .inr (1, [.ref (o 0), .ref oaA, .ref osA, iv hsn, .ref hdA, .ref spA, .ref bfA, .ref ln, .ref prA, iv ep, va_rf lt]))] : va_W) ++ (SW E o sc ar)) [0, 1, 2, 3, 4, 5, 6, 7, 8, 9, 10, 11, 12, 13, 14, 15, 16, 17] rfl) hK (hD.sub (ws' := ([(cw, .inr (1, [.ref (o 0), .ref oaA, .ref osA, iv hsn, .ref hdA, .ref spA, .ref bfA, .ref ln, .ref prA, iv ep, va_rf lt]))] : va_W) ++ (SW E o sc ar)) [0, 1, 2, 3, 4, 5, 6, 7, 8, 9, 10, 11, 12, 13, 14, 15, 16, 17] rfl rfl) hE hS (va_sub_free hD hS hA [0, 1, 2, 3, 4, 5, 6, 7, 8, 9, 10, 11, 12, 13, 14, 15, 16, 17] rfl) (va_recv hK.1 hP (ci := 1) (q0 := 0) rfl rfl)) rfl rfl hl.1 rfl (lv_room (Nat.le_of_ble_eq_true rfl)) dX1_writeRecipe_2 ⟨Nat.le_of_ble_eq_true rfl, Nat.le_of_ble_eq_true rfl⟩) hP hD hS hA [0, 1, 2, 3, 4, 5, 6, 7, 8, 9, 10, 11, 12, 13, 14, 15, 16, 17] [18, 19] [2, 3, 4, 5, 6, 7, 8, 9, 10, 11, 12, 13, 14, 15, 16, 17, 18, 19, 0, 1] [2, 3, 4, 5, 6, 7, 8, 9, 10, 11, 12, 13, 14, 15, 16, 17, 18, 19, 0, 1] rfl rfl rfl rfl rfl (fun _ => rfl) rfl (fun _ => rfl) ?_ ?_
  · intro En ce q9 u_3 H locs hCx hP hD hS hxf hq9 hce hcv hcl
    have hCx : 0 < c_none g t ∧ En = nmX "java/lang/IllegalArgumentException" "java/util/NoSuchElementException" "java/lang/IndexOutOfBoundsException" (c_none g t) := hCx
    have hP : va_P E.1 CL (([(cw, .inr (1, [.ref (o 0), .ref oaA, .ref osA, iv hsn, .ref hdA, .ref spA, .ref bfA, .ref ln, .ref prA, iv ep, va_rf lt]))] : va_W) ++ (SW E o sc ar) ++ ([(ln, .inr (10, [.ref lv, iv 0, iv lm, iv lk]))] : va_W) ++ ([(lv, ia (E.2 3) 16 lf)] : va_W)) H := hP
    have hD : va_D A (([(cw, .inr (1, [.ref (o 0), .ref oaA, .ref osA, iv hsn, .ref hdA, .ref spA, .ref bfA, .ref ln, .ref prA, iv ep, va_rf lt]))] : va_W) ++ (SW E o sc ar) ++ ([(ln, .inr (10, [.ref lv, iv 0, iv lm, iv lk]))] : va_W) ++ ([(lv, ia (E.2 3) 16 lf)] : va_W)) := hD
    exact n_out () (by exact hCx) hP hD hS hxf (Nat.le_trans hz_1 hq9) hce hcv hcl (fun x hx9 => (htb x hx9).elim) hlocks (Nat.le_of_ble_eq_true rfl) (Nat.le_of_ble_eq_true rfl)
  · intro u_2 H locs hC hP hD hS
    have hu_2 : c_none g t = 0 := hC
    have hP : va_P E.1 CL (([(cw, .inr (1, [.ref (o 0), .ref oaA, .ref osA, iv hsn, .ref hdA, .ref spA, .ref bfA, .ref ln, .ref prA, iv ep, va_rf lt]))] : va_W) ++ (SW E o sc ar) ++ ([(ln, .inr (10, [.ref lv, iv 0, iv lm, iv lk]))] : va_W) ++ ([(lv, ia (E.2 3) 16 lf)] : va_W)) H := hP
    have hD : va_D A (([(cw, .inr (1, [.ref (o 0), .ref oaA, .ref osA, iv hsn, .ref hdA, .ref spA, .ref bfA, .ref ln, .ref prA, iv ep, va_rf lt]))] : va_W) ++ (SW E o sc ar) ++ ([(ln, .inr (10, [.ref lv, iv 0, iv lm, iv lk]))] : va_W) ++ ([(lv, ia (E.2 3) 16 lf)] : va_W)) := hD
    have hz0 := hu_2
    obtain ⟨hti, hha⟩ := c_none_ok (g := g) (t := t) (by omega)
    have hbr := hsr.br
    have hte : 97 + (t - 97) = t := by omega
    refine lv_istore_n (lv' := [(2, iv (t - 97)), (0, .ref cw), (1, iv t)]) hx hb dX1_writeRecipe_5 rfl hl (by decide) rfl (fun ls hl => ?_)
    refine lv_aload_n hx hb dX1_writeRecipe_6 rfl (lv_at hl 1 rfl) ?_
    refine va_get (D := E.1) (ci := 1) (v := .ref ln) (C := RX1) (T := TX1) (N := 11) hx hb hts in_X1 hown hK.1 hP 0 rfl rfl 7 (by decide) (hts _ q479) (fun _ h9 => h9) rfl dX1_writeRecipe_7 ?_
    refine lv_iconst (v := iI 0) hx hb dX1_writeRecipe_10 rfl ?_
    refine n_cuvS (w2 := ([(cw, .inr (1, [.ref (o 0), .ref oaA, .ref osA, iv hsn, .ref hdA, .ref spA, .ref bfA, .ref ln, .ref prA, iv ep, va_rf lt]))] : va_W) ++ (SW E o sc ar) ++ ([(ln, .inr (10, [.ref lv, iv 0, iv (if 0 < lk then 1 else lm), iv 0]))] : va_W) ++ ([(lv, ia (E.2 3) 16 lf)] : va_W)) (va_runV (As := [iv 0]) (rest := []) ⟨hx, hb, hml, hown, hts⟩ (mt_J3_setLength l E ln lm lk lv lf  (16) (by omega) (by decide) _) (cwV 1 hts (lw_V q1414 q1415 q1416 q100 q1417) rfl rfl rfl (by decide +kernel) ⟨Nat.le_of_ble_eq_true rfl, Nat.le_of_ble_eq_true rfl⟩) (UW_V (hP.sub (ws' := ([(ln, .inr (10, [.ref lv, iv 0, iv lm, iv lk]))] : va_W) ++ ([(lv, ia (E.2 3) 16 lf)] : va_W)) [18, 19] rfl) hK (hD.sub (ws' := ([(ln, .inr (10, [.ref lv, iv 0, iv lm, iv lk]))] : va_W) ++ ([(lv, ia (E.2 3) 16 lf)] : va_W)) [18, 19] rfl rfl) (va_recv hK.1 hP (ci := 10) (q0 := 18) rfl rfl)) rfl rfl hl.1 rfl (lv_room (Nat.le_of_ble_eq_true rfl)) dX1_writeRecipe_11 ⟨Nat.le_of_ble_eq_true rfl, Nat.le_of_ble_eq_true rfl⟩) hP hD hS hA [18, 19] [0, 1, 2, 3, 4, 5, 6, 7, 8, 9, 10, 11, 12, 13, 14, 15, 16, 17] [0, 1, 2, 3, 4, 5, 6, 7, 8, 9, 10, 11, 12, 13, 14, 15, 16, 17, 18, 19] rfl rfl rfl rfl rfl rfl (fun H locs hP hD hS => ?_)
    have hP : va_P E.1 CL (([(cw, .inr (1, [.ref (o 0), .ref oaA, .ref osA, iv hsn, .ref hdA, .ref spA, .ref bfA, .ref ln, .ref prA, iv ep, va_rf lt]))] : va_W) ++ (SW E o sc ar) ++ ([(ln, .inr (10, [.ref lv, iv 0, iv (if 0 < lk then 1 else lm), iv 0]))] : va_W) ++ ([(lv, ia (E.2 3) 16 lf)] : va_W)) H := hP
    have hD : va_D A (([(cw, .inr (1, [.ref (o 0), .ref oaA, .ref osA, iv hsn, .ref hdA, .ref spA, .ref bfA, .ref ln, .ref prA, iv ep, va_rf lt]))] : va_W) ++ (SW E o sc ar) ++ ([(ln, .inr (10, [.ref lv, iv 0, iv (if 0 < lk then 1 else lm), iv 0]))] : va_W) ++ ([(lv, ia (E.2 3) 16 lf)] : va_W)) := hD
    refine lv_aload_n hx hb dX1_writeRecipe_14 rfl (lv_at hl 1 rfl) ?_
    refine n_csr (x := o 1) (va_runV (As := []) (rest := []) ⟨hx, hb, hml, hown, hts⟩ (mt_X1_book l E cw oaA osA hsn hdA spA bfA ln prA ep lt o sc ar ) (cwV 0 hts (lw_V q510 q512 qs3 q94 q513) rfl rfl rfl (by decide +kernel) ⟨Nat.le_of_ble_eq_true rfl, Nat.le_of_ble_eq_true rfl⟩) (PW_V (hP.sub (ws' := ([(cw, .inr (1, [.ref (o 0), .ref oaA, .ref osA, iv hsn, .ref hdA, .ref spA, .ref bfA, .ref ln, .ref prA, iv ep, va_rf lt]))] : va_W) ++ (SW E o sc ar)) [0, 1, 2, 3, 4, 5, 6, 7, 8, 9, 10, 11, 12, 13, 14, 15, 16, 17] rfl) hK (va_recv hK.1 hP (ci := 1) (q0 := 0) rfl rfl)) rfl rfl hl.1 rfl (lv_room (Nat.le_of_ble_eq_true rfl)) dX1_writeRecipe_15 ⟨Nat.le_of_ble_eq_true rfl, Nat.le_of_ble_eq_true rfl⟩) ?_
    refine lv_aload_n hx hb dX1_writeRecipe_18 rfl (lv_at hl 1 rfl) ?_
    refine va_get (D := E.1) (ci := 1) (v := .ref ln) (C := RX1) (T := TX1) (N := 11) hx hb hts in_X1 hown hK.1 hP 0 rfl rfl 7 (by decide) (hts _ q479) (fun _ h9 => h9) rfl dX1_writeRecipe_19 ?_
    refine lv_iload_n hx hb dX1_writeRecipe_22 rfl (lv_at hl 0 rfl) ?_
    refine n_cuvS (w2 := ([(cw, .inr (1, [.ref (o 0), .ref oaA, .ref osA, iv hsn, .ref hdA, .ref spA, .ref bfA, .ref ln, .ref prA, iv ep, va_rf lt]))] : va_W) ++ (SW E o sc ar) ++ ([(ln, .inr (10, [.ref lv, iv 0, iv (if 0 < lk then 1 else lm), iv (lenI (m_wrec g (97 + (t - 97))))]))] : va_W) ++ ([(lv, ia (E.2 3) 16 (wR (m_wrec g (97 + (t - 97))) lf))] : va_W)) (va_runV (As := [.ref ln, iv (t - 97)]) (rest := []) ⟨hx, hb, hml, hown, hts⟩ (mt_X3_write l E o sc ar ln (if 0 < lk then 1 else lm) lv lf (t - 97) g (by omega) (by assumption) (by first | assumption | exact HN_pos hhn (t := t - 97) (by omega) (by omega)) (by assumption) (by assumption) (by assumption) (by assumption) _) (cwV 2 hts (lw_V q1664 q1665 q1666 q96 q1667) rfl rfl rfl (by decide +kernel) ⟨Nat.le_of_ble_eq_true rfl, Nat.le_of_ble_eq_true rfl⟩) (UX_V (hP.sub (ws' := (BW E o sc ar) ++ ([(ln, .inr (10, [.ref lv, iv 0, iv (if 0 < lk then 1 else lm), iv 0]))] : va_W) ++ ([(lv, ia (E.2 3) 16 lf)] : va_W)) [2, 3, 4, 5, 6, 7, 8, 9, 18, 19] rfl) hK (hD.sub (ws' := (BW E o sc ar) ++ ([(ln, .inr (10, [.ref lv, iv 0, iv (if 0 < lk then 1 else lm), iv 0]))] : va_W) ++ ([(lv, ia (E.2 3) 16 lf)] : va_W)) [2, 3, 4, 5, 6, 7, 8, 9, 18, 19] rfl rfl) hE hS (va_sub_free hD hS hA [2, 3, 4, 5, 6, 7, 8, 9, 18, 19] rfl) (va_recv hK.1 hP (ci := 3) (q0 := 2) rfl rfl)) rfl rfl hl.1 rfl (lv_room (Nat.le_of_ble_eq_true rfl)) dX1_writeRecipe_23 ⟨Nat.le_of_ble_eq_true rfl, Nat.le_of_ble_eq_true rfl⟩) hP hD hS hA [2, 3, 4, 5, 6, 7, 8, 9, 18, 19] [0, 1, 10, 11, 12, 13, 14, 15, 16, 17] [0, 1, 10, 11, 12, 13, 14, 15, 16, 17, 2, 3, 4, 5, 6, 7, 8, 9, 18, 19] rfl rfl rfl rfl rfl rfl (fun H locs hP hD hS => ?_)
    have hP : va_P E.1 CL (([(cw, .inr (1, [.ref (o 0), .ref oaA, .ref osA, iv hsn, .ref hdA, .ref spA, .ref bfA, .ref ln, .ref prA, iv ep, va_rf lt]))] : va_W) ++ (SW E o sc ar) ++ ([(ln, .inr (10, [.ref lv, iv 0, iv (if 0 < lk then 1 else lm), iv (lenI (m_wrec g (97 + (t - 97))))]))] : va_W) ++ ([(lv, ia (E.2 3) 16 (wR (m_wrec g (97 + (t - 97))) lf))] : va_W)) H := hP
    have hD : va_D A (([(cw, .inr (1, [.ref (o 0), .ref oaA, .ref osA, iv hsn, .ref hdA, .ref spA, .ref bfA, .ref ln, .ref prA, iv ep, va_rf lt]))] : va_W) ++ (SW E o sc ar) ++ ([(ln, .inr (10, [.ref lv, iv 0, iv (if 0 < lk then 1 else lm), iv (lenI (m_wrec g (97 + (t - 97))))]))] : va_W) ++ ([(lv, ia (E.2 3) 16 (wR (m_wrec g (97 + (t - 97))) lf))] : va_W)) := hD
    rw [hte] at hP hD
    have hP : va_P E.1 CL (([(cw, .inr (1, [.ref (o 0), .ref oaA, .ref osA, iv hsn, .ref hdA, .ref spA, .ref bfA, .ref ln, .ref prA, iv ep, va_rf lt]))] : va_W) ++ (SW E o sc ar) ++ ([(ln, .inr (10, [.ref lv, iv 0, iv (if 0 < lk then 1 else lm), iv (lenI (m_wrec g t))]))] : va_W) ++ ([(lv, ia (E.2 3) 16 (wR (m_wrec g t) lf))] : va_W)) H := hP
    have hD : va_D A (([(cw, .inr (1, [.ref (o 0), .ref oaA, .ref osA, iv hsn, .ref hdA, .ref spA, .ref bfA, .ref ln, .ref prA, iv ep, va_rf lt]))] : va_W) ++ (SW E o sc ar) ++ ([(ln, .inr (10, [.ref lv, iv 0, iv (if 0 < lk then 1 else lm), iv (lenI (m_wrec g t))]))] : va_W) ++ ([(lv, ia (E.2 3) 16 (wR (m_wrec g t) lf))] : va_W)) := hD
    refine lv_aload_n hx hb dX1_writeRecipe_26 rfl (lv_at hl 1 rfl) ?_
    refine va_get (D := E.1) (ci := 1) (v := .ref ln) (C := RX1) (T := TX1) (N := 11) hx hb hts in_X1 hown hK.1 hP 0 rfl rfl 7 (by decide) (hts _ q479) (fun _ h9 => h9) rfl dX1_writeRecipe_27 ?_
    refine n_csi (x := lenI (m_wrec g t)) (va_runV (As := []) (rest := []) ⟨hx, hb, hml, hown, hts⟩ (mt_J3_length l E ln lv (if 0 < lk then 1 else lm) (lenI (m_wrec g t)) ) (cwV 0 hts (lw_V q1695 q1585 q2544 q100 q1586) rfl rfl rfl (by decide +kernel) ⟨Nat.le_of_ble_eq_true rfl, Nat.le_of_ble_eq_true rfl⟩) (PW_V (hP.sub (ws' := [(ln, .inr (10, [.ref lv, iv 0, iv (if 0 < lk then 1 else lm), iv (lenI (m_wrec g t))]))]) [18] rfl) hK (va_recv hK.1 hP (ci := 10) (q0 := 18) rfl rfl)) rfl rfl hl.1 rfl (lv_room (Nat.le_of_ble_eq_true rfl)) dX1_writeRecipe_30 ⟨Nat.le_of_ble_eq_true rfl, Nat.le_of_ble_eq_true rfl⟩) ?_
    refine vx_ret ?_
    refine W.widen (k := 2) (n := 12) (Nat.le_of_ble_eq_true rfl) (Nat.le_of_ble_eq_true rfl) ?_
    exact W.iret (v := iI (lenI (m_wrec g t))) hx hb hr (fun tt_ ht_ hW_ => ⟨⟨iI (lenI (m_wrec g t)), (), rfl, ⟨by exact hz0, rfl⟩, by rw [ht_]; exact hP, hD⟩, hS.F ht_⟩) hS.2.2 dX1_writeRecipe_33
set_option maxHeartbeats 1000000 in
set_option maxRecDepth 100000 in
theorem mt_X1_writeObject (l : Launch) (E : EE) (cw : Nat) (oaA : Nat) (osA : Nat) (hsn : Int) (hdA : Nat) (spA : Nat) (bfA : Nat) (prA : Nat) (ep : Int) (lt : Option Nat) (o : Nat → Nat) (sc : Nat → Int) (ar : Nat → Int → Int) (ln : Nat) (lm : Int) (lk : Int) (lv : Nat) (lf : Int → Int) (k : Int) (g : Int → Int) (hst : l.stackTraces = false) (hsr : SR g sc ar) (hk : -2147483648 ≤ k ∧ k < 2147483648) (hlk : 0 ≤ lk ∧ lk ≤ 16) (how : OY g) (h100 : g 1 ≤ 100) (sz : Nat) : vx_Met l yX1_writeObject (ws_ yX1_writeObject cX1_writeObject 2 (some .int)) { frames := 8, cells := 1, slots := 6, locals := 133 } (va_Pc [.ref cw, iv k] (UX E (([(cw, .inr (1, [.ref (o 0), .ref oaA, .ref osA, iv hsn, .ref hdA, .ref spA, .ref bfA, .ref ln, .ref prA, iv ep, va_rf lt]))] : va_W) ++ (SW E o sc ar) ++ ([(ln, .inr (10, [.ref lv, iv 0, iv lm, iv lk]))] : va_W) ++ ([(lv, ia (E.2 3) 16 lf)] : va_W)) sz)) (UQx E (fun u : Unit => c_obj g k = 0) (fun u : Unit => lenI (m_wobj g k)) (fun u : Unit => ([(cw, .inr (1, [.ref (o 0), .ref oaA, .ref osA, iv hsn, .ref hdA, .ref spA, .ref bfA, .ref ln, .ref prA, iv ep, va_rf lt]))] : va_W) ++ (SW E o sc ar) ++ ([(ln, .inr (10, [.ref lv, iv 0, iv (if 0 < lk then 1 else lm), iv (lenI (m_wobj g k))]))] : va_W) ++ ([(lv, ia (E.2 3) 16 (wR (m_wobj g k) lf))] : va_W)) (va_A (([(cw, .inr (1, [.ref (o 0), .ref oaA, .ref osA, iv hsn, .ref hdA, .ref spA, .ref bfA, .ref ln, .ref prA, iv ep, va_rf lt]))] : va_W) ++ (SW E o sc ar) ++ ([(ln, .inr (10, [.ref lv, iv 0, iv lm, iv lk]))] : va_W) ++ ([(lv, ia (E.2 3) 16 lf)] : va_W)) sz)) (UXx E (fun (En : String) (u : Unit) => 0 < c_obj g k ∧ En = nmX "java/lang/IndexOutOfBoundsException" "" "" (c_obj g k)) (fun u : Unit => ([(cw, .inr (1, [.ref (o 0), .ref oaA, .ref osA, iv hsn, .ref hdA, .ref spA, .ref bfA, .ref ln, .ref prA, iv ep, va_rf lt]))] : va_W) ++ (SW E o sc ar) ++ ([(ln, .inr (10, [.ref lv, iv 0, iv lm, iv lk]))] : va_W) ++ ([(lv, ia (E.2 3) 16 lf)] : va_W)) (fun u : Unit => none) (va_A (([(cw, .inr (1, [.ref (o 0), .ref oaA, .ref osA, iv hsn, .ref hdA, .ref spA, .ref bfA, .ref ln, .ref prA, iv ep, va_rf lt]))] : va_W) ++ (SW E o sc ar) ++ ([(ln, .inr (10, [.ref lv, iv 0, iv lm, iv lk]))] : va_W) ++ ([(lv, ia (E.2 3) 16 lf)] : va_W)) sz)) 1 6 (va_A (([(cw, .inr (1, [.ref (o 0), .ref oaA, .ref osA, iv hsn, .ref hdA, .ref spA, .ref bfA, .ref ln, .ref prA, iv ep, va_rf lt]))] : va_W) ++ (SW E o sc ar) ++ ([(ln, .inr (10, [.ref lv, iv 0, iv lm, iv lk]))] : va_W) ++ ([(lv, ia (E.2 3) 16 lf)] : va_W)) sz) := by
  refine vx_ofW (cc := cX1_writeObject) (maxL := 2) (ret := (some .int)) (by decide) rfl ?_
  intro p e s m args below meth c s₁ B hml htb hv
  obtain ⟨rfl, hsz, hP, hK, hD0, hE⟩ := hv
  have hx := B.exec
  have hb := B.bytes
  have hr := B.returns
  have hts := atoms_spec (ws := (ws_ yX1_writeObject cX1_writeObject 2 (some .int))) B.pre
  have hts : ∀ w ∈ lw_all, w.before _ s = true := fun w h => hts w (List.mem_cons_of_mem _ h)
  have hown : s.vm.findClass RX1 = some m.cls := findClass_of_methodNamed B.named
  have hlocks := B.notSynchronized
  subst hsz
  have hD := hD0.self (sz := s.heap.size)
  generalize hAe : va_A (([(cw, .inr (1, [.ref (o 0), .ref oaA, .ref osA, iv hsn, .ref hdA, .ref spA, .ref bfA, .ref ln, .ref prA, iv ep, va_rf lt]))] : va_W) ++ (SW E o sc ar) ++ ([(ln, .inr (10, [.ref lv, iv 0, iv lm, iv lk]))] : va_W) ++ ([(lv, ia (E.2 3) 16 lf)] : va_W)) s.heap.size = A at hD hE ⊢
  have hA : ∀ q : Nat, s.heap.size ≤ q → A q := fun q h => by rw [← hAe]; exact Or.inr h
  have hS : va_S A s.heap s.heap [] := va_S.rf
  have hl := lv_entry ([.ref cw, iv k]) (n := 2) (Nat.le_of_ble_eq_true rfl)
  rw [lg_entry_eq]
  generalize (lg_sl ([.ref cw, iv k]) ++ List.replicate (2 - (lg_sl ([.ref cw, iv k])).length) Slot.unset).toArray = ls at hl ⊢
  have hl : lv_has ls 2 [(0, .ref cw), (1, iv k)] := hl
  have hn1 := hsr.n1
  have ho1 := how.1
  have ho2 := how.2.1
  refine lv_aload_n hx hb dX1_writeObject_0 rfl (lv_at hl 0 rfl) ?_
  refine va_get (D := E.1) (ci := 1) (v := .ref (o 0)) (C := RX1) (T := TX1) (N := 11) hx hb hts in_X1 hown hK.1 hP 0 rfl rfl 0 (by decide) (hts _ q472) (fun _ h9 => h9) rfl dX1_writeObject_1 ?_
  refine lv_iload_n hx hb dX1_writeObject_4 rfl (lv_at hl 1 rfl) ?_
  have hz_1 : s.heap.size ≤ s.heap.size := hS.1
  refine n_txvS (w2 := fun u_2 => ([(cw, .inr (1, [.ref (o 0), .ref oaA, .ref osA, iv hsn, .ref hdA, .ref spA, .ref bfA, .ref ln, .ref prA, iv ep, va_rf lt]))] : va_W) ++ (SW E o sc ar) ++ ([(ln, .inr (10, [.ref lv, iv 0, iv lm, iv lk]))] : va_W) ++ ([(lv, ia (E.2 3) 16 lf)] : va_W)) (w3 := fun u_3 => ([(cw, .inr (1, [.ref (o 0), .ref oaA, .ref osA, iv hsn, .ref hdA, .ref spA, .ref bfA, .ref ln, .ref prA, iv ep, va_rf lt]))] : va_W) ++ (SW E o sc ar) ++ ([(ln, .inr (10, [.ref lv, iv 0, iv lm, iv lk]))] : va_W) ++ ([(lv, ia (E.2 3) 16 lf)] : va_W)) (vx_runV (As := [iv k]) (rest := []) ⟨hx, hb, hml, hown, hts⟩ (mt_X2_checkObject l E o sc ar k g (by exact hst) (by omega) (by assumption) (by assumption) _) (cwV 1 hts (lw_V q1322 q1290 q1291 q95 q1292) rfl rfl rfl (by decide +kernel) ⟨Nat.le_of_ble_eq_true rfl, Nat.le_of_ble_eq_true rfl⟩) (UX_V (hP.sub (ws' := SW E o sc ar) [1, 2, 3, 4, 5, 6, 7, 8, 9, 10, 11, 12, 13, 14, 15, 16, 17] rfl) hK (hD.sub (ws' := SW E o sc ar) [1, 2, 3, 4, 5, 6, 7, 8, 9, 10, 11, 12, 13, 14, 15, 16, 17] rfl rfl) hE hS (va_sub_free hD hS hA [1, 2, 3, 4, 5, 6, 7, 8, 9, 10, 11, 12, 13, 14, 15, 16, 17] rfl) (va_recv hK.1 hP (ci := 2) (q0 := 1) rfl rfl)) rfl rfl hl.1 rfl (lv_room (Nat.le_of_ble_eq_true rfl)) dX1_writeObject_5 ⟨Nat.le_of_ble_eq_true rfl, Nat.le_of_ble_eq_true rfl⟩) hP hD hS hA [1, 2, 3, 4, 5, 6, 7, 8, 9, 10, 11, 12, 13, 14, 15, 16, 17] [0, 18, 19] [0, 3, 4, 5, 6, 7, 8, 9, 10, 11, 12, 13, 14, 15, 16, 17, 18, 19, 1, 2] [0, 3, 4, 5, 6, 7, 8, 9, 10, 11, 12, 13, 14, 15, 16, 17, 18, 19, 1, 2] rfl rfl rfl rfl rfl (fun _ => rfl) rfl (fun _ => rfl) ?_ ?_
  · intro En ce q9 u_3 H locs hCx hP hD hS hxf hq9 hce hcv hcl
    have hCx : En = "java/lang/IndexOutOfBoundsException" ∧ m_isobj g k = false := hCx
    have hP : va_P E.1 CL (([(cw, .inr (1, [.ref (o 0), .ref oaA, .ref osA, iv hsn, .ref hdA, .ref spA, .ref bfA, .ref ln, .ref prA, iv ep, va_rf lt]))] : va_W) ++ (SW E o sc ar) ++ ([(ln, .inr (10, [.ref lv, iv 0, iv lm, iv lk]))] : va_W) ++ ([(lv, ia (E.2 3) 16 lf)] : va_W)) H := hP
    have hD : va_D A (([(cw, .inr (1, [.ref (o 0), .ref oaA, .ref osA, iv hsn, .ref hdA, .ref spA, .ref bfA, .ref ln, .ref prA, iv ep, va_rf lt]))] : va_W) ++ (SW E o sc ar) ++ ([(ln, .inr (10, [.ref lv, iv 0, iv lm, iv lk]))] : va_W) ++ ([(lv, ia (E.2 3) 16 lf)] : va_W)) := hD
    exact n_out () (by exact cx_k (k := 1) (by exact c_obj_1 hCx.2) (by decide) hCx.1) hP hD hS hxf (Nat.le_trans hz_1 hq9) hce hcv hcl (fun x hx9 => (htb x hx9).elim) hlocks (Nat.le_of_ble_eq_true rfl) (Nat.le_of_ble_eq_true rfl)
  · intro u_2 H locs hC hP hD hS
    have hu_2 : m_isobj g k = true := hC
    have hP : va_P E.1 CL (([(cw, .inr (1, [.ref (o 0), .ref oaA, .ref osA, iv hsn, .ref hdA, .ref spA, .ref bfA, .ref ln, .ref prA, iv ep, va_rf lt]))] : va_W) ++ (SW E o sc ar) ++ ([(ln, .inr (10, [.ref lv, iv 0, iv lm, iv lk]))] : va_W) ++ ([(lv, ia (E.2 3) 16 lf)] : va_W)) H := hP
    have hD : va_D A (([(cw, .inr (1, [.ref (o 0), .ref oaA, .ref osA, iv hsn, .ref hdA, .ref spA, .ref bfA, .ref ln, .ref prA, iv ep, va_rf lt]))] : va_W) ++ (SW E o sc ar) ++ ([(ln, .inr (10, [.ref lv, iv 0, iv lm, iv lk]))] : va_W) ++ ([(lv, ia (E.2 3) 16 lf)] : va_W)) := hD
    have hob := hu_2
    have hz := m_isobj_ok hob
    refine lv_aload_n hx hb dX1_writeObject_8 rfl (lv_at hl 0 rfl) ?_
    refine va_get (D := E.1) (ci := 1) (v := .ref ln) (C := RX1) (T := TX1) (N := 11) hx hb hts in_X1 hown hK.1 hP 0 rfl rfl 7 (by decide) (hts _ q479) (fun _ h9 => h9) rfl dX1_writeObject_9 ?_
    refine lv_iconst (v := iI 0) hx hb dX1_writeObject_12 rfl ?_
    refine n_cuvS (w2 := ([(cw, .inr (1, [.ref (o 0), .ref oaA, .ref osA, iv hsn, .ref hdA, .ref spA, .ref bfA, .ref ln, .ref prA, iv ep, va_rf lt]))] : va_W) ++ (SW E o sc ar) ++ ([(ln, .inr (10, [.ref lv, iv 0, iv (if 0 < lk then 1 else lm), iv 0]))] : va_W) ++ ([(lv, ia (E.2 3) 16 lf)] : va_W)) (va_runV (As := [iv 0]) (rest := []) ⟨hx, hb, hml, hown, hts⟩ (mt_J3_setLength l E ln lm lk lv lf  (16) (by omega) (by decide) _) (cwV 1 hts (lw_V q1414 q1415 q1416 q100 q1417) rfl rfl rfl (by decide +kernel) ⟨Nat.le_of_ble_eq_true rfl, Nat.le_of_ble_eq_true rfl⟩) (UW_V (hP.sub (ws' := ([(ln, .inr (10, [.ref lv, iv 0, iv lm, iv lk]))] : va_W) ++ ([(lv, ia (E.2 3) 16 lf)] : va_W)) [18, 19] rfl) hK (hD.sub (ws' := ([(ln, .inr (10, [.ref lv, iv 0, iv lm, iv lk]))] : va_W) ++ ([(lv, ia (E.2 3) 16 lf)] : va_W)) [18, 19] rfl rfl) (va_recv hK.1 hP (ci := 10) (q0 := 18) rfl rfl)) rfl rfl hl.1 rfl (lv_room (Nat.le_of_ble_eq_true rfl)) dX1_writeObject_13 ⟨Nat.le_of_ble_eq_true rfl, Nat.le_of_ble_eq_true rfl⟩) hP hD hS hA [18, 19] [0, 1, 2, 3, 4, 5, 6, 7, 8, 9, 10, 11, 12, 13, 14, 15, 16, 17] [0, 1, 2, 3, 4, 5, 6, 7, 8, 9, 10, 11, 12, 13, 14, 15, 16, 17, 18, 19] rfl rfl rfl rfl rfl rfl (fun H locs hP hD hS => ?_)
    have hP : va_P E.1 CL (([(cw, .inr (1, [.ref (o 0), .ref oaA, .ref osA, iv hsn, .ref hdA, .ref spA, .ref bfA, .ref ln, .ref prA, iv ep, va_rf lt]))] : va_W) ++ (SW E o sc ar) ++ ([(ln, .inr (10, [.ref lv, iv 0, iv (if 0 < lk then 1 else lm), iv 0]))] : va_W) ++ ([(lv, ia (E.2 3) 16 lf)] : va_W)) H := hP
    have hD : va_D A (([(cw, .inr (1, [.ref (o 0), .ref oaA, .ref osA, iv hsn, .ref hdA, .ref spA, .ref bfA, .ref ln, .ref prA, iv ep, va_rf lt]))] : va_W) ++ (SW E o sc ar) ++ ([(ln, .inr (10, [.ref lv, iv 0, iv (if 0 < lk then 1 else lm), iv 0]))] : va_W) ++ ([(lv, ia (E.2 3) 16 lf)] : va_W)) := hD
    refine lv_aload_n hx hb dX1_writeObject_16 rfl (lv_at hl 0 rfl) ?_
    refine va_get (D := E.1) (ci := 1) (v := .ref (o 0)) (C := RX1) (T := TX1) (N := 11) hx hb hts in_X1 hown hK.1 hP 0 rfl rfl 0 (by decide) (hts _ q472) (fun _ h9 => h9) rfl dX1_writeObject_17 ?_
    refine lv_aload_n hx hb dX1_writeObject_20 rfl (lv_at hl 0 rfl) ?_
    refine va_get (D := E.1) (ci := 1) (v := .ref ln) (C := RX1) (T := TX1) (N := 11) hx hb hts in_X1 hown hK.1 hP 0 rfl rfl 7 (by decide) (hts _ q479) (fun _ h9 => h9) rfl dX1_writeObject_21 ?_
    refine lv_iload_n hx hb dX1_writeObject_24 rfl (lv_at hl 1 rfl) ?_
    refine n_cuvS (w2 := ([(cw, .inr (1, [.ref (o 0), .ref oaA, .ref osA, iv hsn, .ref hdA, .ref spA, .ref bfA, .ref ln, .ref prA, iv ep, va_rf lt]))] : va_W) ++ (SW E o sc ar) ++ ([(ln, .inr (10, [.ref lv, iv 0, iv (if 0 < lk then 1 else lm), iv (lenI (m_wobj g k))]))] : va_W) ++ ([(lv, ia (E.2 3) 16 (wR (m_wobj g k) lf))] : va_W)) (va_runV (As := [.ref ln, iv k]) (rest := []) ⟨hx, hb, hml, hown, hts⟩ (mt_X2_writeObject l E o sc ar ln (if 0 < lk then 1 else lm) lv lf k g (by assumption) (by assumption) (by omega) (by omega) _) (cwV 2 hts (lw_V q1703 q1704 q1705 q95 q1706) rfl rfl rfl (by decide +kernel) ⟨Nat.le_of_ble_eq_true rfl, Nat.le_of_ble_eq_true rfl⟩) (UX_V (hP.sub (ws' := (SW E o sc ar) ++ ([(ln, .inr (10, [.ref lv, iv 0, iv (if 0 < lk then 1 else lm), iv 0]))] : va_W) ++ ([(lv, ia (E.2 3) 16 lf)] : va_W)) [1, 2, 3, 4, 5, 6, 7, 8, 9, 10, 11, 12, 13, 14, 15, 16, 17, 18, 19] rfl) hK (hD.sub (ws' := (SW E o sc ar) ++ ([(ln, .inr (10, [.ref lv, iv 0, iv (if 0 < lk then 1 else lm), iv 0]))] : va_W) ++ ([(lv, ia (E.2 3) 16 lf)] : va_W)) [1, 2, 3, 4, 5, 6, 7, 8, 9, 10, 11, 12, 13, 14, 15, 16, 17, 18, 19] rfl rfl) hE hS (va_sub_free hD hS hA [1, 2, 3, 4, 5, 6, 7, 8, 9, 10, 11, 12, 13, 14, 15, 16, 17, 18, 19] rfl) (va_recv hK.1 hP (ci := 2) (q0 := 1) rfl rfl)) rfl rfl hl.1 rfl (lv_room (Nat.le_of_ble_eq_true rfl)) dX1_writeObject_25 ⟨Nat.le_of_ble_eq_true rfl, Nat.le_of_ble_eq_true rfl⟩) hP hD hS hA [1, 2, 3, 4, 5, 6, 7, 8, 9, 10, 11, 12, 13, 14, 15, 16, 17, 18, 19] [0] [0, 1, 2, 3, 4, 5, 6, 7, 8, 9, 10, 11, 12, 13, 14, 15, 16, 17, 18, 19] rfl rfl rfl rfl rfl rfl (fun H locs hP hD hS => ?_)
    have hP : va_P E.1 CL (([(cw, .inr (1, [.ref (o 0), .ref oaA, .ref osA, iv hsn, .ref hdA, .ref spA, .ref bfA, .ref ln, .ref prA, iv ep, va_rf lt]))] : va_W) ++ (SW E o sc ar) ++ ([(ln, .inr (10, [.ref lv, iv 0, iv (if 0 < lk then 1 else lm), iv (lenI (m_wobj g k))]))] : va_W) ++ ([(lv, ia (E.2 3) 16 (wR (m_wobj g k) lf))] : va_W)) H := hP
    have hD : va_D A (([(cw, .inr (1, [.ref (o 0), .ref oaA, .ref osA, iv hsn, .ref hdA, .ref spA, .ref bfA, .ref ln, .ref prA, iv ep, va_rf lt]))] : va_W) ++ (SW E o sc ar) ++ ([(ln, .inr (10, [.ref lv, iv 0, iv (if 0 < lk then 1 else lm), iv (lenI (m_wobj g k))]))] : va_W) ++ ([(lv, ia (E.2 3) 16 (wR (m_wobj g k) lf))] : va_W)) := hD
    refine lv_aload_n hx hb dX1_writeObject_28 rfl (lv_at hl 0 rfl) ?_
    refine va_get (D := E.1) (ci := 1) (v := .ref ln) (C := RX1) (T := TX1) (N := 11) hx hb hts in_X1 hown hK.1 hP 0 rfl rfl 7 (by decide) (hts _ q479) (fun _ h9 => h9) rfl dX1_writeObject_29 ?_
    refine n_csi (x := lenI (m_wobj g k)) (va_runV (As := []) (rest := []) ⟨hx, hb, hml, hown, hts⟩ (mt_J3_length l E ln lv (if 0 < lk then 1 else lm) (lenI (m_wobj g k)) ) (cwV 0 hts (lw_V q1695 q1585 q2544 q100 q1586) rfl rfl rfl (by decide +kernel) ⟨Nat.le_of_ble_eq_true rfl, Nat.le_of_ble_eq_true rfl⟩) (PW_V (hP.sub (ws' := [(ln, .inr (10, [.ref lv, iv 0, iv (if 0 < lk then 1 else lm), iv (lenI (m_wobj g k))]))]) [18] rfl) hK (va_recv hK.1 hP (ci := 10) (q0 := 18) rfl rfl)) rfl rfl hl.1 rfl (lv_room (Nat.le_of_ble_eq_true rfl)) dX1_writeObject_32 ⟨Nat.le_of_ble_eq_true rfl, Nat.le_of_ble_eq_true rfl⟩) ?_
    refine vx_ret ?_
    refine W.widen (k := 1) (n := 6) (Nat.le_of_ble_eq_true rfl) (Nat.le_of_ble_eq_true rfl) ?_
    exact W.iret (v := iI (lenI (m_wobj g k))) hx hb hr (fun tt_ ht_ hW_ => ⟨⟨iI (lenI (m_wobj g k)), (), rfl, ⟨by exact c_obj_0 hob, rfl⟩, by rw [ht_]; exact hP, hD⟩, hS.F ht_⟩) hS.2.2 dX1_writeObject_35
set_option maxHeartbeats 1000000 in
set_option maxRecDepth 100000 in
theorem mt_X1_type_a (l : Launch) (E : EE) (cw : Nat) (stA : Nat) (oaA : Nat) (osA : Nat) (hsn : Int) (hdA : Nat) (spA : Nat) (lnA : Nat) (prA : Nat) (ep : Int) (lt : Option Nat) (bf : Nat) (bm : Int) (bc : Int) (bv : Nat) (bg : Int → Int) (v : Int) (bn : Nat) (hst : l.stackTraces = false) (hv : 0 ≤ v ∧ v < 65536) (hbc : 0 ≤ bc ∧ bc < (bn : Int) ∧ bc ≤ 60) (hbn : bn ≤ 64) (sz : Nat) : vx_Met l yX1_type (ws_ yX1_type cX1_type 2 (some .int)) { frames := 7, cells := 2, slots := 12, locals := 112 } (va_Pc [.ref cw, iv v] (UX E (([(cw, .inr (1, [.ref stA, .ref oaA, .ref osA, iv hsn, .ref hdA, .ref spA, .ref bf, .ref lnA, .ref prA, iv ep, va_rf lt]))] : va_W) ++ ([(bf, .inr (10, [.ref bv, iv 0, iv bm, iv bc]))] : va_W) ++ ([(bv, ia (E.2 3) bn bg)] : va_W)) sz)) (UQx E (fun u : Unit => c_type bc v = 0) (fun u : Unit => bc + 1) (fun u : Unit => ([(cw, .inr (1, [.ref stA, .ref oaA, .ref osA, iv hsn, .ref hdA, .ref spA, .ref bf, .ref lnA, .ref prA, iv ep, va_rf lt]))] : va_W) ++ ([(bf, .inr (10, [.ref bv, iv 0, iv bm, iv (bc + 1)]))] : va_W) ++ ([(bv, ia (E.2 3) bn (ui bg bc v))] : va_W)) (va_A (([(cw, .inr (1, [.ref stA, .ref oaA, .ref osA, iv hsn, .ref hdA, .ref spA, .ref bf, .ref lnA, .ref prA, iv ep, va_rf lt]))] : va_W) ++ ([(bf, .inr (10, [.ref bv, iv 0, iv bm, iv bc]))] : va_W) ++ ([(bv, ia (E.2 3) bn bg)] : va_W)) sz)) (UXx E (fun (En : String) (u : Unit) => 0 < c_type bc v ∧ En = nmX "java/lang/IllegalArgumentException" "java/lang/IllegalStateException" "" (c_type bc v)) (fun u : Unit => ([(cw, .inr (1, [.ref stA, .ref oaA, .ref osA, iv hsn, .ref hdA, .ref spA, .ref bf, .ref lnA, .ref prA, iv ep, va_rf lt]))] : va_W) ++ ([(bf, .inr (10, [.ref bv, iv 0, iv bm, iv bc]))] : va_W) ++ ([(bv, ia (E.2 3) bn bg)] : va_W)) (fun u : Unit => none) (va_A (([(cw, .inr (1, [.ref stA, .ref oaA, .ref osA, iv hsn, .ref hdA, .ref spA, .ref bf, .ref lnA, .ref prA, iv ep, va_rf lt]))] : va_W) ++ ([(bf, .inr (10, [.ref bv, iv 0, iv bm, iv bc]))] : va_W) ++ ([(bv, ia (E.2 3) bn bg)] : va_W)) sz)) 2 12 (va_A (([(cw, .inr (1, [.ref stA, .ref oaA, .ref osA, iv hsn, .ref hdA, .ref spA, .ref bf, .ref lnA, .ref prA, iv ep, va_rf lt]))] : va_W) ++ ([(bf, .inr (10, [.ref bv, iv 0, iv bm, iv bc]))] : va_W) ++ ([(bv, ia (E.2 3) bn bg)] : va_W)) sz) := by
  refine vx_ofW (cc := cX1_type) (maxL := 2) (ret := (some .int)) (by decide) rfl ?_
  intro p e s m args below meth c s₁ B hml htb hv
  obtain ⟨rfl, hsz, hP, hK, hD0, hE⟩ := hv
  have hx := B.exec
  have hb := B.bytes
  have hr := B.returns
  have hts := atoms_spec (ws := (ws_ yX1_type cX1_type 2 (some .int))) B.pre
  have hts : ∀ w ∈ lw_all, w.before _ s = true := fun w h => hts w (List.mem_cons_of_mem _ h)
  have hown : s.vm.findClass RX1 = some m.cls := findClass_of_methodNamed B.named
  have hlocks := B.notSynchronized
  subst hsz
  have hD := hD0.self (sz := s.heap.size)
  generalize hAe : va_A (([(cw, .inr (1, [.ref stA, .ref oaA, .ref osA, iv hsn, .ref hdA, .ref spA, .ref bf, .ref lnA, .ref prA, iv ep, va_rf lt]))] : va_W) ++ ([(bf, .inr (10, [.ref bv, iv 0, iv bm, iv bc]))] : va_W) ++ ([(bv, ia (E.2 3) bn bg)] : va_W)) s.heap.size = A at hD hE ⊢
  have hA : ∀ q : Nat, s.heap.size ≤ q → A q := fun q h => by rw [← hAe]; exact Or.inr h
  have hS : va_S A s.heap s.heap [] := va_S.rf
  have hl := lv_entry ([.ref cw, iv v]) (n := 2) (Nat.le_of_ble_eq_true rfl)
  rw [lg_entry_eq]
  generalize (lg_sl ([.ref cw, iv v]) ++ List.replicate (2 - (lg_sl ([.ref cw, iv v])).length) Slot.unset).toArray = ls at hl ⊢
  have hl : lv_has ls 2 [(0, .ref cw), (1, iv v)] := hl
  refine lv_iload_n hx hb dX1_type_0 rfl (lv_at hl 1 rfl) ?_
  refine lv_bipush (v := iI 32) hx hb dX1_type_1 (by decide) ?_
  refine lv_bipush (v := iI 126) hx hb dX1_type_3 (by decide) ?_
  refine n_csi (x := b2 (decide (32 ≤ v ∧ v ≤ 126))) (va_runS (As := [iv v, iv 32, iv 126]) (rest := []) ⟨hx, hb, hml, hown, hts⟩ (mt_X1_inRange l E v 32 126 (by omega) (by omega) (by omega)) (va_cwS 3 hts (lw_S q882 q883 q94 q884) rfl rfl rfl (by decide +kernel) ⟨Nat.le_of_ble_eq_true rfl, Nat.le_of_ble_eq_true rfl⟩) (PW_S (hP.sub (ws' := []) [] rfl) hK) rfl rfl hl.1 rfl (lv_room (Nat.le_of_ble_eq_true rfl)) dX1_type_5 ⟨Nat.le_of_ble_eq_true rfl, Nat.le_of_ble_eq_true rfl⟩) ?_
  have hz_1 : s.heap.size ≤ s.heap.size := hS.1
  refine n_txvS (w2 := fun u_2 => ([(cw, .inr (1, [.ref stA, .ref oaA, .ref osA, iv hsn, .ref hdA, .ref spA, .ref bf, .ref lnA, .ref prA, iv ep, va_rf lt]))] : va_W) ++ ([(bf, .inr (10, [.ref bv, iv 0, iv bm, iv bc]))] : va_W) ++ ([(bv, ia (E.2 3) bn bg)] : va_W)) (w3 := fun u_3 => ([(cw, .inr (1, [.ref stA, .ref oaA, .ref osA, iv hsn, .ref hdA, .ref spA, .ref bf, .ref lnA, .ref prA, iv ep, va_rf lt]))] : va_W) ++ ([(bf, .inr (10, [.ref bv, iv 0, iv bm, iv bc]))] : va_W) ++ ([(bv, ia (E.2 3) bn bg)] : va_W)) (vx_runS (As := [iv (b2 (decide (32 ≤ v ∧ v ≤ 126)))]) (rest := []) ⟨hx, hb, hml, hown, hts⟩ (mt_X1_checkArgument l E (decide (32 ≤ v ∧ v ≤ 126)) (by exact hst) _) (va_cwS 1 hts (lw_S q966 q890 q94 q891) rfl rfl rfl (by decide +kernel) ⟨Nat.le_of_ble_eq_true rfl, Nat.le_of_ble_eq_true rfl⟩) (UX_S (hP.sub (ws' := []) [] rfl) hK (hD.sub (ws' := []) [] rfl rfl) hE hS (va_sub_free hD hS hA [] rfl)) rfl rfl hl.1 rfl (lv_room (Nat.le_of_ble_eq_true rfl)) dX1_type_8 ⟨Nat.le_of_ble_eq_true rfl, Nat.le_of_ble_eq_true rfl⟩) hP hD hS hA [] [0, 1, 2] [0, 1, 2] [0, 1, 2] rfl rfl rfl rfl rfl (fun _ => rfl) rfl (fun _ => rfl) ?_ ?_
  · intro En ce q9 u_3 H locs hCx hP hD hS hxf hq9 hce hcv hcl
    have hCx : En = "java/lang/IllegalArgumentException" ∧ (decide (32 ≤ v ∧ v ≤ 126)) = false := hCx
    have hP : va_P E.1 CL (([(cw, .inr (1, [.ref stA, .ref oaA, .ref osA, iv hsn, .ref hdA, .ref spA, .ref bf, .ref lnA, .ref prA, iv ep, va_rf lt]))] : va_W) ++ ([(bf, .inr (10, [.ref bv, iv 0, iv bm, iv bc]))] : va_W) ++ ([(bv, ia (E.2 3) bn bg)] : va_W)) H := hP
    have hD : va_D A (([(cw, .inr (1, [.ref stA, .ref oaA, .ref osA, iv hsn, .ref hdA, .ref spA, .ref bf, .ref lnA, .ref prA, iv ep, va_rf lt]))] : va_W) ++ ([(bf, .inr (10, [.ref bv, iv 0, iv bm, iv bc]))] : va_W) ++ ([(bv, ia (E.2 3) bn bg)] : va_W)) := hD
    exact n_out () (by exact cx_k (k := 1) (by exact c_type_1 (of_decide_eq_false hCx.2)) (by decide) hCx.1) hP hD hS hxf (Nat.le_trans hz_1 hq9) hce hcv hcl (fun x hx9 => (htb x hx9).elim) hlocks (Nat.le_of_ble_eq_true rfl) (Nat.le_of_ble_eq_true rfl)
  · intro u_2 H locs hC hP hD hS
    have hu_2 : (decide (32 ≤ v ∧ v ≤ 126)) = true := hC
    have hP : va_P E.1 CL (([(cw, .inr (1, [.ref stA, .ref oaA, .ref osA, iv hsn, .ref hdA, .ref spA, .ref bf, .ref lnA, .ref prA, iv ep, va_rf lt]))] : va_W) ++ ([(bf, .inr (10, [.ref bv, iv 0, iv bm, iv bc]))] : va_W) ++ ([(bv, ia (E.2 3) bn bg)] : va_W)) H := hP
    have hD : va_D A (([(cw, .inr (1, [.ref stA, .ref oaA, .ref osA, iv hsn, .ref hdA, .ref spA, .ref bf, .ref lnA, .ref prA, iv ep, va_rf lt]))] : va_W) ++ ([(bf, .inr (10, [.ref bv, iv 0, iv bm, iv bc]))] : va_W) ++ ([(bv, ia (E.2 3) bn bg)] : va_W)) := hD
    have hin := of_decide_eq_true hu_2
    have j_4 : W p l e (headSpec (ws_ yX1_type cX1_type 2 (some .int)) { frames := 7, cells := 2, slots := 12, locals := 112 }).room s m ([.ref cw, iv v] : List Value).toArray below meth c H locs 1 6 (vx_MQ below (UQx E (fun u : Unit => c_type bc v = 0) (fun u : Unit => bc + 1) (fun u : Unit => ([(cw, .inr (1, [.ref stA, .ref oaA, .ref osA, iv hsn, .ref hdA, .ref spA, .ref bf, .ref lnA, .ref prA, iv ep, va_rf lt]))] : va_W) ++ ([(bf, .inr (10, [.ref bv, iv 0, iv bm, iv (bc + 1)]))] : va_W) ++ ([(bv, ia (E.2 3) bn (ui bg bc v))] : va_W)) A) (UXx E (fun (En : String) (u : Unit) => 0 < c_type bc v ∧ En = nmX "java/lang/IllegalArgumentException" "java/lang/IllegalStateException" "" (c_type bc v)) (fun u : Unit => ([(cw, .inr (1, [.ref stA, .ref oaA, .ref osA, iv hsn, .ref hdA, .ref spA, .ref bf, .ref lnA, .ref prA, iv ep, va_rf lt]))] : va_W) ++ ([(bf, .inr (10, [.ref bv, iv 0, iv bm, iv bc]))] : va_W) ++ ([(bv, ia (E.2 3) bn bg)] : va_W)) (fun u : Unit => none) A) ([.ref cw, iv v] : List Value).toArray s 2 12 A) (F0 m 28 ls [iv (b2 (decide (bc < 60)))]) := by
      have hz_5 : s.heap.size ≤ H.size := hS.1
      refine n_txvS (w2 := fun u_6 => ([(cw, .inr (1, [.ref stA, .ref oaA, .ref osA, iv hsn, .ref hdA, .ref spA, .ref bf, .ref lnA, .ref prA, iv ep, va_rf lt]))] : va_W) ++ ([(bf, .inr (10, [.ref bv, iv 0, iv bm, iv bc]))] : va_W) ++ ([(bv, ia (E.2 3) bn bg)] : va_W)) (w3 := fun u_7 => ([(cw, .inr (1, [.ref stA, .ref oaA, .ref osA, iv hsn, .ref hdA, .ref spA, .ref bf, .ref lnA, .ref prA, iv ep, va_rf lt]))] : va_W) ++ ([(bf, .inr (10, [.ref bv, iv 0, iv bm, iv bc]))] : va_W) ++ ([(bv, ia (E.2 3) bn bg)] : va_W)) (vx_runS (As := [iv (b2 (decide (bc < 60)))]) (rest := []) ⟨hx, hb, hml, hown, hts⟩ (mt_X1_checkState l E (decide (bc < 60)) (by exact hst) _) (va_cwS 1 hts (lw_S q1735 q911 q94 q912) rfl rfl rfl (by decide +kernel) ⟨Nat.le_of_ble_eq_true rfl, Nat.le_of_ble_eq_true rfl⟩) (UX_S (hP.sub (ws' := []) [] rfl) hK (hD.sub (ws' := []) [] rfl rfl) hE hS (va_sub_free hD hS hA [] rfl)) rfl rfl hl.1 rfl (lv_room (Nat.le_of_ble_eq_true rfl)) dX1_type_28 ⟨Nat.le_of_ble_eq_true rfl, Nat.le_of_ble_eq_true rfl⟩) hP hD hS hA [] [0, 1, 2] [0, 1, 2] [0, 1, 2] rfl rfl rfl rfl rfl (fun _ => rfl) rfl (fun _ => rfl) ?_ ?_
      · intro En ce q9 u_7 H locs hCx hP hD hS hxf hq9 hce hcv hcl
        have hCx : En = "java/lang/IllegalStateException" ∧ (decide (bc < 60)) = false := hCx
        have hP : va_P E.1 CL (([(cw, .inr (1, [.ref stA, .ref oaA, .ref osA, iv hsn, .ref hdA, .ref spA, .ref bf, .ref lnA, .ref prA, iv ep, va_rf lt]))] : va_W) ++ ([(bf, .inr (10, [.ref bv, iv 0, iv bm, iv bc]))] : va_W) ++ ([(bv, ia (E.2 3) bn bg)] : va_W)) H := hP
        have hD : va_D A (([(cw, .inr (1, [.ref stA, .ref oaA, .ref osA, iv hsn, .ref hdA, .ref spA, .ref bf, .ref lnA, .ref prA, iv ep, va_rf lt]))] : va_W) ++ ([(bf, .inr (10, [.ref bv, iv 0, iv bm, iv bc]))] : va_W) ++ ([(bv, ia (E.2 3) bn bg)] : va_W)) := hD
        exact n_out () (by exact cx_k (k := 2) (by exact c_type_2 hin hbc.2.2 (of_decide_eq_false hCx.2)) (by decide) hCx.1) hP hD hS hxf (Nat.le_trans hz_5 hq9) hce hcv hcl (fun x hx9 => (htb x hx9).elim) hlocks (Nat.le_of_ble_eq_true rfl) (Nat.le_of_ble_eq_true rfl)
      · intro u_6 H locs hC hP hD hS
        have hu_6 : (decide (bc < 60)) = true := hC
        have hP : va_P E.1 CL (([(cw, .inr (1, [.ref stA, .ref oaA, .ref osA, iv hsn, .ref hdA, .ref spA, .ref bf, .ref lnA, .ref prA, iv ep, va_rf lt]))] : va_W) ++ ([(bf, .inr (10, [.ref bv, iv 0, iv bm, iv bc]))] : va_W) ++ ([(bv, ia (E.2 3) bn bg)] : va_W)) H := hP
        have hD : va_D A (([(cw, .inr (1, [.ref stA, .ref oaA, .ref osA, iv hsn, .ref hdA, .ref spA, .ref bf, .ref lnA, .ref prA, iv ep, va_rf lt]))] : va_W) ++ ([(bf, .inr (10, [.ref bv, iv 0, iv bm, iv bc]))] : va_W) ++ ([(bv, ia (E.2 3) bn bg)] : va_W)) := hD
        have hlt := of_decide_eq_true hu_6
        refine lv_aload_n hx hb dX1_type_31 rfl (lv_at hl 0 rfl) ?_
        refine va_get (D := E.1) (ci := 1) (v := .ref bf) (C := RX1) (T := TX1) (N := 11) hx hb hts in_X1 hown hK.1 hP 0 rfl rfl 6 (by decide) (hts _ q478) (fun _ h9 => h9) rfl dX1_type_32 ?_
        refine lv_iload_n hx hb dX1_type_35 rfl (lv_at hl 1 rfl) ?_
        refine n_cuxrS (x := fun u_8 => bf) (w2 := fun u_8 => ([(cw, .inr (1, [.ref stA, .ref oaA, .ref osA, iv hsn, .ref hdA, .ref spA, .ref bf, .ref lnA, .ref prA, iv ep, va_rf lt]))] : va_W) ++ ([(bf, .inr (10, [.ref bv, iv 0, iv bm, iv (bc + 1)]))] : va_W) ++ ([(bv, ia (E.2 3) bn (ui bg bc v))] : va_W)) (va_runV (As := [iv v]) (rest := []) ⟨hx, hb, hml, hown, hts⟩ (mt_J3_appendC l E bf bm bc bv bg v (bn) (by omega) (by first | omega | ((try simp only [lenI]); omega)) (by omega) _) (cwV 1 hts (lw_V q1736 q1670 q1671 q100 q1672) rfl rfl rfl (by decide +kernel) ⟨Nat.le_of_ble_eq_true rfl, Nat.le_of_ble_eq_true rfl⟩) (UX_V (hP.sub (ws' := ([(bf, .inr (10, [.ref bv, iv 0, iv bm, iv bc]))] : va_W) ++ ([(bv, ia (E.2 3) bn bg)] : va_W)) [1, 2] rfl) hK (hD.sub (ws' := ([(bf, .inr (10, [.ref bv, iv 0, iv bm, iv bc]))] : va_W) ++ ([(bv, ia (E.2 3) bn bg)] : va_W)) [1, 2] rfl rfl) hE hS (va_sub_free hD hS hA [1, 2] rfl) (va_recv hK.1 hP (ci := 10) (q0 := 1) rfl rfl)) rfl rfl hl.1 rfl (lv_room (Nat.le_of_ble_eq_true rfl)) dX1_type_36 ⟨Nat.le_of_ble_eq_true rfl, Nat.le_of_ble_eq_true rfl⟩) hP hD hS hA [1, 2] [0] [0, 1, 2] rfl rfl rfl rfl rfl (fun _ => rfl) (fun u_8 H locs hu_8 hP hD hS => ?_)
        have hu_8 : True := hu_8
        have hP : va_P E.1 CL (([(cw, .inr (1, [.ref stA, .ref oaA, .ref osA, iv hsn, .ref hdA, .ref spA, .ref bf, .ref lnA, .ref prA, iv ep, va_rf lt]))] : va_W) ++ ([(bf, .inr (10, [.ref bv, iv 0, iv bm, iv (bc + 1)]))] : va_W) ++ ([(bv, ia (E.2 3) bn (ui bg bc v))] : va_W)) H := hP
        have hD : va_D A (([(cw, .inr (1, [.ref stA, .ref oaA, .ref osA, iv hsn, .ref hdA, .ref spA, .ref bf, .ref lnA, .ref prA, iv ep, va_rf lt]))] : va_W) ++ ([(bf, .inr (10, [.ref bv, iv 0, iv bm, iv (bc + 1)]))] : va_W) ++ ([(bv, ia (E.2 3) bn (ui bg bc v))] : va_W)) := hD
        refine lv_pop hx hb dX1_type_39 rfl ?_
        refine lv_aload_n hx hb dX1_type_40 rfl (lv_at hl 0 rfl) ?_
        refine va_get (D := E.1) (ci := 1) (v := .ref bf) (C := RX1) (T := TX1) (N := 11) hx hb hts in_X1 hown hK.1 hP 0 rfl rfl 6 (by decide) (hts _ q478) (fun _ h9 => h9) rfl dX1_type_41 ?_
        refine n_csi (x := bc + 1) (va_runV (As := []) (rest := []) ⟨hx, hb, hml, hown, hts⟩ (mt_J3_length l E bf bv bm (bc + 1) ) (cwV 0 hts (lw_V q1695 q1585 q2544 q100 q1586) rfl rfl rfl (by decide +kernel) ⟨Nat.le_of_ble_eq_true rfl, Nat.le_of_ble_eq_true rfl⟩) (PW_V (hP.sub (ws' := [(bf, .inr (10, [.ref bv, iv 0, iv bm, iv (bc + 1)]))]) [1] rfl) hK (va_recv hK.1 hP (ci := 10) (q0 := 1) rfl rfl)) rfl rfl hl.1 rfl (lv_room (Nat.le_of_ble_eq_true rfl)) dX1_type_44 ⟨Nat.le_of_ble_eq_true rfl, Nat.le_of_ble_eq_true rfl⟩) ?_
        refine vx_ret ?_
        refine W.widen (k := 2) (n := 12) (Nat.le_of_ble_eq_true rfl) (Nat.le_of_ble_eq_true rfl) ?_
        exact W.iret (v := iI (bc + 1)) hx hb hr (fun tt_ ht_ hW_ => ⟨⟨iI (bc + 1), (), rfl, ⟨by exact c_type_0 hin hlt, rfl⟩, by rw [ht_]; exact hP, hD⟩, hS.F ht_⟩) hS.2.2 dX1_type_47
    refine lv_aload_n hx hb dX1_type_11 rfl (lv_at hl 0 rfl) ?_
    refine va_get (D := E.1) (ci := 1) (v := .ref bf) (C := RX1) (T := TX1) (N := 11) hx hb hts in_X1 hown hK.1 hP 0 rfl rfl 6 (by decide) (hts _ q478) (fun _ h9 => h9) rfl dX1_type_12 ?_
    refine n_csi (x := bc) (va_runV (As := []) (rest := []) ⟨hx, hb, hml, hown, hts⟩ (mt_J3_length l E bf bv bm bc ) (cwV 0 hts (lw_V q1695 q1585 q2544 q100 q1586) rfl rfl rfl (by decide +kernel) ⟨Nat.le_of_ble_eq_true rfl, Nat.le_of_ble_eq_true rfl⟩) (PW_V (hP.sub (ws' := [(bf, .inr (10, [.ref bv, iv 0, iv bm, iv bc]))]) [1] rfl) hK (va_recv hK.1 hP (ci := 10) (q0 := 1) rfl rfl)) rfl rfl hl.1 rfl (lv_room (Nat.le_of_ble_eq_true rfl)) dX1_type_15 ⟨Nat.le_of_ble_eq_true rfl, Nat.le_of_ble_eq_true rfl⟩) ?_
    refine lv_bipush (v := iI 60) hx hb dX1_type_18 (by decide) ?_
    refine n_icmp_ge (tgt := 27) hx hb dX1_type_20 (by decide) (by omega) (by omega) (fun c_9 => ?_) (fun c_9 => ?_)
    · refine lv_iconst (v := iI 0) hx hb dX1_type_27 rfl ?_
      refine n_top (y := b2 (decide (bc < 60))) (by first | (rw [decide_eq_true (by omega)]; rfl) | (rw [decide_eq_false (by omega)]; rfl)) ?_
      exact j_4
    · refine lv_iconst (v := iI 1) hx hb dX1_type_23 rfl ?_
      refine lv_goto (tgt := 28) hx hb dX1_type_24 (by decide) ?_
      refine n_top (y := b2 (decide (bc < 60))) (by first | (rw [decide_eq_true (by omega)]; rfl) | (rw [decide_eq_false (by omega)]; rfl)) ?_
      exact j_4
