/-- the cells of a change of the kind k -/
def chg (E : EE) (q : Nat) (k a b c : Int) : va_W := if k = 7 then [] else if k = 0 then [(q, .inl (E.2 (3000 + 13), 3, .inl (fun zk : Nat => iI (if zk = 0 then a else if zk = 1 then b else c))))] else if k = 1 then [(q, .inl (E.2 (3000 + 14), 1, .inl (fun zk : Nat => iI ( a))))] else if k = 2 then [(q, .inl (E.2 (3000 + 15), 3, .inl (fun zk : Nat => iI (if zk = 0 then a else if zk = 1 then b else 0))))] else if k = 3 then [(q, .inl (E.2 (3000 + 15), 3, .inl (fun zk : Nat => iI (if zk = 0 then a else if zk = 1 then b else 1))))] else if k = 4 then [(q, .inl (E.2 (3000 + 17), 2, .inl (fun zk : Nat => iI (if zk = 0 then a else b))))] else if k = 5 then [(q, .inl (E.2 (3000 + 18), 2, .inl (fun zk : Nat => iI (if zk = 0 then a else b))))] else if k = 6 then [(q, .inl (E.2 (3000 + 19), 1, .inl (fun zk : Nat => iI ( a))))] else if k = 8 then [(q, .inl (E.2 (3000 + 16), 1, .inl (fun zk : Nat => iI ( a))))] else if k = 9 then [(q, .inl (E.2 (3000 + 21), 2, .inl (fun zk : Nat => iI (if zk = 0 then a else b))))] else [(q, .inl (E.2 (3000 + 22), 3, .inl (fun zk : Nat => iI (if zk = 0 then a else if zk = 1 then b else c))))]
theorem chg_0 (E : EE) (q : Nat) (a b c : Int) : chg E q 0 a b c = [(q, .inl (E.2 (3000 + 13), 3, .inl (fun zk : Nat => iI (if zk = 0 then a else if zk = 1 then b else c))))] := rfl
theorem chg_1 (E : EE) (q : Nat) (a b c : Int) : chg E q 1 a b c = [(q, .inl (E.2 (3000 + 14), 1, .inl (fun zk : Nat => iI ( a))))] := rfl
theorem chg_2 (E : EE) (q : Nat) (a b c : Int) : chg E q 2 a b c = [(q, .inl (E.2 (3000 + 15), 3, .inl (fun zk : Nat => iI (if zk = 0 then a else if zk = 1 then b else 0))))] := rfl
theorem chg_3 (E : EE) (q : Nat) (a b c : Int) : chg E q 3 a b c = [(q, .inl (E.2 (3000 + 15), 3, .inl (fun zk : Nat => iI (if zk = 0 then a else if zk = 1 then b else 1))))] := rfl
theorem chg_4 (E : EE) (q : Nat) (a b c : Int) : chg E q 4 a b c = [(q, .inl (E.2 (3000 + 17), 2, .inl (fun zk : Nat => iI (if zk = 0 then a else b))))] := rfl
theorem chg_5 (E : EE) (q : Nat) (a b c : Int) : chg E q 5 a b c = [(q, .inl (E.2 (3000 + 18), 2, .inl (fun zk : Nat => iI (if zk = 0 then a else b))))] := rfl
theorem chg_6 (E : EE) (q : Nat) (a b c : Int) : chg E q 6 a b c = [(q, .inl (E.2 (3000 + 19), 1, .inl (fun zk : Nat => iI ( a))))] := rfl
theorem chg_8 (E : EE) (q : Nat) (a b c : Int) : chg E q 8 a b c = [(q, .inl (E.2 (3000 + 16), 1, .inl (fun zk : Nat => iI ( a))))] := rfl
theorem chg_9 (E : EE) (q : Nat) (a b c : Int) : chg E q 9 a b c = [(q, .inl (E.2 (3000 + 21), 2, .inl (fun zk : Nat => iI (if zk = 0 then a else b))))] := rfl
theorem chg_10 (E : EE) (q : Nat) (a b c : Int) : chg E q 10 a b c = [(q, .inl (E.2 (3000 + 22), 3, .inl (fun zk : Nat => iI (if zk = 0 then a else if zk = 1 then b else c))))] := rfl
theorem chg_7 (E : EE) (q : Nat) (a b c : Int) : chg E q 7 a b c = [] := rfl
set_option maxHeartbeats 2000000 in
set_option maxRecDepth 100000 in
theorem mt_X4_recipe (l : Launch) (E : EE) (pr : Nat) (ps : Int) (al : Nat) (bf : Nat) (bm : Int) (bc : Int) (bv : Nat) (bg : Int → Int)  (bn : Nat) (hst : l.stackTraces = false) (hbb : 0 ≤ bc ∧ bc ≤ (bn : Int)) (hbn : bn ≤ 64) (hb7 : B7 bg) (hps : 0 ≤ ps ∧ ps ≤ bc) (sz : Nat) : vx_Met l yX4_recipe (ws_ yX4_recipe cX4_recipe 4 (some (.object "ClockworkTailor$Change"))) { frames := 8, cells := 5, slots := 31, locals := 3075 } (va_Pc [.ref pr] (UX E (([(pr, .inr (4, [.ref bf, iv ps, .ref al]))] : va_W) ++ ([(bf, .inr (10, [.ref bv, iv 0, iv bm, iv bc]))] : va_W) ++ ([(bv, ia (E.2 3) bn bg)] : va_W)) sz)) (UQxy E (fun u : Nat => (kCh bg bc [(0, 10), (1, 0), (1, 1), (2, 2)] 1 (ps, kT0)).1 = true) (fun u : Nat => .ref u) (fun u : Nat => ([(pr, .inr (4, [.ref bf, iv ((kCh bg bc [(0, 10), (1, 0), (1, 1), (2, 2)] 1 (ps, kT0)).2.1), .ref al]))] : va_W) ++ ([(bf, .inr (10, [.ref bv, iv 0, iv bm, iv bc]))] : va_W) ++ ([(bv, ia (E.2 3) bn bg)] : va_W) ++ ([(u, .inl (E.2 (3000 + 13), 3, .inl (fun zk : Nat => iI (if zk = 0 then (kCh bg bc [(0, 10), (1, 0), (1, 1), (2, 2)] 1 (ps, kT0)).2.2 1 else if zk = 1 then (kCh bg bc [(0, 10), (1, 0), (1, 1), (2, 2)] 1 (ps, kT0)).2.2 2 else (kCh bg bc [(0, 10), (1, 0), (1, 1), (2, 2)] 1 (ps, kT0)).2.2 3))))] : va_W)) (va_A (([(pr, .inr (4, [.ref bf, iv ps, .ref al]))] : va_W) ++ ([(bf, .inr (10, [.ref bv, iv 0, iv bm, iv bc]))] : va_W) ++ ([(bv, ia (E.2 3) bn bg)] : va_W)) sz)) (UXx E (fun (En : String) (u : Unit) => En = "ClockworkTailor$SyntaxError" ∧ (kCh bg bc [(0, 10), (1, 0), (1, 1), (2, 2)] 1 (ps, kT0)).1 = false) (fun u : Unit => ([(pr, .inr (4, [.ref bf, iv ((kCh bg bc [(0, 10), (1, 0), (1, 1), (2, 2)] 1 (ps, kT0)).2.1), .ref al]))] : va_W) ++ ([(bf, .inr (10, [.ref bv, iv 0, iv bm, iv bc]))] : va_W) ++ ([(bv, ia (E.2 3) bn bg)] : va_W)) (fun u : Unit => some (8, [iv (kCh bg bc [(0, 10), (1, 0), (1, 1), (2, 2)] 1 (ps, kT0)).2.1])) (va_A (([(pr, .inr (4, [.ref bf, iv ps, .ref al]))] : va_W) ++ ([(bf, .inr (10, [.ref bv, iv 0, iv bm, iv bc]))] : va_W) ++ ([(bv, ia (E.2 3) bn bg)] : va_W)) sz)) 5 31 (va_A (([(pr, .inr (4, [.ref bf, iv ps, .ref al]))] : va_W) ++ ([(bf, .inr (10, [.ref bv, iv 0, iv bm, iv bc]))] : va_W) ++ ([(bv, ia (E.2 3) bn bg)] : va_W)) sz) := by
  refine vx_ofW (cc := cX4_recipe) (maxL := 4) (ret := (some (.object "ClockworkTailor$Change"))) (by decide) rfl ?_
  intro p e s m args below meth c s₁ B hml htb hv
  obtain ⟨rfl, hsz, hP, hK, hD0, hE⟩ := hv
  have hx := B.exec
  have hb := B.bytes
  have hr := B.returns
  have hts := atoms_spec (ws := (ws_ yX4_recipe cX4_recipe 4 (some (.object "ClockworkTailor$Change")))) B.pre
  have hts : ∀ w ∈ lw_all, w.before _ s = true := fun w h => hts w (List.mem_cons_of_mem _ h)
  have hown : s.vm.findClass RX4 = some m.cls := findClass_of_methodNamed B.named
  have hlocks := B.notSynchronized
  subst hsz
  have hD := hD0.self (sz := s.heap.size)
  generalize hAe : va_A (([(pr, .inr (4, [.ref bf, iv ps, .ref al]))] : va_W) ++ ([(bf, .inr (10, [.ref bv, iv 0, iv bm, iv bc]))] : va_W) ++ ([(bv, ia (E.2 3) bn bg)] : va_W)) s.heap.size = A at hD hE ⊢
  have hA : ∀ q : Nat, s.heap.size ≤ q → A q := fun q h => by rw [← hAe]; exact Or.inr h
  have hS : va_S A s.heap s.heap [] := va_S.rf
  have hl := lv_entry ([.ref pr]) (n := 4) (Nat.le_of_ble_eq_true rfl)
  rw [lg_entry_eq]
  generalize (lg_sl ([.ref pr]) ++ List.replicate (4 - (lg_sl ([.ref pr])).length) Slot.unset).toArray = ls at hl ⊢
  have hl : lv_has ls 4 [(0, .ref pr)] := hl
  have hch0 : (kCh bg bc [(0, 10), (1, 0), (1, 1), (2, 2)] 1 (ps, kT0)) = kCh bg bc [(0, 10), (1, 0), (1, 1), (2, 2)] 1 (ps, kT0) := rfl
  refine lv_aload_n hx hb dX4_recipe_0 rfl (lv_at hl 0 rfl) ?_
  refine va_ldcS hx hb (own := RX4) (tx := "recipe") (index := 75) (q := EX E (2 * 10)) hown (hK.ks ("ClockworkTailor$Parser", 75, "recipe", 10) (List.mem_of_getElem? (i := 10) rfl)) dX4_recipe_1 ?_
  have hz_1 : s.heap.size ≤ s.heap.size := hS.1
  refine n_txvS (w2 := fun u_2 => ([(pr, .inr (4, [.ref bf, iv ((kWd 10 bg bc ps).2.1), .ref al]))] : va_W) ++ ([(bf, .inr (10, [.ref bv, iv 0, iv bm, iv bc]))] : va_W) ++ ([(bv, ia (E.2 3) bn bg)] : va_W)) (w3 := fun u_3 => ([(pr, .inr (4, [.ref bf, iv ((kWd 10 bg bc ps).2.1), .ref al]))] : va_W) ++ ([(bf, .inr (10, [.ref bv, iv 0, iv bm, iv bc]))] : va_W) ++ ([(bv, ia (E.2 3) bn bg)] : va_W)) (vx_runV (As := [.ref (EX E (2 * 10))]) (rest := []) ⟨hx, hb, hml, hown, hts⟩ (mt_X4_expectWord l E pr ps al bf bm bc bv bg 10 (bn) (by exact hst) (by omega) (by omega) (by assumption) (by omega) (by decide) _) (cwV 1 hts (lw_V q1776 q1778 qs28 q103 q1779) rfl rfl rfl (by decide +kernel) ⟨Nat.le_of_ble_eq_true rfl, Nat.le_of_ble_eq_true rfl⟩) (UX_V hP hK (hD) hE hS (va_A_in hD hS hA) (va_recv hK.1 hP (ci := 4) (q0 := 0) rfl rfl)) rfl rfl hl.1 rfl (lv_room (Nat.le_of_ble_eq_true rfl)) dX4_recipe_3 ⟨Nat.le_of_ble_eq_true rfl, Nat.le_of_ble_eq_true rfl⟩) hP hD hS hA [0, 1, 2] [] [0, 1, 2] [0, 1, 2] rfl rfl rfl rfl rfl (fun _ => rfl) rfl (fun _ => rfl) ?_ ?_
  · intro En ce q9 u_3 H locs hCx hP hD hS hxf hq9 hce hcv hcl
    have hCx : En = "ClockworkTailor$SyntaxError" ∧ (kWd 10 bg bc ps).1 = false := hCx
    have hP : va_P E.1 CL (([(pr, .inr (4, [.ref bf, iv ((kWd 10 bg bc ps).2.1), .ref al]))] : va_W) ++ ([(bf, .inr (10, [.ref bv, iv 0, iv bm, iv bc]))] : va_W) ++ ([(bv, ia (E.2 3) bn bg)] : va_W)) H := hP
    have hD : va_D A (([(pr, .inr (4, [.ref bf, iv ((kWd 10 bg bc ps).2.1), .ref al]))] : va_W) ++ ([(bf, .inr (10, [.ref bv, iv 0, iv bm, iv bc]))] : va_W) ++ ([(bv, ia (E.2 3) bn bg)] : va_W)) := hD
    have hK9 : kFl (kCh bg bc [(0, 10), (1, 0), (1, 1), (2, 2)] 1 (ps, kT0)) ((kWd 10 bg bc ps).2.1) := by
      exact kCh_f hch0 hCx.2
    have hw9 : ((kWd 10 bg bc ps).2.1 : Int) = (kCh bg bc [(0, 10), (1, 0), (1, 1), (2, 2)] 1 (ps, kT0)).2.1 := hK9.2.symm
    have hxf : XF E q9 (some (8, [iv ((kWd 10 bg bc ps).2.1)])) H := hxf
    rw [hw9] at hP hD hxf
    exact n_out () (by exact ⟨hCx.1, hK9.1⟩) hP hD hS hxf (Nat.le_trans hz_1 hq9) hce hcv hcl (fun x hx9 => (htb x hx9).elim) hlocks (Nat.le_of_ble_eq_true rfl) (Nat.le_of_ble_eq_true rfl)
  · intro u_2 H locs hC hP hD hS
    have hu_2 : (kWd 10 bg bc ps).1 = true := hC
    have hP : va_P E.1 CL (([(pr, .inr (4, [.ref bf, iv ((kWd 10 bg bc ps).2.1), .ref al]))] : va_W) ++ ([(bf, .inr (10, [.ref bv, iv 0, iv bm, iv bc]))] : va_W) ++ ([(bv, ia (E.2 3) bn bg)] : va_W)) H := hP
    have hD : va_D A (([(pr, .inr (4, [.ref bf, iv ((kWd 10 bg bc ps).2.1), .ref al]))] : va_W) ++ ([(bf, .inr (10, [.ref bv, iv 0, iv bm, iv bc]))] : va_W) ++ ([(bv, ia (E.2 3) bn bg)] : va_W)) := hD
    have hch1 : (kCh bg bc [(0, 10), (1, 0), (1, 1), (2, 2)] 1 (ps, kT0)) = kCh bg bc [(1, 0), (1, 1), (2, 2)] 1 ((kWd 10 bg bc ps).2.1, kT0) := kCh_t hch0 hu_2
    have hkr1 : 0 ≤ (kWd 10 bg bc ps).2.1 ∧ (kWd 10 bg bc ps).2.1 ≤ bc ∧ ps ≤ (kWd 10 bg bc ps).2.1 := kIt_r hb7 (show 0 ≤ ps ∧ ps ≤ bc by omega) (0, 10)
    refine lv_aload_n hx hb dX4_recipe_6 rfl (lv_at hl 0 rfl) ?_
    refine lv_iconst (v := iI 0) hx hb dX4_recipe_7 rfl ?_
    have hz_4 : s.heap.size ≤ H.size := hS.1
    refine n_txS (x := fun u_5 => (kLt false bg bc ((kWd 10 bg bc ps).2.1)).2.2 1) (w2 := fun u_5 => ([(pr, .inr (4, [.ref bf, iv ((kLt false bg bc ((kWd 10 bg bc ps).2.1)).2.1), .ref al]))] : va_W) ++ ([(bf, .inr (10, [.ref bv, iv 0, iv bm, iv bc]))] : va_W) ++ ([(bv, ia (E.2 3) bn bg)] : va_W)) (w3 := fun u_6 => ([(pr, .inr (4, [.ref bf, iv ((kLt false bg bc ((kWd 10 bg bc ps).2.1)).2.1), .ref al]))] : va_W) ++ ([(bf, .inr (10, [.ref bv, iv 0, iv bm, iv bc]))] : va_W) ++ ([(bv, ia (E.2 3) bn bg)] : va_W)) (vx_runV (As := [iv 0]) (rest := []) ⟨hx, hb, hml, hown, hts⟩ (mt_X4_letter l E pr ((kWd 10 bg bc ps).2.1) al bf bm bc bv bg false (bn) (by exact hst) (by omega) (by omega) (by assumption) (by omega) _) (cwV 1 hts (lw_V q1823 q1825 qs31 q103 q1826) rfl rfl rfl (by decide +kernel) ⟨Nat.le_of_ble_eq_true rfl, Nat.le_of_ble_eq_true rfl⟩) (UX_V hP hK (hD) hE hS (va_A_in hD hS hA) (va_recv hK.1 hP (ci := 4) (q0 := 0) rfl rfl)) rfl rfl hl.1 rfl (lv_room (Nat.le_of_ble_eq_true rfl)) dX4_recipe_8 ⟨Nat.le_of_ble_eq_true rfl, Nat.le_of_ble_eq_true rfl⟩) hP hD hS hA [0, 1, 2] [] [0, 1, 2] [0, 1, 2] rfl rfl rfl rfl rfl (fun _ => rfl) rfl (fun _ => rfl) ?_ ?_
    · intro En ce q9 u_6 H locs hCx hP hD hS hxf hq9 hce hcv hcl
      have hCx : En = "ClockworkTailor$SyntaxError" ∧ (kLt false bg bc ((kWd 10 bg bc ps).2.1)).1 = false := hCx
      have hP : va_P E.1 CL (([(pr, .inr (4, [.ref bf, iv ((kLt false bg bc ((kWd 10 bg bc ps).2.1)).2.1), .ref al]))] : va_W) ++ ([(bf, .inr (10, [.ref bv, iv 0, iv bm, iv bc]))] : va_W) ++ ([(bv, ia (E.2 3) bn bg)] : va_W)) H := hP
      have hD : va_D A (([(pr, .inr (4, [.ref bf, iv ((kLt false bg bc ((kWd 10 bg bc ps).2.1)).2.1), .ref al]))] : va_W) ++ ([(bf, .inr (10, [.ref bv, iv 0, iv bm, iv bc]))] : va_W) ++ ([(bv, ia (E.2 3) bn bg)] : va_W)) := hD
      have hK9 : kFl (kCh bg bc [(0, 10), (1, 0), (1, 1), (2, 2)] 1 (ps, kT0)) ((kLt false bg bc ((kWd 10 bg bc ps).2.1)).2.1) := by
        exact kCh_f hch1 hCx.2
      have hw9 : ((kLt false bg bc ((kWd 10 bg bc ps).2.1)).2.1 : Int) = (kCh bg bc [(0, 10), (1, 0), (1, 1), (2, 2)] 1 (ps, kT0)).2.1 := hK9.2.symm
      have hxf : XF E q9 (some (8, [iv ((kLt false bg bc ((kWd 10 bg bc ps).2.1)).2.1)])) H := hxf
      rw [hw9] at hP hD hxf
      exact n_out () (by exact ⟨hCx.1, hK9.1⟩) hP hD hS hxf (Nat.le_trans hz_4 hq9) hce hcv hcl (fun x hx9 => (htb x hx9).elim) hlocks (Nat.le_of_ble_eq_true rfl) (Nat.le_of_ble_eq_true rfl)
    · intro u_5 H locs hC hP hD hS
      have hu_5 : (kLt false bg bc ((kWd 10 bg bc ps).2.1)).1 = true := hC
      have hP : va_P E.1 CL (([(pr, .inr (4, [.ref bf, iv ((kLt false bg bc ((kWd 10 bg bc ps).2.1)).2.1), .ref al]))] : va_W) ++ ([(bf, .inr (10, [.ref bv, iv 0, iv bm, iv bc]))] : va_W) ++ ([(bv, ia (E.2 3) bn bg)] : va_W)) H := hP
      have hD : va_D A (([(pr, .inr (4, [.ref bf, iv ((kLt false bg bc ((kWd 10 bg bc ps).2.1)).2.1), .ref al]))] : va_W) ++ ([(bf, .inr (10, [.ref bv, iv 0, iv bm, iv bc]))] : va_W) ++ ([(bv, ia (E.2 3) bn bg)] : va_W)) := hD
      have hch2 : (kCh bg bc [(0, 10), (1, 0), (1, 1), (2, 2)] 1 (ps, kT0)) = kCh bg bc [(1, 1), (2, 2)] 2 ((kLt false bg bc ((kWd 10 bg bc ps).2.1)).2.1, (ui kT0 1 ((kLt false bg bc ((kWd 10 bg bc ps).2.1)).2.2 1))) := kCh_t hch1 hu_5
      have hkr2 : 0 ≤ (kLt false bg bc ((kWd 10 bg bc ps).2.1)).2.1 ∧ (kLt false bg bc ((kWd 10 bg bc ps).2.1)).2.1 ≤ bc ∧ (kWd 10 bg bc ps).2.1 ≤ (kLt false bg bc ((kWd 10 bg bc ps).2.1)).2.1 := kIt_r hb7 (show 0 ≤ (kWd 10 bg bc ps).2.1 ∧ (kWd 10 bg bc ps).2.1 ≤ bc by omega) (1, 0)
      have hkv2 := kLt_v hb7 hu_5
      refine lv_istore_n (lv' := [(1, iv ((kLt false bg bc ((kWd 10 bg bc ps).2.1)).2.2 1)), (0, .ref pr)]) hx hb dX4_recipe_11 rfl hl (by decide) rfl (fun ls hl => ?_)
      refine lv_aload_n hx hb dX4_recipe_12 rfl (lv_at hl 1 rfl) ?_
      refine lv_iconst (v := iI 1) hx hb dX4_recipe_13 rfl ?_
      have hz_7 : s.heap.size ≤ H.size := hS.1
      refine n_txS (x := fun u_8 => (kLt true bg bc ((kLt false bg bc ((kWd 10 bg bc ps).2.1)).2.1)).2.2 1) (w2 := fun u_8 => ([(pr, .inr (4, [.ref bf, iv ((kLt true bg bc ((kLt false bg bc ((kWd 10 bg bc ps).2.1)).2.1)).2.1), .ref al]))] : va_W) ++ ([(bf, .inr (10, [.ref bv, iv 0, iv bm, iv bc]))] : va_W) ++ ([(bv, ia (E.2 3) bn bg)] : va_W)) (w3 := fun u_9 => ([(pr, .inr (4, [.ref bf, iv ((kLt true bg bc ((kLt false bg bc ((kWd 10 bg bc ps).2.1)).2.1)).2.1), .ref al]))] : va_W) ++ ([(bf, .inr (10, [.ref bv, iv 0, iv bm, iv bc]))] : va_W) ++ ([(bv, ia (E.2 3) bn bg)] : va_W)) (vx_runV (As := [iv 1]) (rest := []) ⟨hx, hb, hml, hown, hts⟩ (mt_X4_letter l E pr ((kLt false bg bc ((kWd 10 bg bc ps).2.1)).2.1) al bf bm bc bv bg true (bn) (by exact hst) (by omega) (by omega) (by assumption) (by omega) _) (cwV 1 hts (lw_V q1823 q1825 qs31 q103 q1826) rfl rfl rfl (by decide +kernel) ⟨Nat.le_of_ble_eq_true rfl, Nat.le_of_ble_eq_true rfl⟩) (UX_V hP hK (hD) hE hS (va_A_in hD hS hA) (va_recv hK.1 hP (ci := 4) (q0 := 0) rfl rfl)) rfl rfl hl.1 rfl (lv_room (Nat.le_of_ble_eq_true rfl)) dX4_recipe_14 ⟨Nat.le_of_ble_eq_true rfl, Nat.le_of_ble_eq_true rfl⟩) hP hD hS hA [0, 1, 2] [] [0, 1, 2] [0, 1, 2] rfl rfl rfl rfl rfl (fun _ => rfl) rfl (fun _ => rfl) ?_ ?_
      · intro En ce q9 u_9 H locs hCx hP hD hS hxf hq9 hce hcv hcl
        have hCx : En = "ClockworkTailor$SyntaxError" ∧ (kLt true bg bc ((kLt false bg bc ((kWd 10 bg bc ps).2.1)).2.1)).1 = false := hCx
        have hP : va_P E.1 CL (([(pr, .inr (4, [.ref bf, iv ((kLt true bg bc ((kLt false bg bc ((kWd 10 bg bc ps).2.1)).2.1)).2.1), .ref al]))] : va_W) ++ ([(bf, .inr (10, [.ref bv, iv 0, iv bm, iv bc]))] : va_W) ++ ([(bv, ia (E.2 3) bn bg)] : va_W)) H := hP
        have hD : va_D A (([(pr, .inr (4, [.ref bf, iv ((kLt true bg bc ((kLt false bg bc ((kWd 10 bg bc ps).2.1)).2.1)).2.1), .ref al]))] : va_W) ++ ([(bf, .inr (10, [.ref bv, iv 0, iv bm, iv bc]))] : va_W) ++ ([(bv, ia (E.2 3) bn bg)] : va_W)) := hD
        have hK9 : kFl (kCh bg bc [(0, 10), (1, 0), (1, 1), (2, 2)] 1 (ps, kT0)) ((kLt true bg bc ((kLt false bg bc ((kWd 10 bg bc ps).2.1)).2.1)).2.1) := by
          exact kCh_f hch2 hCx.2
        have hw9 : ((kLt true bg bc ((kLt false bg bc ((kWd 10 bg bc ps).2.1)).2.1)).2.1 : Int) = (kCh bg bc [(0, 10), (1, 0), (1, 1), (2, 2)] 1 (ps, kT0)).2.1 := hK9.2.symm
        have hxf : XF E q9 (some (8, [iv ((kLt true bg bc ((kLt false bg bc ((kWd 10 bg bc ps).2.1)).2.1)).2.1)])) H := hxf
        rw [hw9] at hP hD hxf
        exact n_out () (by exact ⟨hCx.1, hK9.1⟩) hP hD hS hxf (Nat.le_trans hz_7 hq9) hce hcv hcl (fun x hx9 => (htb x hx9).elim) hlocks (Nat.le_of_ble_eq_true rfl) (Nat.le_of_ble_eq_true rfl)
      · intro u_8 H locs hC hP hD hS
        have hu_8 : (kLt true bg bc ((kLt false bg bc ((kWd 10 bg bc ps).2.1)).2.1)).1 = true := hC
        have hP : va_P E.1 CL (([(pr, .inr (4, [.ref bf, iv ((kLt true bg bc ((kLt false bg bc ((kWd 10 bg bc ps).2.1)).2.1)).2.1), .ref al]))] : va_W) ++ ([(bf, .inr (10, [.ref bv, iv 0, iv bm, iv bc]))] : va_W) ++ ([(bv, ia (E.2 3) bn bg)] : va_W)) H := hP
        have hD : va_D A (([(pr, .inr (4, [.ref bf, iv ((kLt true bg bc ((kLt false bg bc ((kWd 10 bg bc ps).2.1)).2.1)).2.1), .ref al]))] : va_W) ++ ([(bf, .inr (10, [.ref bv, iv 0, iv bm, iv bc]))] : va_W) ++ ([(bv, ia (E.2 3) bn bg)] : va_W)) := hD
        have hch3 : (kCh bg bc [(0, 10), (1, 0), (1, 1), (2, 2)] 1 (ps, kT0)) = kCh bg bc [(2, 2)] 3 ((kLt true bg bc ((kLt false bg bc ((kWd 10 bg bc ps).2.1)).2.1)).2.1, (ui (ui kT0 1 ((kLt false bg bc ((kWd 10 bg bc ps).2.1)).2.2 1)) 2 ((kLt true bg bc ((kLt false bg bc ((kWd 10 bg bc ps).2.1)).2.1)).2.2 1))) := kCh_t hch2 hu_8
        have hkr3 : 0 ≤ (kLt true bg bc ((kLt false bg bc ((kWd 10 bg bc ps).2.1)).2.1)).2.1 ∧ (kLt true bg bc ((kLt false bg bc ((kWd 10 bg bc ps).2.1)).2.1)).2.1 ≤ bc ∧ (kLt false bg bc ((kWd 10 bg bc ps).2.1)).2.1 ≤ (kLt true bg bc ((kLt false bg bc ((kWd 10 bg bc ps).2.1)).2.1)).2.1 := kIt_r hb7 (show 0 ≤ (kLt false bg bc ((kWd 10 bg bc ps).2.1)).2.1 ∧ (kLt false bg bc ((kWd 10 bg bc ps).2.1)).2.1 ≤ bc by omega) (1, 1)
        have hkv3 := kLt_v hb7 hu_8
        refine lv_istore_n (lv' := [(2, iv ((kLt true bg bc ((kLt false bg bc ((kWd 10 bg bc ps).2.1)).2.1)).2.2 1)), (1, iv ((kLt false bg bc ((kWd 10 bg bc ps).2.1)).2.2 1)), (0, .ref pr)]) hx hb dX4_recipe_17 rfl hl (by decide) rfl (fun ls hl => ?_)
        refine lv_aload_n hx hb dX4_recipe_18 rfl (lv_at hl 2 rfl) ?_
        refine lv_iconst (v := iI 2) hx hb dX4_recipe_19 rfl ?_
        have hz_10 : s.heap.size ≤ H.size := hS.1
        refine n_txS (x := fun u_11 => (kNm 2 bg bc ((kLt true bg bc ((kLt false bg bc ((kWd 10 bg bc ps).2.1)).2.1)).2.1)).2.2 1) (w2 := fun u_11 => ([(pr, .inr (4, [.ref bf, iv ((kNm 2 bg bc ((kLt true bg bc ((kLt false bg bc ((kWd 10 bg bc ps).2.1)).2.1)).2.1)).2.1), .ref al]))] : va_W) ++ ([(bf, .inr (10, [.ref bv, iv 0, iv bm, iv bc]))] : va_W) ++ ([(bv, ia (E.2 3) bn bg)] : va_W)) (w3 := fun u_12 => ([(pr, .inr (4, [.ref bf, iv ((kNm 2 bg bc ((kLt true bg bc ((kLt false bg bc ((kWd 10 bg bc ps).2.1)).2.1)).2.1)).2.1), .ref al]))] : va_W) ++ ([(bf, .inr (10, [.ref bv, iv 0, iv bm, iv bc]))] : va_W) ++ ([(bv, ia (E.2 3) bn bg)] : va_W)) (vx_runV (As := [iv 2]) (rest := []) ⟨hx, hb, hml, hown, hts⟩ (mt_X4_number l E pr ((kLt true bg bc ((kLt false bg bc ((kWd 10 bg bc ps).2.1)).2.1)).2.1) al bf bm bc bv bg 2 (bn) (by exact hst) (by omega) (by omega) (by assumption) (by omega) (by omega) _) (cwV 1 hts (lw_V q1829 q1831 qs32 q103 q1832) rfl rfl rfl (by decide +kernel) ⟨Nat.le_of_ble_eq_true rfl, Nat.le_of_ble_eq_true rfl⟩) (UX_V hP hK (hD) hE hS (va_A_in hD hS hA) (va_recv hK.1 hP (ci := 4) (q0 := 0) rfl rfl)) rfl rfl hl.1 rfl (lv_room (Nat.le_of_ble_eq_true rfl)) dX4_recipe_20 ⟨Nat.le_of_ble_eq_true rfl, Nat.le_of_ble_eq_true rfl⟩) hP hD hS hA [0, 1, 2] [] [0, 1, 2] [0, 1, 2] rfl rfl rfl rfl rfl (fun _ => rfl) rfl (fun _ => rfl) ?_ ?_
        · intro En ce q9 u_12 H locs hCx hP hD hS hxf hq9 hce hcv hcl
          have hCx : En = "ClockworkTailor$SyntaxError" ∧ (kNm 2 bg bc ((kLt true bg bc ((kLt false bg bc ((kWd 10 bg bc ps).2.1)).2.1)).2.1)).1 = false := hCx
          have hP : va_P E.1 CL (([(pr, .inr (4, [.ref bf, iv ((kNm 2 bg bc ((kLt true bg bc ((kLt false bg bc ((kWd 10 bg bc ps).2.1)).2.1)).2.1)).2.1), .ref al]))] : va_W) ++ ([(bf, .inr (10, [.ref bv, iv 0, iv bm, iv bc]))] : va_W) ++ ([(bv, ia (E.2 3) bn bg)] : va_W)) H := hP
          have hD : va_D A (([(pr, .inr (4, [.ref bf, iv ((kNm 2 bg bc ((kLt true bg bc ((kLt false bg bc ((kWd 10 bg bc ps).2.1)).2.1)).2.1)).2.1), .ref al]))] : va_W) ++ ([(bf, .inr (10, [.ref bv, iv 0, iv bm, iv bc]))] : va_W) ++ ([(bv, ia (E.2 3) bn bg)] : va_W)) := hD
          have hK9 : kFl (kCh bg bc [(0, 10), (1, 0), (1, 1), (2, 2)] 1 (ps, kT0)) ((kNm 2 bg bc ((kLt true bg bc ((kLt false bg bc ((kWd 10 bg bc ps).2.1)).2.1)).2.1)).2.1) := by
            exact kCh_f hch3 hCx.2
          have hw9 : ((kNm 2 bg bc ((kLt true bg bc ((kLt false bg bc ((kWd 10 bg bc ps).2.1)).2.1)).2.1)).2.1 : Int) = (kCh bg bc [(0, 10), (1, 0), (1, 1), (2, 2)] 1 (ps, kT0)).2.1 := hK9.2.symm
          have hxf : XF E q9 (some (8, [iv ((kNm 2 bg bc ((kLt true bg bc ((kLt false bg bc ((kWd 10 bg bc ps).2.1)).2.1)).2.1)).2.1)])) H := hxf
          rw [hw9] at hP hD hxf
          exact n_out () (by exact ⟨hCx.1, hK9.1⟩) hP hD hS hxf (Nat.le_trans hz_10 hq9) hce hcv hcl (fun x hx9 => (htb x hx9).elim) hlocks (Nat.le_of_ble_eq_true rfl) (Nat.le_of_ble_eq_true rfl)
        · intro u_11 H locs hC hP hD hS
          have hu_11 : (kNm 2 bg bc ((kLt true bg bc ((kLt false bg bc ((kWd 10 bg bc ps).2.1)).2.1)).2.1)).1 = true := hC
          have hP : va_P E.1 CL (([(pr, .inr (4, [.ref bf, iv ((kNm 2 bg bc ((kLt true bg bc ((kLt false bg bc ((kWd 10 bg bc ps).2.1)).2.1)).2.1)).2.1), .ref al]))] : va_W) ++ ([(bf, .inr (10, [.ref bv, iv 0, iv bm, iv bc]))] : va_W) ++ ([(bv, ia (E.2 3) bn bg)] : va_W)) H := hP
          have hD : va_D A (([(pr, .inr (4, [.ref bf, iv ((kNm 2 bg bc ((kLt true bg bc ((kLt false bg bc ((kWd 10 bg bc ps).2.1)).2.1)).2.1)).2.1), .ref al]))] : va_W) ++ ([(bf, .inr (10, [.ref bv, iv 0, iv bm, iv bc]))] : va_W) ++ ([(bv, ia (E.2 3) bn bg)] : va_W)) := hD
          have hch4 : (kCh bg bc [(0, 10), (1, 0), (1, 1), (2, 2)] 1 (ps, kT0)) = kCh bg bc [] 4 ((kNm 2 bg bc ((kLt true bg bc ((kLt false bg bc ((kWd 10 bg bc ps).2.1)).2.1)).2.1)).2.1, (ui (ui (ui kT0 1 ((kLt false bg bc ((kWd 10 bg bc ps).2.1)).2.2 1)) 2 ((kLt true bg bc ((kLt false bg bc ((kWd 10 bg bc ps).2.1)).2.1)).2.2 1)) 3 ((kNm 2 bg bc ((kLt true bg bc ((kLt false bg bc ((kWd 10 bg bc ps).2.1)).2.1)).2.1)).2.2 1))) := kCh_t hch3 hu_11
          have hkr4 : 0 ≤ (kNm 2 bg bc ((kLt true bg bc ((kLt false bg bc ((kWd 10 bg bc ps).2.1)).2.1)).2.1)).2.1 ∧ (kNm 2 bg bc ((kLt true bg bc ((kLt false bg bc ((kWd 10 bg bc ps).2.1)).2.1)).2.1)).2.1 ≤ bc ∧ (kLt true bg bc ((kLt false bg bc ((kWd 10 bg bc ps).2.1)).2.1)).2.1 ≤ (kNm 2 bg bc ((kLt true bg bc ((kLt false bg bc ((kWd 10 bg bc ps).2.1)).2.1)).2.1)).2.1 := kIt_r hb7 (show 0 ≤ (kLt true bg bc ((kLt false bg bc ((kWd 10 bg bc ps).2.1)).2.1)).2.1 ∧ (kLt true bg bc ((kLt false bg bc ((kWd 10 bg bc ps).2.1)).2.1)).2.1 ≤ bc by omega) (2, 2)
          have hkv4 := kNm_v hb7 (show 0 ≤ (kLt true bg bc ((kLt false bg bc ((kWd 10 bg bc ps).2.1)).2.1)).2.1 ∧ (kLt true bg bc ((kLt false bg bc ((kWd 10 bg bc ps).2.1)).2.1)).2.1 ≤ bc by omega) hu_11 (by omega)
          have hK8 : (kCh bg bc [(0, 10), (1, 0), (1, 1), (2, 2)] 1 (ps, kT0)).1 = true ∧ (kCh bg bc [(0, 10), (1, 0), (1, 1), (2, 2)] 1 (ps, kT0)).2.1 = (kNm 2 bg bc ((kLt true bg bc ((kLt false bg bc ((kWd 10 bg bc ps).2.1)).2.1)).2.1)).2.1 ∧ (kCh bg bc [(0, 10), (1, 0), (1, 1), (2, 2)] 1 (ps, kT0)).2.2 1 = (kLt false bg bc ((kWd 10 bg bc ps).2.1)).2.2 1 ∧ (kCh bg bc [(0, 10), (1, 0), (1, 1), (2, 2)] 1 (ps, kT0)).2.2 2 = (kLt true bg bc ((kLt false bg bc ((kWd 10 bg bc ps).2.1)).2.1)).2.2 1 ∧ (kCh bg bc [(0, 10), (1, 0), (1, 1), (2, 2)] 1 (ps, kT0)).2.2 3 = (kNm 2 bg bc ((kLt true bg bc ((kLt false bg bc ((kWd 10 bg bc ps).2.1)).2.1)).2.1)).2.2 1 := by rw [hch4]; exact ⟨rfl, rfl, rfl, rfl, rfl⟩
          refine lv_istore_n (lv' := [(3, iv ((kNm 2 bg bc ((kLt true bg bc ((kLt false bg bc ((kWd 10 bg bc ps).2.1)).2.1)).2.1)).2.2 1)), (2, iv ((kLt true bg bc ((kLt false bg bc ((kWd 10 bg bc ps).2.1)).2.1)).2.2 1)), (1, iv ((kLt false bg bc ((kWd 10 bg bc ps).2.1)).2.2 1)), (0, .ref pr)]) hx hb dX4_recipe_23 rfl hl (by decide) rfl (fun ls hl => ?_)
          refine lv_iload_n hx hb dX4_recipe_24 rfl (lv_at hl 2 rfl) ?_
          refine lv_iload_n hx hb dX4_recipe_25 rfl (lv_at hl 1 rfl) ?_
          refine lv_iload_n hx hb dX4_recipe_26 rfl (lv_at hl 0 rfl) ?_
          obtain ⟨_, -, -, hL_d_14, -, -⟩ := lam_fact hK (lam_words hts (State.WarmedH.refl s)) ls_13 rfl (by decide +kernel) lk_13
          refine n_indyM (x := ⟨"ClockworkTailor$Parser", "recipe", "()LClockworkTailor$Change;"⟩) (index := 88) (vals := [iv ((kLt false bg bc ((kWd 10 bg bc ps).2.1)).2.2 1), iv ((kLt true bg bc ((kLt false bg bc ((kWd 10 bg bc ps).2.1)).2.1)).2.2 1), iv ((kNm 2 bg bc ((kLt true bg bc ((kLt false bg bc ((kWd 10 bg bc ps).2.1)).2.1)).2.1)).2.2 1)]) (a0 := (3, .inl (fun zk : Nat => iI (if zk = 0 then (kLt false bg bc ((kWd 10 bg bc ps).2.1)).2.2 1 else if zk = 1 then (kLt true bg bc ((kLt false bg bc ((kWd 10 bg bc ps).2.1)).2.1)).2.2 1 else (kNm 2 bg bc ((kLt true bg bc ((kLt false bg bc ((kWd 10 bg bc ps).2.1)).2.1)).2.1)).2.2 1)))) (rest := []) hx hb (hl.1.trans hml.symm) (show s.methodNamed? ⟨"ClockworkTailor$Parser", "recipe", "()LClockworkTailor$Change;"⟩ = some m from B.named) ((hK.kx.1 _ ls_13).1 (by decide)) hL_d_14 (by rfl) rfl rfl (by show [narrow .char (iv ((kLt false bg bc ((kWd 10 bg bc ps).2.1)).2.2 1)), narrow .char (iv ((kLt true bg bc ((kLt false bg bc ((kWd 10 bg bc ps).2.1)).2.1)).2.2 1)), narrow .int (iv ((kNm 2 bg bc ((kLt true bg bc ((kLt false bg bc ((kWd 10 bg bc ps).2.1)).2.1)).2.1)).2.2 1))] = _; rw [nr_c (x := (kLt false bg bc ((kWd 10 bg bc ps).2.1)).2.2 1) (by omega), nr_c (x := (kLt true bg bc ((kLt false bg bc ((kWd 10 bg bc ps).2.1)).2.1)).2.2 1) (by omega)] <;> rfl) (n_fits (by show (fits .char (iv ((kLt false bg bc ((kWd 10 bg bc ps).2.1)).2.2 1)) && (fits .char (iv ((kLt true bg bc ((kLt false bg bc ((kWd 10 bg bc ps).2.1)).2.1)).2.2 1)) && (fits .int (iv ((kNm 2 bg bc ((kLt true bg bc ((kLt false bg bc ((kWd 10 bg bc ps).2.1)).2.1)).2.1)).2.2 1)) && true))) = true; rw [ft_c (x := (kLt false bg bc ((kWd 10 bg bc ps).2.1)).2.2 1) (by omega), ft_c (x := (kLt true bg bc ((kLt false bg bc ((kWd 10 bg bc ps).2.1)).2.1)).2.2 1) (by omega)] <;> rfl)) hP hD hS hA rfl (Nat.le_of_ble_eq_true rfl) (Nat.le_of_ble_eq_true rfl) (Nat.le_of_ble_eq_true rfl) dX4_recipe_27 (fun q_13 H hP hD hS => ?_)
          have hP : va_P E.1 CL (([(pr, .inr (4, [.ref bf, iv ((kNm 2 bg bc ((kLt true bg bc ((kLt false bg bc ((kWd 10 bg bc ps).2.1)).2.1)).2.1)).2.1), .ref al]))] : va_W) ++ ([(bf, .inr (10, [.ref bv, iv 0, iv bm, iv bc]))] : va_W) ++ ([(bv, ia (E.2 3) bn bg)] : va_W) ++ ([(q_13, .inl (E.2 (3000 + 13), 3, .inl (fun zk : Nat => iI (if zk = 0 then (kLt false bg bc ((kWd 10 bg bc ps).2.1)).2.2 1 else if zk = 1 then (kLt true bg bc ((kLt false bg bc ((kWd 10 bg bc ps).2.1)).2.1)).2.2 1 else (kNm 2 bg bc ((kLt true bg bc ((kLt false bg bc ((kWd 10 bg bc ps).2.1)).2.1)).2.1)).2.2 1))))] : va_W)) H := hP
          have hD : va_D A (([(pr, .inr (4, [.ref bf, iv ((kNm 2 bg bc ((kLt true bg bc ((kLt false bg bc ((kWd 10 bg bc ps).2.1)).2.1)).2.1)).2.1), .ref al]))] : va_W) ++ ([(bf, .inr (10, [.ref bv, iv 0, iv bm, iv bc]))] : va_W) ++ ([(bv, ia (E.2 3) bn bg)] : va_W) ++ ([(q_13, .inl (E.2 (3000 + 13), 3, .inl (fun zk : Nat => iI (if zk = 0 then (kLt false bg bc ((kWd 10 bg bc ps).2.1)).2.2 1 else if zk = 1 then (kLt true bg bc ((kLt false bg bc ((kWd 10 bg bc ps).2.1)).2.1)).2.2 1 else (kNm 2 bg bc ((kLt true bg bc ((kLt false bg bc ((kWd 10 bg bc ps).2.1)).2.1)).2.1)).2.2 1))))] : va_W)) := hD
          have w_15 : ((kNm 2 bg bc ((kLt true bg bc ((kLt false bg bc ((kWd 10 bg bc ps).2.1)).2.1)).2.1)).2.1 : Int) = (kCh bg bc [(0, 10), (1, 0), (1, 1), (2, 2)] 1 (ps, kT0)).2.1 := by exact hK8.2.1.symm
          rw [w_15] at hP hD
          have hP : va_P E.1 CL (([(pr, .inr (4, [.ref bf, iv ((kCh bg bc [(0, 10), (1, 0), (1, 1), (2, 2)] 1 (ps, kT0)).2.1), .ref al]))] : va_W) ++ ([(bf, .inr (10, [.ref bv, iv 0, iv bm, iv bc]))] : va_W) ++ ([(bv, ia (E.2 3) bn bg)] : va_W) ++ ([(q_13, .inl (E.2 (3000 + 13), 3, .inl (fun zk : Nat => iI (if zk = 0 then (kLt false bg bc ((kWd 10 bg bc ps).2.1)).2.2 1 else if zk = 1 then (kLt true bg bc ((kLt false bg bc ((kWd 10 bg bc ps).2.1)).2.1)).2.2 1 else (kNm 2 bg bc ((kLt true bg bc ((kLt false bg bc ((kWd 10 bg bc ps).2.1)).2.1)).2.1)).2.2 1))))] : va_W)) H := hP
          have hD : va_D A (([(pr, .inr (4, [.ref bf, iv ((kCh bg bc [(0, 10), (1, 0), (1, 1), (2, 2)] 1 (ps, kT0)).2.1), .ref al]))] : va_W) ++ ([(bf, .inr (10, [.ref bv, iv 0, iv bm, iv bc]))] : va_W) ++ ([(bv, ia (E.2 3) bn bg)] : va_W) ++ ([(q_13, .inl (E.2 (3000 + 13), 3, .inl (fun zk : Nat => iI (if zk = 0 then (kLt false bg bc ((kWd 10 bg bc ps).2.1)).2.2 1 else if zk = 1 then (kLt true bg bc ((kLt false bg bc ((kWd 10 bg bc ps).2.1)).2.1)).2.2 1 else (kNm 2 bg bc ((kLt true bg bc ((kLt false bg bc ((kWd 10 bg bc ps).2.1)).2.1)).2.1)).2.2 1))))] : va_W)) := hD
          have hv0 : (kLt false bg bc ((kWd 10 bg bc ps).2.1)).2.2 1 = (kCh bg bc [(0, 10), (1, 0), (1, 1), (2, 2)] 1 (ps, kT0)).2.2 1 := (hK8.2.2.1).symm
          have hv1 : (kLt true bg bc ((kLt false bg bc ((kWd 10 bg bc ps).2.1)).2.1)).2.2 1 = (kCh bg bc [(0, 10), (1, 0), (1, 1), (2, 2)] 1 (ps, kT0)).2.2 2 := (hK8.2.2.2.1).symm
          have hv2 : (kNm 2 bg bc ((kLt true bg bc ((kLt false bg bc ((kWd 10 bg bc ps).2.1)).2.1)).2.1)).2.2 1 = (kCh bg bc [(0, 10), (1, 0), (1, 1), (2, 2)] 1 (ps, kT0)).2.2 3 := (hK8.2.2.2.2).symm
          rw [hv0, hv1, hv2] at hP hD
          have hP : va_P E.1 CL (([(pr, .inr (4, [.ref bf, iv ((kCh bg bc [(0, 10), (1, 0), (1, 1), (2, 2)] 1 (ps, kT0)).2.1), .ref al]))] : va_W) ++ ([(bf, .inr (10, [.ref bv, iv 0, iv bm, iv bc]))] : va_W) ++ ([(bv, ia (E.2 3) bn bg)] : va_W) ++ ([(q_13, .inl (E.2 (3000 + 13), 3, .inl (fun zk : Nat => iI (if zk = 0 then (kCh bg bc [(0, 10), (1, 0), (1, 1), (2, 2)] 1 (ps, kT0)).2.2 1 else if zk = 1 then (kCh bg bc [(0, 10), (1, 0), (1, 1), (2, 2)] 1 (ps, kT0)).2.2 2 else (kCh bg bc [(0, 10), (1, 0), (1, 1), (2, 2)] 1 (ps, kT0)).2.2 3))))] : va_W)) H := hP
          have hD : va_D A (([(pr, .inr (4, [.ref bf, iv ((kCh bg bc [(0, 10), (1, 0), (1, 1), (2, 2)] 1 (ps, kT0)).2.1), .ref al]))] : va_W) ++ ([(bf, .inr (10, [.ref bv, iv 0, iv bm, iv bc]))] : va_W) ++ ([(bv, ia (E.2 3) bn bg)] : va_W) ++ ([(q_13, .inl (E.2 (3000 + 13), 3, .inl (fun zk : Nat => iI (if zk = 0 then (kCh bg bc [(0, 10), (1, 0), (1, 1), (2, 2)] 1 (ps, kT0)).2.2 1 else if zk = 1 then (kCh bg bc [(0, 10), (1, 0), (1, 1), (2, 2)] 1 (ps, kT0)).2.2 2 else (kCh bg bc [(0, 10), (1, 0), (1, 1), (2, 2)] 1 (ps, kT0)).2.2 3))))] : va_W)) := hD
          refine vx_ret ?_
          refine W.widen (k := 5) (n := 31) (Nat.le_of_ble_eq_true rfl) (Nat.le_of_ble_eq_true rfl) ?_
          exact W.aret hx hb hr (Or.inl ⟨_, rfl⟩) (Or.inr ⟨_, rfl⟩) (fun tt_ ht_ hW_ => ⟨⟨q_13, rfl, hK8.1, by rw [ht_]; exact hP, hD⟩, hS.F ht_⟩) hS.2.2 dX4_recipe_32
set_option maxHeartbeats 2000000 in
set_option maxRecDepth 100000 in
theorem mt_X4_dropping (l : Launch) (E : EE) (pr : Nat) (ps : Int) (al : Nat) (bf : Nat) (bm : Int) (bc : Int) (bv : Nat) (bg : Int → Int)  (bn : Nat) (hst : l.stackTraces = false) (hbb : 0 ≤ bc ∧ bc ≤ (bn : Int)) (hbn : bn ≤ 64) (hb7 : B7 bg) (hps : 0 ≤ ps ∧ ps ≤ bc) (sz : Nat) : vx_Met l yX4_dropping (ws_ yX4_dropping cX4_dropping 2 (some (.object "ClockworkTailor$Change"))) { frames := 8, cells := 3, slots := 15, locals := 3073 } (va_Pc [.ref pr] (UX E (([(pr, .inr (4, [.ref bf, iv ps, .ref al]))] : va_W) ++ ([(bf, .inr (10, [.ref bv, iv 0, iv bm, iv bc]))] : va_W) ++ ([(bv, ia (E.2 3) bn bg)] : va_W)) sz)) (UQxy E (fun u : Nat => (kCh bg bc [(0, 11), (1, 0)] 1 (ps, kT0)).1 = true) (fun u : Nat => .ref u) (fun u : Nat => ([(pr, .inr (4, [.ref bf, iv ((kCh bg bc [(0, 11), (1, 0)] 1 (ps, kT0)).2.1), .ref al]))] : va_W) ++ ([(bf, .inr (10, [.ref bv, iv 0, iv bm, iv bc]))] : va_W) ++ ([(bv, ia (E.2 3) bn bg)] : va_W) ++ ([(u, .inl (E.2 (3000 + 14), 1, .inl (fun zk : Nat => iI ( (kCh bg bc [(0, 11), (1, 0)] 1 (ps, kT0)).2.2 1))))] : va_W)) (va_A (([(pr, .inr (4, [.ref bf, iv ps, .ref al]))] : va_W) ++ ([(bf, .inr (10, [.ref bv, iv 0, iv bm, iv bc]))] : va_W) ++ ([(bv, ia (E.2 3) bn bg)] : va_W)) sz)) (UXx E (fun (En : String) (u : Unit) => En = "ClockworkTailor$SyntaxError" ∧ (kCh bg bc [(0, 11), (1, 0)] 1 (ps, kT0)).1 = false) (fun u : Unit => ([(pr, .inr (4, [.ref bf, iv ((kCh bg bc [(0, 11), (1, 0)] 1 (ps, kT0)).2.1), .ref al]))] : va_W) ++ ([(bf, .inr (10, [.ref bv, iv 0, iv bm, iv bc]))] : va_W) ++ ([(bv, ia (E.2 3) bn bg)] : va_W)) (fun u : Unit => some (8, [iv (kCh bg bc [(0, 11), (1, 0)] 1 (ps, kT0)).2.1])) (va_A (([(pr, .inr (4, [.ref bf, iv ps, .ref al]))] : va_W) ++ ([(bf, .inr (10, [.ref bv, iv 0, iv bm, iv bc]))] : va_W) ++ ([(bv, ia (E.2 3) bn bg)] : va_W)) sz)) 3 15 (va_A (([(pr, .inr (4, [.ref bf, iv ps, .ref al]))] : va_W) ++ ([(bf, .inr (10, [.ref bv, iv 0, iv bm, iv bc]))] : va_W) ++ ([(bv, ia (E.2 3) bn bg)] : va_W)) sz) := by
  refine vx_ofW (cc := cX4_dropping) (maxL := 2) (ret := (some (.object "ClockworkTailor$Change"))) (by decide) rfl ?_
  intro p e s m args below meth c s₁ B hml htb hv
  obtain ⟨rfl, hsz, hP, hK, hD0, hE⟩ := hv
  have hx := B.exec
  have hb := B.bytes
  have hr := B.returns
  have hts := atoms_spec (ws := (ws_ yX4_dropping cX4_dropping 2 (some (.object "ClockworkTailor$Change")))) B.pre
  have hts : ∀ w ∈ lw_all, w.before _ s = true := fun w h => hts w (List.mem_cons_of_mem _ h)
  have hown : s.vm.findClass RX4 = some m.cls := findClass_of_methodNamed B.named
  have hlocks := B.notSynchronized
  subst hsz
  have hD := hD0.self (sz := s.heap.size)
  generalize hAe : va_A (([(pr, .inr (4, [.ref bf, iv ps, .ref al]))] : va_W) ++ ([(bf, .inr (10, [.ref bv, iv 0, iv bm, iv bc]))] : va_W) ++ ([(bv, ia (E.2 3) bn bg)] : va_W)) s.heap.size = A at hD hE ⊢
  have hA : ∀ q : Nat, s.heap.size ≤ q → A q := fun q h => by rw [← hAe]; exact Or.inr h
  have hS : va_S A s.heap s.heap [] := va_S.rf
  have hl := lv_entry ([.ref pr]) (n := 2) (Nat.le_of_ble_eq_true rfl)
  rw [lg_entry_eq]
  generalize (lg_sl ([.ref pr]) ++ List.replicate (2 - (lg_sl ([.ref pr])).length) Slot.unset).toArray = ls at hl ⊢
  have hl : lv_has ls 2 [(0, .ref pr)] := hl
  have hch0 : (kCh bg bc [(0, 11), (1, 0)] 1 (ps, kT0)) = kCh bg bc [(0, 11), (1, 0)] 1 (ps, kT0) := rfl
  refine lv_aload_n hx hb dX4_dropping_0 rfl (lv_at hl 0 rfl) ?_
  refine va_ldcS hx hb (own := RX4) (tx := "drop") (index := 92) (q := EX E (2 * 11)) hown (hK.ks ("ClockworkTailor$Parser", 92, "drop", 11) (List.mem_of_getElem? (i := 11) rfl)) dX4_dropping_1 ?_
  have hz_1 : s.heap.size ≤ s.heap.size := hS.1
  refine n_txvS (w2 := fun u_2 => ([(pr, .inr (4, [.ref bf, iv ((kWd 11 bg bc ps).2.1), .ref al]))] : va_W) ++ ([(bf, .inr (10, [.ref bv, iv 0, iv bm, iv bc]))] : va_W) ++ ([(bv, ia (E.2 3) bn bg)] : va_W)) (w3 := fun u_3 => ([(pr, .inr (4, [.ref bf, iv ((kWd 11 bg bc ps).2.1), .ref al]))] : va_W) ++ ([(bf, .inr (10, [.ref bv, iv 0, iv bm, iv bc]))] : va_W) ++ ([(bv, ia (E.2 3) bn bg)] : va_W)) (vx_runV (As := [.ref (EX E (2 * 11))]) (rest := []) ⟨hx, hb, hml, hown, hts⟩ (mt_X4_expectWord l E pr ps al bf bm bc bv bg 11 (bn) (by exact hst) (by omega) (by omega) (by assumption) (by omega) (by decide) _) (cwV 1 hts (lw_V q1776 q1778 qs28 q103 q1779) rfl rfl rfl (by decide +kernel) ⟨Nat.le_of_ble_eq_true rfl, Nat.le_of_ble_eq_true rfl⟩) (UX_V hP hK (hD) hE hS (va_A_in hD hS hA) (va_recv hK.1 hP (ci := 4) (q0 := 0) rfl rfl)) rfl rfl hl.1 rfl (lv_room (Nat.le_of_ble_eq_true rfl)) dX4_dropping_3 ⟨Nat.le_of_ble_eq_true rfl, Nat.le_of_ble_eq_true rfl⟩) hP hD hS hA [0, 1, 2] [] [0, 1, 2] [0, 1, 2] rfl rfl rfl rfl rfl (fun _ => rfl) rfl (fun _ => rfl) ?_ ?_
  · intro En ce q9 u_3 H locs hCx hP hD hS hxf hq9 hce hcv hcl
    have hCx : En = "ClockworkTailor$SyntaxError" ∧ (kWd 11 bg bc ps).1 = false := hCx
    have hP : va_P E.1 CL (([(pr, .inr (4, [.ref bf, iv ((kWd 11 bg bc ps).2.1), .ref al]))] : va_W) ++ ([(bf, .inr (10, [.ref bv, iv 0, iv bm, iv bc]))] : va_W) ++ ([(bv, ia (E.2 3) bn bg)] : va_W)) H := hP
    have hD : va_D A (([(pr, .inr (4, [.ref bf, iv ((kWd 11 bg bc ps).2.1), .ref al]))] : va_W) ++ ([(bf, .inr (10, [.ref bv, iv 0, iv bm, iv bc]))] : va_W) ++ ([(bv, ia (E.2 3) bn bg)] : va_W)) := hD
    have hK9 : kFl (kCh bg bc [(0, 11), (1, 0)] 1 (ps, kT0)) ((kWd 11 bg bc ps).2.1) := by
      exact kCh_f hch0 hCx.2
    have hw9 : ((kWd 11 bg bc ps).2.1 : Int) = (kCh bg bc [(0, 11), (1, 0)] 1 (ps, kT0)).2.1 := hK9.2.symm
    have hxf : XF E q9 (some (8, [iv ((kWd 11 bg bc ps).2.1)])) H := hxf
    rw [hw9] at hP hD hxf
    exact n_out () (by exact ⟨hCx.1, hK9.1⟩) hP hD hS hxf (Nat.le_trans hz_1 hq9) hce hcv hcl (fun x hx9 => (htb x hx9).elim) hlocks (Nat.le_of_ble_eq_true rfl) (Nat.le_of_ble_eq_true rfl)
  · intro u_2 H locs hC hP hD hS
    have hu_2 : (kWd 11 bg bc ps).1 = true := hC
    have hP : va_P E.1 CL (([(pr, .inr (4, [.ref bf, iv ((kWd 11 bg bc ps).2.1), .ref al]))] : va_W) ++ ([(bf, .inr (10, [.ref bv, iv 0, iv bm, iv bc]))] : va_W) ++ ([(bv, ia (E.2 3) bn bg)] : va_W)) H := hP
    have hD : va_D A (([(pr, .inr (4, [.ref bf, iv ((kWd 11 bg bc ps).2.1), .ref al]))] : va_W) ++ ([(bf, .inr (10, [.ref bv, iv 0, iv bm, iv bc]))] : va_W) ++ ([(bv, ia (E.2 3) bn bg)] : va_W)) := hD
    have hch1 : (kCh bg bc [(0, 11), (1, 0)] 1 (ps, kT0)) = kCh bg bc [(1, 0)] 1 ((kWd 11 bg bc ps).2.1, kT0) := kCh_t hch0 hu_2
    have hkr1 : 0 ≤ (kWd 11 bg bc ps).2.1 ∧ (kWd 11 bg bc ps).2.1 ≤ bc ∧ ps ≤ (kWd 11 bg bc ps).2.1 := kIt_r hb7 (show 0 ≤ ps ∧ ps ≤ bc by omega) (0, 11)
    refine lv_aload_n hx hb dX4_dropping_6 rfl (lv_at hl 0 rfl) ?_
    refine lv_iconst (v := iI 0) hx hb dX4_dropping_7 rfl ?_
    have hz_4 : s.heap.size ≤ H.size := hS.1
    refine n_txS (x := fun u_5 => (kLt false bg bc ((kWd 11 bg bc ps).2.1)).2.2 1) (w2 := fun u_5 => ([(pr, .inr (4, [.ref bf, iv ((kLt false bg bc ((kWd 11 bg bc ps).2.1)).2.1), .ref al]))] : va_W) ++ ([(bf, .inr (10, [.ref bv, iv 0, iv bm, iv bc]))] : va_W) ++ ([(bv, ia (E.2 3) bn bg)] : va_W)) (w3 := fun u_6 => ([(pr, .inr (4, [.ref bf, iv ((kLt false bg bc ((kWd 11 bg bc ps).2.1)).2.1), .ref al]))] : va_W) ++ ([(bf, .inr (10, [.ref bv, iv 0, iv bm, iv bc]))] : va_W) ++ ([(bv, ia (E.2 3) bn bg)] : va_W)) (vx_runV (As := [iv 0]) (rest := []) ⟨hx, hb, hml, hown, hts⟩ (mt_X4_letter l E pr ((kWd 11 bg bc ps).2.1) al bf bm bc bv bg false (bn) (by exact hst) (by omega) (by omega) (by assumption) (by omega) _) (cwV 1 hts (lw_V q1823 q1825 qs31 q103 q1826) rfl rfl rfl (by decide +kernel) ⟨Nat.le_of_ble_eq_true rfl, Nat.le_of_ble_eq_true rfl⟩) (UX_V hP hK (hD) hE hS (va_A_in hD hS hA) (va_recv hK.1 hP (ci := 4) (q0 := 0) rfl rfl)) rfl rfl hl.1 rfl (lv_room (Nat.le_of_ble_eq_true rfl)) dX4_dropping_8 ⟨Nat.le_of_ble_eq_true rfl, Nat.le_of_ble_eq_true rfl⟩) hP hD hS hA [0, 1, 2] [] [0, 1, 2] [0, 1, 2] rfl rfl rfl rfl rfl (fun _ => rfl) rfl (fun _ => rfl) ?_ ?_
    · intro En ce q9 u_6 H locs hCx hP hD hS hxf hq9 hce hcv hcl
      have hCx : En = "ClockworkTailor$SyntaxError" ∧ (kLt false bg bc ((kWd 11 bg bc ps).2.1)).1 = false := hCx
      have hP : va_P E.1 CL (([(pr, .inr (4, [.ref bf, iv ((kLt false bg bc ((kWd 11 bg bc ps).2.1)).2.1), .ref al]))] : va_W) ++ ([(bf, .inr (10, [.ref bv, iv 0, iv bm, iv bc]))] : va_W) ++ ([(bv, ia (E.2 3) bn bg)] : va_W)) H := hP
      have hD : va_D A (([(pr, .inr (4, [.ref bf, iv ((kLt false bg bc ((kWd 11 bg bc ps).2.1)).2.1), .ref al]))] : va_W) ++ ([(bf, .inr (10, [.ref bv, iv 0, iv bm, iv bc]))] : va_W) ++ ([(bv, ia (E.2 3) bn bg)] : va_W)) := hD
      have hK9 : kFl (kCh bg bc [(0, 11), (1, 0)] 1 (ps, kT0)) ((kLt false bg bc ((kWd 11 bg bc ps).2.1)).2.1) := by
        exact kCh_f hch1 hCx.2
      have hw9 : ((kLt false bg bc ((kWd 11 bg bc ps).2.1)).2.1 : Int) = (kCh bg bc [(0, 11), (1, 0)] 1 (ps, kT0)).2.1 := hK9.2.symm
      have hxf : XF E q9 (some (8, [iv ((kLt false bg bc ((kWd 11 bg bc ps).2.1)).2.1)])) H := hxf
      rw [hw9] at hP hD hxf
      exact n_out () (by exact ⟨hCx.1, hK9.1⟩) hP hD hS hxf (Nat.le_trans hz_4 hq9) hce hcv hcl (fun x hx9 => (htb x hx9).elim) hlocks (Nat.le_of_ble_eq_true rfl) (Nat.le_of_ble_eq_true rfl)
    · intro u_5 H locs hC hP hD hS
      have hu_5 : (kLt false bg bc ((kWd 11 bg bc ps).2.1)).1 = true := hC
      have hP : va_P E.1 CL (([(pr, .inr (4, [.ref bf, iv ((kLt false bg bc ((kWd 11 bg bc ps).2.1)).2.1), .ref al]))] : va_W) ++ ([(bf, .inr (10, [.ref bv, iv 0, iv bm, iv bc]))] : va_W) ++ ([(bv, ia (E.2 3) bn bg)] : va_W)) H := hP
      have hD : va_D A (([(pr, .inr (4, [.ref bf, iv ((kLt false bg bc ((kWd 11 bg bc ps).2.1)).2.1), .ref al]))] : va_W) ++ ([(bf, .inr (10, [.ref bv, iv 0, iv bm, iv bc]))] : va_W) ++ ([(bv, ia (E.2 3) bn bg)] : va_W)) := hD
      have hch2 : (kCh bg bc [(0, 11), (1, 0)] 1 (ps, kT0)) = kCh bg bc [] 2 ((kLt false bg bc ((kWd 11 bg bc ps).2.1)).2.1, (ui kT0 1 ((kLt false bg bc ((kWd 11 bg bc ps).2.1)).2.2 1))) := kCh_t hch1 hu_5
      have hkr2 : 0 ≤ (kLt false bg bc ((kWd 11 bg bc ps).2.1)).2.1 ∧ (kLt false bg bc ((kWd 11 bg bc ps).2.1)).2.1 ≤ bc ∧ (kWd 11 bg bc ps).2.1 ≤ (kLt false bg bc ((kWd 11 bg bc ps).2.1)).2.1 := kIt_r hb7 (show 0 ≤ (kWd 11 bg bc ps).2.1 ∧ (kWd 11 bg bc ps).2.1 ≤ bc by omega) (1, 0)
      have hkv2 := kLt_v hb7 hu_5
      have hK8 : (kCh bg bc [(0, 11), (1, 0)] 1 (ps, kT0)).1 = true ∧ (kCh bg bc [(0, 11), (1, 0)] 1 (ps, kT0)).2.1 = (kLt false bg bc ((kWd 11 bg bc ps).2.1)).2.1 ∧ (kCh bg bc [(0, 11), (1, 0)] 1 (ps, kT0)).2.2 1 = (kLt false bg bc ((kWd 11 bg bc ps).2.1)).2.2 1 := by rw [hch2]; exact ⟨rfl, rfl, rfl⟩
      refine lv_istore_n (lv' := [(1, iv ((kLt false bg bc ((kWd 11 bg bc ps).2.1)).2.2 1)), (0, .ref pr)]) hx hb dX4_dropping_11 rfl hl (by decide) rfl (fun ls hl => ?_)
      refine lv_iload_n hx hb dX4_dropping_12 rfl (lv_at hl 0 rfl) ?_
      obtain ⟨_, -, -, hL_d_8, -, -⟩ := lam_fact hK (lam_words hts (State.WarmedH.refl s)) ls_14 rfl (by decide +kernel) lk_14
      refine n_indyM (x := ⟨"ClockworkTailor$Parser", "dropping", "()LClockworkTailor$Change;"⟩) (index := 94) (vals := [iv ((kLt false bg bc ((kWd 11 bg bc ps).2.1)).2.2 1)]) (a0 := (1, .inl (fun zk : Nat => iI ( (kLt false bg bc ((kWd 11 bg bc ps).2.1)).2.2 1)))) (rest := []) hx hb (hl.1.trans hml.symm) (show s.methodNamed? ⟨"ClockworkTailor$Parser", "dropping", "()LClockworkTailor$Change;"⟩ = some m from B.named) ((hK.kx.1 _ ls_14).1 (by decide)) hL_d_8 (by rfl) rfl rfl (by show [narrow .char (iv ((kLt false bg bc ((kWd 11 bg bc ps).2.1)).2.2 1))] = _; rw [nr_c (x := (kLt false bg bc ((kWd 11 bg bc ps).2.1)).2.2 1) (by omega)] <;> rfl) (n_fits (by show (fits .char (iv ((kLt false bg bc ((kWd 11 bg bc ps).2.1)).2.2 1)) && true) = true; rw [ft_c (x := (kLt false bg bc ((kWd 11 bg bc ps).2.1)).2.2 1) (by omega)] <;> rfl)) hP hD hS hA rfl (Nat.le_of_ble_eq_true rfl) (Nat.le_of_ble_eq_true rfl) (Nat.le_of_ble_eq_true rfl) dX4_dropping_13 (fun q_7 H hP hD hS => ?_)
      have hP : va_P E.1 CL (([(pr, .inr (4, [.ref bf, iv ((kLt false bg bc ((kWd 11 bg bc ps).2.1)).2.1), .ref al]))] : va_W) ++ ([(bf, .inr (10, [.ref bv, iv 0, iv bm, iv bc]))] : va_W) ++ ([(bv, ia (E.2 3) bn bg)] : va_W) ++ ([(q_7, .inl (E.2 (3000 + 14), 1, .inl (fun zk : Nat => iI ( (kLt false bg bc ((kWd 11 bg bc ps).2.1)).2.2 1))))] : va_W)) H := hP
      have hD : va_D A (([(pr, .inr (4, [.ref bf, iv ((kLt false bg bc ((kWd 11 bg bc ps).2.1)).2.1), .ref al]))] : va_W) ++ ([(bf, .inr (10, [.ref bv, iv 0, iv bm, iv bc]))] : va_W) ++ ([(bv, ia (E.2 3) bn bg)] : va_W) ++ ([(q_7, .inl (E.2 (3000 + 14), 1, .inl (fun zk : Nat => iI ( (kLt false bg bc ((kWd 11 bg bc ps).2.1)).2.2 1))))] : va_W)) := hD
      have w_9 : ((kLt false bg bc ((kWd 11 bg bc ps).2.1)).2.1 : Int) = (kCh bg bc [(0, 11), (1, 0)] 1 (ps, kT0)).2.1 := by exact hK8.2.1.symm
      rw [w_9] at hP hD
      have hP : va_P E.1 CL (([(pr, .inr (4, [.ref bf, iv ((kCh bg bc [(0, 11), (1, 0)] 1 (ps, kT0)).2.1), .ref al]))] : va_W) ++ ([(bf, .inr (10, [.ref bv, iv 0, iv bm, iv bc]))] : va_W) ++ ([(bv, ia (E.2 3) bn bg)] : va_W) ++ ([(q_7, .inl (E.2 (3000 + 14), 1, .inl (fun zk : Nat => iI ( (kLt false bg bc ((kWd 11 bg bc ps).2.1)).2.2 1))))] : va_W)) H := hP
      have hD : va_D A (([(pr, .inr (4, [.ref bf, iv ((kCh bg bc [(0, 11), (1, 0)] 1 (ps, kT0)).2.1), .ref al]))] : va_W) ++ ([(bf, .inr (10, [.ref bv, iv 0, iv bm, iv bc]))] : va_W) ++ ([(bv, ia (E.2 3) bn bg)] : va_W) ++ ([(q_7, .inl (E.2 (3000 + 14), 1, .inl (fun zk : Nat => iI ( (kLt false bg bc ((kWd 11 bg bc ps).2.1)).2.2 1))))] : va_W)) := hD
      have hv0 : (kLt false bg bc ((kWd 11 bg bc ps).2.1)).2.2 1 = (kCh bg bc [(0, 11), (1, 0)] 1 (ps, kT0)).2.2 1 := (hK8.2.2).symm
      rw [hv0] at hP hD
      have hP : va_P E.1 CL (([(pr, .inr (4, [.ref bf, iv ((kCh bg bc [(0, 11), (1, 0)] 1 (ps, kT0)).2.1), .ref al]))] : va_W) ++ ([(bf, .inr (10, [.ref bv, iv 0, iv bm, iv bc]))] : va_W) ++ ([(bv, ia (E.2 3) bn bg)] : va_W) ++ ([(q_7, .inl (E.2 (3000 + 14), 1, .inl (fun zk : Nat => iI ( (kCh bg bc [(0, 11), (1, 0)] 1 (ps, kT0)).2.2 1))))] : va_W)) H := hP
      have hD : va_D A (([(pr, .inr (4, [.ref bf, iv ((kCh bg bc [(0, 11), (1, 0)] 1 (ps, kT0)).2.1), .ref al]))] : va_W) ++ ([(bf, .inr (10, [.ref bv, iv 0, iv bm, iv bc]))] : va_W) ++ ([(bv, ia (E.2 3) bn bg)] : va_W) ++ ([(q_7, .inl (E.2 (3000 + 14), 1, .inl (fun zk : Nat => iI ( (kCh bg bc [(0, 11), (1, 0)] 1 (ps, kT0)).2.2 1))))] : va_W)) := hD
      refine vx_ret ?_
      refine W.widen (k := 3) (n := 15) (Nat.le_of_ble_eq_true rfl) (Nat.le_of_ble_eq_true rfl) ?_
      exact W.aret hx hb hr (Or.inl ⟨_, rfl⟩) (Or.inr ⟨_, rfl⟩) (fun tt_ ht_ hW_ => ⟨⟨q_7, rfl, hK8.1, by rw [ht_]; exact hP, hD⟩, hS.F ht_⟩) hS.2.2 dX4_dropping_18
set_option maxHeartbeats 2000000 in
set_option maxRecDepth 100000 in
theorem mt_X4_needing_0 (l : Launch) (E : EE) (pr : Nat) (ps : Int) (al : Nat) (bf : Nat) (bm : Int) (bc : Int) (bv : Nat) (bg : Int → Int)  (bn : Nat) (hst : l.stackTraces = false) (hbb : 0 ≤ bc ∧ bc ≤ (bn : Int)) (hbn : bn ≤ 64) (hb7 : B7 bg) (hps : 0 ≤ ps ∧ ps ≤ bc) (sz : Nat) : vx_Met l yX4_needing (ws_ yX4_needing cX4_needing 4 (some (.object "ClockworkTailor$Change"))) { frames := 8, cells := 4, slots := 24, locals := 3075 } (va_Pc [.ref pr, iv 0] (UX E (([(pr, .inr (4, [.ref bf, iv ps, .ref al]))] : va_W) ++ ([(bf, .inr (10, [.ref bv, iv 0, iv bm, iv bc]))] : va_W) ++ ([(bv, ia (E.2 3) bn bg)] : va_W)) sz)) (UQxy E (fun u : Nat => (kCh bg bc [(0, 13), (1, 0), (1, 0)] 1 (ps, kT0)).1 = true) (fun u : Nat => .ref u) (fun u : Nat => ([(pr, .inr (4, [.ref bf, iv ((kCh bg bc [(0, 13), (1, 0), (1, 0)] 1 (ps, kT0)).2.1), .ref al]))] : va_W) ++ ([(bf, .inr (10, [.ref bv, iv 0, iv bm, iv bc]))] : va_W) ++ ([(bv, ia (E.2 3) bn bg)] : va_W) ++ ([(u, .inl (E.2 (3000 + 15), 3, .inl (fun zk : Nat => iI (if zk = 0 then (kCh bg bc [(0, 13), (1, 0), (1, 0)] 1 (ps, kT0)).2.2 1 else if zk = 1 then (kCh bg bc [(0, 13), (1, 0), (1, 0)] 1 (ps, kT0)).2.2 2 else 0))))] : va_W)) (va_A (([(pr, .inr (4, [.ref bf, iv ps, .ref al]))] : va_W) ++ ([(bf, .inr (10, [.ref bv, iv 0, iv bm, iv bc]))] : va_W) ++ ([(bv, ia (E.2 3) bn bg)] : va_W)) sz)) (UXx E (fun (En : String) (u : Unit) => En = "ClockworkTailor$SyntaxError" ∧ (kCh bg bc [(0, 13), (1, 0), (1, 0)] 1 (ps, kT0)).1 = false) (fun u : Unit => ([(pr, .inr (4, [.ref bf, iv ((kCh bg bc [(0, 13), (1, 0), (1, 0)] 1 (ps, kT0)).2.1), .ref al]))] : va_W) ++ ([(bf, .inr (10, [.ref bv, iv 0, iv bm, iv bc]))] : va_W) ++ ([(bv, ia (E.2 3) bn bg)] : va_W)) (fun u : Unit => some (8, [iv (kCh bg bc [(0, 13), (1, 0), (1, 0)] 1 (ps, kT0)).2.1])) (va_A (([(pr, .inr (4, [.ref bf, iv ps, .ref al]))] : va_W) ++ ([(bf, .inr (10, [.ref bv, iv 0, iv bm, iv bc]))] : va_W) ++ ([(bv, ia (E.2 3) bn bg)] : va_W)) sz)) 4 24 (va_A (([(pr, .inr (4, [.ref bf, iv ps, .ref al]))] : va_W) ++ ([(bf, .inr (10, [.ref bv, iv 0, iv bm, iv bc]))] : va_W) ++ ([(bv, ia (E.2 3) bn bg)] : va_W)) sz) := by
  refine vx_ofW (cc := cX4_needing) (maxL := 4) (ret := (some (.object "ClockworkTailor$Change"))) (by decide) rfl ?_
  intro p e s m args below meth c s₁ B hml htb hv
  obtain ⟨rfl, hsz, hP, hK, hD0, hE⟩ := hv
  have hx := B.exec
  have hb := B.bytes
  have hr := B.returns
  have hts := atoms_spec (ws := (ws_ yX4_needing cX4_needing 4 (some (.object "ClockworkTailor$Change")))) B.pre
  have hts : ∀ w ∈ lw_all, w.before _ s = true := fun w h => hts w (List.mem_cons_of_mem _ h)
  have hown : s.vm.findClass RX4 = some m.cls := findClass_of_methodNamed B.named
  have hlocks := B.notSynchronized
  subst hsz
  have hD := hD0.self (sz := s.heap.size)
  generalize hAe : va_A (([(pr, .inr (4, [.ref bf, iv ps, .ref al]))] : va_W) ++ ([(bf, .inr (10, [.ref bv, iv 0, iv bm, iv bc]))] : va_W) ++ ([(bv, ia (E.2 3) bn bg)] : va_W)) s.heap.size = A at hD hE ⊢
  have hA : ∀ q : Nat, s.heap.size ≤ q → A q := fun q h => by rw [← hAe]; exact Or.inr h
  have hS : va_S A s.heap s.heap [] := va_S.rf
  have hl := lv_entry ([.ref pr, iv 0]) (n := 4) (Nat.le_of_ble_eq_true rfl)
  rw [lg_entry_eq]
  generalize (lg_sl ([.ref pr, iv 0]) ++ List.replicate (4 - (lg_sl ([.ref pr, iv 0])).length) Slot.unset).toArray = ls at hl ⊢
  have hl : lv_has ls 4 [(0, .ref pr), (1, iv 0)] := hl
  have hch0 : (kCh bg bc [(0, 13), (1, 0), (1, 0)] 1 (ps, kT0)) = kCh bg bc [(0, 13), (1, 0), (1, 0)] 1 (ps, kT0) := rfl
  refine lv_aload_n hx hb dX4_needing_0 rfl (lv_at hl 0 rfl) ?_
  refine lv_iload_n hx hb dX4_needing_1 rfl (lv_at hl 1 rfl) ?_
  refine n_if_eq (tgt := 10) hx hb dX4_needing_2 (by decide) (by omega) (fun _ => ?_) (fun c_1 => absurd c_1 (by decide))
  refine va_ldcS hx hb (own := RX4) (tx := "need") (index := 99) (q := EX E (2 * 13)) hown (hK.ks ("ClockworkTailor$Parser", 99, "need", 13) (List.mem_of_getElem? (i := 13) rfl)) dX4_needing_10 ?_
  have hz_2 : s.heap.size ≤ s.heap.size := hS.1
  refine n_txvS (w2 := fun u_3 => ([(pr, .inr (4, [.ref bf, iv ((kWd 13 bg bc ps).2.1), .ref al]))] : va_W) ++ ([(bf, .inr (10, [.ref bv, iv 0, iv bm, iv bc]))] : va_W) ++ ([(bv, ia (E.2 3) bn bg)] : va_W)) (w3 := fun u_4 => ([(pr, .inr (4, [.ref bf, iv ((kWd 13 bg bc ps).2.1), .ref al]))] : va_W) ++ ([(bf, .inr (10, [.ref bv, iv 0, iv bm, iv bc]))] : va_W) ++ ([(bv, ia (E.2 3) bn bg)] : va_W)) (vx_runV (As := [.ref (EX E (2 * 13))]) (rest := []) ⟨hx, hb, hml, hown, hts⟩ (mt_X4_expectWord l E pr ps al bf bm bc bv bg 13 (bn) (by exact hst) (by omega) (by omega) (by assumption) (by omega) (by decide) _) (cwV 1 hts (lw_V q1776 q1778 qs28 q103 q1779) rfl rfl rfl (by decide +kernel) ⟨Nat.le_of_ble_eq_true rfl, Nat.le_of_ble_eq_true rfl⟩) (UX_V hP hK (hD) hE hS (va_A_in hD hS hA) (va_recv hK.1 hP (ci := 4) (q0 := 0) rfl rfl)) rfl rfl hl.1 rfl (lv_room (Nat.le_of_ble_eq_true rfl)) dX4_needing_12 ⟨Nat.le_of_ble_eq_true rfl, Nat.le_of_ble_eq_true rfl⟩) hP hD hS hA [0, 1, 2] [] [0, 1, 2] [0, 1, 2] rfl rfl rfl rfl rfl (fun _ => rfl) rfl (fun _ => rfl) ?_ ?_
  · intro En ce q9 u_4 H locs hCx hP hD hS hxf hq9 hce hcv hcl
    have hCx : En = "ClockworkTailor$SyntaxError" ∧ (kWd 13 bg bc ps).1 = false := hCx
    have hP : va_P E.1 CL (([(pr, .inr (4, [.ref bf, iv ((kWd 13 bg bc ps).2.1), .ref al]))] : va_W) ++ ([(bf, .inr (10, [.ref bv, iv 0, iv bm, iv bc]))] : va_W) ++ ([(bv, ia (E.2 3) bn bg)] : va_W)) H := hP
    have hD : va_D A (([(pr, .inr (4, [.ref bf, iv ((kWd 13 bg bc ps).2.1), .ref al]))] : va_W) ++ ([(bf, .inr (10, [.ref bv, iv 0, iv bm, iv bc]))] : va_W) ++ ([(bv, ia (E.2 3) bn bg)] : va_W)) := hD
    have hK9 : kFl (kCh bg bc [(0, 13), (1, 0), (1, 0)] 1 (ps, kT0)) ((kWd 13 bg bc ps).2.1) := by
      exact kCh_f hch0 hCx.2
    have hw9 : ((kWd 13 bg bc ps).2.1 : Int) = (kCh bg bc [(0, 13), (1, 0), (1, 0)] 1 (ps, kT0)).2.1 := hK9.2.symm
    have hxf : XF E q9 (some (8, [iv ((kWd 13 bg bc ps).2.1)])) H := hxf
    rw [hw9] at hP hD hxf
    exact n_out () (by exact ⟨hCx.1, hK9.1⟩) hP hD hS hxf (Nat.le_trans hz_2 hq9) hce hcv hcl (fun x hx9 => (htb x hx9).elim) hlocks (Nat.le_of_ble_eq_true rfl) (Nat.le_of_ble_eq_true rfl)
  · intro u_3 H locs hC hP hD hS
    have hu_3 : (kWd 13 bg bc ps).1 = true := hC
    have hP : va_P E.1 CL (([(pr, .inr (4, [.ref bf, iv ((kWd 13 bg bc ps).2.1), .ref al]))] : va_W) ++ ([(bf, .inr (10, [.ref bv, iv 0, iv bm, iv bc]))] : va_W) ++ ([(bv, ia (E.2 3) bn bg)] : va_W)) H := hP
    have hD : va_D A (([(pr, .inr (4, [.ref bf, iv ((kWd 13 bg bc ps).2.1), .ref al]))] : va_W) ++ ([(bf, .inr (10, [.ref bv, iv 0, iv bm, iv bc]))] : va_W) ++ ([(bv, ia (E.2 3) bn bg)] : va_W)) := hD
    have hch1 : (kCh bg bc [(0, 13), (1, 0), (1, 0)] 1 (ps, kT0)) = kCh bg bc [(1, 0), (1, 0)] 1 ((kWd 13 bg bc ps).2.1, kT0) := kCh_t hch0 hu_3
    have hkr1 : 0 ≤ (kWd 13 bg bc ps).2.1 ∧ (kWd 13 bg bc ps).2.1 ≤ bc ∧ ps ≤ (kWd 13 bg bc ps).2.1 := kIt_r hb7 (show 0 ≤ ps ∧ ps ≤ bc by omega) (0, 13)
    refine lv_aload_n hx hb dX4_needing_15 rfl (lv_at hl 0 rfl) ?_
    refine lv_iconst (v := iI 0) hx hb dX4_needing_16 rfl ?_
    have hz_5 : s.heap.size ≤ H.size := hS.1
    refine n_txS (x := fun u_6 => (kLt false bg bc ((kWd 13 bg bc ps).2.1)).2.2 1) (w2 := fun u_6 => ([(pr, .inr (4, [.ref bf, iv ((kLt false bg bc ((kWd 13 bg bc ps).2.1)).2.1), .ref al]))] : va_W) ++ ([(bf, .inr (10, [.ref bv, iv 0, iv bm, iv bc]))] : va_W) ++ ([(bv, ia (E.2 3) bn bg)] : va_W)) (w3 := fun u_7 => ([(pr, .inr (4, [.ref bf, iv ((kLt false bg bc ((kWd 13 bg bc ps).2.1)).2.1), .ref al]))] : va_W) ++ ([(bf, .inr (10, [.ref bv, iv 0, iv bm, iv bc]))] : va_W) ++ ([(bv, ia (E.2 3) bn bg)] : va_W)) (vx_runV (As := [iv 0]) (rest := []) ⟨hx, hb, hml, hown, hts⟩ (mt_X4_letter l E pr ((kWd 13 bg bc ps).2.1) al bf bm bc bv bg false (bn) (by exact hst) (by omega) (by omega) (by assumption) (by omega) _) (cwV 1 hts (lw_V q1823 q1825 qs31 q103 q1826) rfl rfl rfl (by decide +kernel) ⟨Nat.le_of_ble_eq_true rfl, Nat.le_of_ble_eq_true rfl⟩) (UX_V hP hK (hD) hE hS (va_A_in hD hS hA) (va_recv hK.1 hP (ci := 4) (q0 := 0) rfl rfl)) rfl rfl hl.1 rfl (lv_room (Nat.le_of_ble_eq_true rfl)) dX4_needing_17 ⟨Nat.le_of_ble_eq_true rfl, Nat.le_of_ble_eq_true rfl⟩) hP hD hS hA [0, 1, 2] [] [0, 1, 2] [0, 1, 2] rfl rfl rfl rfl rfl (fun _ => rfl) rfl (fun _ => rfl) ?_ ?_
    · intro En ce q9 u_7 H locs hCx hP hD hS hxf hq9 hce hcv hcl
      have hCx : En = "ClockworkTailor$SyntaxError" ∧ (kLt false bg bc ((kWd 13 bg bc ps).2.1)).1 = false := hCx
      have hP : va_P E.1 CL (([(pr, .inr (4, [.ref bf, iv ((kLt false bg bc ((kWd 13 bg bc ps).2.1)).2.1), .ref al]))] : va_W) ++ ([(bf, .inr (10, [.ref bv, iv 0, iv bm, iv bc]))] : va_W) ++ ([(bv, ia (E.2 3) bn bg)] : va_W)) H := hP
      have hD : va_D A (([(pr, .inr (4, [.ref bf, iv ((kLt false bg bc ((kWd 13 bg bc ps).2.1)).2.1), .ref al]))] : va_W) ++ ([(bf, .inr (10, [.ref bv, iv 0, iv bm, iv bc]))] : va_W) ++ ([(bv, ia (E.2 3) bn bg)] : va_W)) := hD
      have hK9 : kFl (kCh bg bc [(0, 13), (1, 0), (1, 0)] 1 (ps, kT0)) ((kLt false bg bc ((kWd 13 bg bc ps).2.1)).2.1) := by
        exact kCh_f hch1 hCx.2
      have hw9 : ((kLt false bg bc ((kWd 13 bg bc ps).2.1)).2.1 : Int) = (kCh bg bc [(0, 13), (1, 0), (1, 0)] 1 (ps, kT0)).2.1 := hK9.2.symm
      have hxf : XF E q9 (some (8, [iv ((kLt false bg bc ((kWd 13 bg bc ps).2.1)).2.1)])) H := hxf
      rw [hw9] at hP hD hxf
      exact n_out () (by exact ⟨hCx.1, hK9.1⟩) hP hD hS hxf (Nat.le_trans hz_5 hq9) hce hcv hcl (fun x hx9 => (htb x hx9).elim) hlocks (Nat.le_of_ble_eq_true rfl) (Nat.le_of_ble_eq_true rfl)
    · intro u_6 H locs hC hP hD hS
      have hu_6 : (kLt false bg bc ((kWd 13 bg bc ps).2.1)).1 = true := hC
      have hP : va_P E.1 CL (([(pr, .inr (4, [.ref bf, iv ((kLt false bg bc ((kWd 13 bg bc ps).2.1)).2.1), .ref al]))] : va_W) ++ ([(bf, .inr (10, [.ref bv, iv 0, iv bm, iv bc]))] : va_W) ++ ([(bv, ia (E.2 3) bn bg)] : va_W)) H := hP
      have hD : va_D A (([(pr, .inr (4, [.ref bf, iv ((kLt false bg bc ((kWd 13 bg bc ps).2.1)).2.1), .ref al]))] : va_W) ++ ([(bf, .inr (10, [.ref bv, iv 0, iv bm, iv bc]))] : va_W) ++ ([(bv, ia (E.2 3) bn bg)] : va_W)) := hD
      have hch2 : (kCh bg bc [(0, 13), (1, 0), (1, 0)] 1 (ps, kT0)) = kCh bg bc [(1, 0)] 2 ((kLt false bg bc ((kWd 13 bg bc ps).2.1)).2.1, (ui kT0 1 ((kLt false bg bc ((kWd 13 bg bc ps).2.1)).2.2 1))) := kCh_t hch1 hu_6
      have hkr2 : 0 ≤ (kLt false bg bc ((kWd 13 bg bc ps).2.1)).2.1 ∧ (kLt false bg bc ((kWd 13 bg bc ps).2.1)).2.1 ≤ bc ∧ (kWd 13 bg bc ps).2.1 ≤ (kLt false bg bc ((kWd 13 bg bc ps).2.1)).2.1 := kIt_r hb7 (show 0 ≤ (kWd 13 bg bc ps).2.1 ∧ (kWd 13 bg bc ps).2.1 ≤ bc by omega) (1, 0)
      have hkv2 := kLt_v hb7 hu_6
      refine lv_istore_n (lv' := [(2, iv ((kLt false bg bc ((kWd 13 bg bc ps).2.1)).2.2 1)), (0, .ref pr), (1, iv 0)]) hx hb dX4_needing_20 rfl hl (by decide) rfl (fun ls hl => ?_)
      refine lv_aload_n hx hb dX4_needing_21 rfl (lv_at hl 1 rfl) ?_
      refine lv_iconst (v := iI 0) hx hb dX4_needing_22 rfl ?_
      have hz_8 : s.heap.size ≤ H.size := hS.1
      refine n_txS (x := fun u_9 => (kLt false bg bc ((kLt false bg bc ((kWd 13 bg bc ps).2.1)).2.1)).2.2 1) (w2 := fun u_9 => ([(pr, .inr (4, [.ref bf, iv ((kLt false bg bc ((kLt false bg bc ((kWd 13 bg bc ps).2.1)).2.1)).2.1), .ref al]))] : va_W) ++ ([(bf, .inr (10, [.ref bv, iv 0, iv bm, iv bc]))] : va_W) ++ ([(bv, ia (E.2 3) bn bg)] : va_W)) (w3 := fun u_10 => ([(pr, .inr (4, [.ref bf, iv ((kLt false bg bc ((kLt false bg bc ((kWd 13 bg bc ps).2.1)).2.1)).2.1), .ref al]))] : va_W) ++ ([(bf, .inr (10, [.ref bv, iv 0, iv bm, iv bc]))] : va_W) ++ ([(bv, ia (E.2 3) bn bg)] : va_W)) (vx_runV (As := [iv 0]) (rest := []) ⟨hx, hb, hml, hown, hts⟩ (mt_X4_letter l E pr ((kLt false bg bc ((kWd 13 bg bc ps).2.1)).2.1) al bf bm bc bv bg false (bn) (by exact hst) (by omega) (by omega) (by assumption) (by omega) _) (cwV 1 hts (lw_V q1823 q1825 qs31 q103 q1826) rfl rfl rfl (by decide +kernel) ⟨Nat.le_of_ble_eq_true rfl, Nat.le_of_ble_eq_true rfl⟩) (UX_V hP hK (hD) hE hS (va_A_in hD hS hA) (va_recv hK.1 hP (ci := 4) (q0 := 0) rfl rfl)) rfl rfl hl.1 rfl (lv_room (Nat.le_of_ble_eq_true rfl)) dX4_needing_23 ⟨Nat.le_of_ble_eq_true rfl, Nat.le_of_ble_eq_true rfl⟩) hP hD hS hA [0, 1, 2] [] [0, 1, 2] [0, 1, 2] rfl rfl rfl rfl rfl (fun _ => rfl) rfl (fun _ => rfl) ?_ ?_
      · intro En ce q9 u_10 H locs hCx hP hD hS hxf hq9 hce hcv hcl
        have hCx : En = "ClockworkTailor$SyntaxError" ∧ (kLt false bg bc ((kLt false bg bc ((kWd 13 bg bc ps).2.1)).2.1)).1 = false := hCx
        have hP : va_P E.1 CL (([(pr, .inr (4, [.ref bf, iv ((kLt false bg bc ((kLt false bg bc ((kWd 13 bg bc ps).2.1)).2.1)).2.1), .ref al]))] : va_W) ++ ([(bf, .inr (10, [.ref bv, iv 0, iv bm, iv bc]))] : va_W) ++ ([(bv, ia (E.2 3) bn bg)] : va_W)) H := hP
        have hD : va_D A (([(pr, .inr (4, [.ref bf, iv ((kLt false bg bc ((kLt false bg bc ((kWd 13 bg bc ps).2.1)).2.1)).2.1), .ref al]))] : va_W) ++ ([(bf, .inr (10, [.ref bv, iv 0, iv bm, iv bc]))] : va_W) ++ ([(bv, ia (E.2 3) bn bg)] : va_W)) := hD
        have hK9 : kFl (kCh bg bc [(0, 13), (1, 0), (1, 0)] 1 (ps, kT0)) ((kLt false bg bc ((kLt false bg bc ((kWd 13 bg bc ps).2.1)).2.1)).2.1) := by
          exact kCh_f hch2 hCx.2
        have hw9 : ((kLt false bg bc ((kLt false bg bc ((kWd 13 bg bc ps).2.1)).2.1)).2.1 : Int) = (kCh bg bc [(0, 13), (1, 0), (1, 0)] 1 (ps, kT0)).2.1 := hK9.2.symm
        have hxf : XF E q9 (some (8, [iv ((kLt false bg bc ((kLt false bg bc ((kWd 13 bg bc ps).2.1)).2.1)).2.1)])) H := hxf
        rw [hw9] at hP hD hxf
        exact n_out () (by exact ⟨hCx.1, hK9.1⟩) hP hD hS hxf (Nat.le_trans hz_8 hq9) hce hcv hcl (fun x hx9 => (htb x hx9).elim) hlocks (Nat.le_of_ble_eq_true rfl) (Nat.le_of_ble_eq_true rfl)
      · intro u_9 H locs hC hP hD hS
        have hu_9 : (kLt false bg bc ((kLt false bg bc ((kWd 13 bg bc ps).2.1)).2.1)).1 = true := hC
        have hP : va_P E.1 CL (([(pr, .inr (4, [.ref bf, iv ((kLt false bg bc ((kLt false bg bc ((kWd 13 bg bc ps).2.1)).2.1)).2.1), .ref al]))] : va_W) ++ ([(bf, .inr (10, [.ref bv, iv 0, iv bm, iv bc]))] : va_W) ++ ([(bv, ia (E.2 3) bn bg)] : va_W)) H := hP
        have hD : va_D A (([(pr, .inr (4, [.ref bf, iv ((kLt false bg bc ((kLt false bg bc ((kWd 13 bg bc ps).2.1)).2.1)).2.1), .ref al]))] : va_W) ++ ([(bf, .inr (10, [.ref bv, iv 0, iv bm, iv bc]))] : va_W) ++ ([(bv, ia (E.2 3) bn bg)] : va_W)) := hD
        have hch3 : (kCh bg bc [(0, 13), (1, 0), (1, 0)] 1 (ps, kT0)) = kCh bg bc [] 3 ((kLt false bg bc ((kLt false bg bc ((kWd 13 bg bc ps).2.1)).2.1)).2.1, (ui (ui kT0 1 ((kLt false bg bc ((kWd 13 bg bc ps).2.1)).2.2 1)) 2 ((kLt false bg bc ((kLt false bg bc ((kWd 13 bg bc ps).2.1)).2.1)).2.2 1))) := kCh_t hch2 hu_9
        have hkr3 : 0 ≤ (kLt false bg bc ((kLt false bg bc ((kWd 13 bg bc ps).2.1)).2.1)).2.1 ∧ (kLt false bg bc ((kLt false bg bc ((kWd 13 bg bc ps).2.1)).2.1)).2.1 ≤ bc ∧ (kLt false bg bc ((kWd 13 bg bc ps).2.1)).2.1 ≤ (kLt false bg bc ((kLt false bg bc ((kWd 13 bg bc ps).2.1)).2.1)).2.1 := kIt_r hb7 (show 0 ≤ (kLt false bg bc ((kWd 13 bg bc ps).2.1)).2.1 ∧ (kLt false bg bc ((kWd 13 bg bc ps).2.1)).2.1 ≤ bc by omega) (1, 0)
        have hkv3 := kLt_v hb7 hu_9
        have hK8 : (kCh bg bc [(0, 13), (1, 0), (1, 0)] 1 (ps, kT0)).1 = true ∧ (kCh bg bc [(0, 13), (1, 0), (1, 0)] 1 (ps, kT0)).2.1 = (kLt false bg bc ((kLt false bg bc ((kWd 13 bg bc ps).2.1)).2.1)).2.1 ∧ (kCh bg bc [(0, 13), (1, 0), (1, 0)] 1 (ps, kT0)).2.2 1 = (kLt false bg bc ((kWd 13 bg bc ps).2.1)).2.2 1 ∧ (kCh bg bc [(0, 13), (1, 0), (1, 0)] 1 (ps, kT0)).2.2 2 = (kLt false bg bc ((kLt false bg bc ((kWd 13 bg bc ps).2.1)).2.1)).2.2 1 := by rw [hch3]; exact ⟨rfl, rfl, rfl, rfl⟩
        refine lv_istore_n (lv' := [(3, iv ((kLt false bg bc ((kLt false bg bc ((kWd 13 bg bc ps).2.1)).2.1)).2.2 1)), (2, iv ((kLt false bg bc ((kWd 13 bg bc ps).2.1)).2.2 1)), (0, .ref pr), (1, iv 0)]) hx hb dX4_needing_26 rfl hl (by decide) rfl (fun ls hl => ?_)
        refine lv_iload_n hx hb dX4_needing_27 rfl (lv_at hl 1 rfl) ?_
        refine lv_iload_n hx hb dX4_needing_28 rfl (lv_at hl 0 rfl) ?_
        refine lv_iload_n hx hb dX4_needing_29 rfl (lv_at hl 3 rfl) ?_
        obtain ⟨_, -, -, hL_d_12, -, -⟩ := lam_fact hK (lam_words hts (State.WarmedH.refl s)) ls_15 rfl (by decide +kernel) lk_15
        refine n_indyM (x := ⟨"ClockworkTailor$Parser", "needing", "(Z)LClockworkTailor$Change;"⟩) (index := 101) (vals := [iv ((kLt false bg bc ((kWd 13 bg bc ps).2.1)).2.2 1), iv ((kLt false bg bc ((kLt false bg bc ((kWd 13 bg bc ps).2.1)).2.1)).2.2 1), iv 0]) (a0 := (3, .inl (fun zk : Nat => iI (if zk = 0 then (kLt false bg bc ((kWd 13 bg bc ps).2.1)).2.2 1 else if zk = 1 then (kLt false bg bc ((kLt false bg bc ((kWd 13 bg bc ps).2.1)).2.1)).2.2 1 else 0)))) (rest := []) hx hb (hl.1.trans hml.symm) (show s.methodNamed? ⟨"ClockworkTailor$Parser", "needing", "(Z)LClockworkTailor$Change;"⟩ = some m from B.named) ((hK.kx.1 _ ls_15).1 (by decide)) hL_d_12 (by rfl) rfl rfl (by show [narrow .char (iv ((kLt false bg bc ((kWd 13 bg bc ps).2.1)).2.2 1)), narrow .char (iv ((kLt false bg bc ((kLt false bg bc ((kWd 13 bg bc ps).2.1)).2.1)).2.2 1)), narrow .boolean (iv 0)] = _; rw [nr_c (x := (kLt false bg bc ((kWd 13 bg bc ps).2.1)).2.2 1) (by omega), nr_c (x := (kLt false bg bc ((kLt false bg bc ((kWd 13 bg bc ps).2.1)).2.1)).2.2 1) (by omega), nr_b (x := 0) (by decide)] <;> rfl) (n_fits (by show (fits .char (iv ((kLt false bg bc ((kWd 13 bg bc ps).2.1)).2.2 1)) && (fits .char (iv ((kLt false bg bc ((kLt false bg bc ((kWd 13 bg bc ps).2.1)).2.1)).2.2 1)) && (fits .boolean (iv 0) && true))) = true; rw [ft_c (x := (kLt false bg bc ((kWd 13 bg bc ps).2.1)).2.2 1) (by omega), ft_c (x := (kLt false bg bc ((kLt false bg bc ((kWd 13 bg bc ps).2.1)).2.1)).2.2 1) (by omega), ft_b (x := 0) (by decide)] <;> rfl)) hP hD hS hA rfl (Nat.le_of_ble_eq_true rfl) (Nat.le_of_ble_eq_true rfl) (Nat.le_of_ble_eq_true rfl) dX4_needing_30 (fun q_11 H hP hD hS => ?_)
        have hP : va_P E.1 CL (([(pr, .inr (4, [.ref bf, iv ((kLt false bg bc ((kLt false bg bc ((kWd 13 bg bc ps).2.1)).2.1)).2.1), .ref al]))] : va_W) ++ ([(bf, .inr (10, [.ref bv, iv 0, iv bm, iv bc]))] : va_W) ++ ([(bv, ia (E.2 3) bn bg)] : va_W) ++ ([(q_11, .inl (E.2 (3000 + 15), 3, .inl (fun zk : Nat => iI (if zk = 0 then (kLt false bg bc ((kWd 13 bg bc ps).2.1)).2.2 1 else if zk = 1 then (kLt false bg bc ((kLt false bg bc ((kWd 13 bg bc ps).2.1)).2.1)).2.2 1 else 0))))] : va_W)) H := hP
        have hD : va_D A (([(pr, .inr (4, [.ref bf, iv ((kLt false bg bc ((kLt false bg bc ((kWd 13 bg bc ps).2.1)).2.1)).2.1), .ref al]))] : va_W) ++ ([(bf, .inr (10, [.ref bv, iv 0, iv bm, iv bc]))] : va_W) ++ ([(bv, ia (E.2 3) bn bg)] : va_W) ++ ([(q_11, .inl (E.2 (3000 + 15), 3, .inl (fun zk : Nat => iI (if zk = 0 then (kLt false bg bc ((kWd 13 bg bc ps).2.1)).2.2 1 else if zk = 1 then (kLt false bg bc ((kLt false bg bc ((kWd 13 bg bc ps).2.1)).2.1)).2.2 1 else 0))))] : va_W)) := hD
        have w_13 : ((kLt false bg bc ((kLt false bg bc ((kWd 13 bg bc ps).2.1)).2.1)).2.1 : Int) = (kCh bg bc [(0, 13), (1, 0), (1, 0)] 1 (ps, kT0)).2.1 := by exact hK8.2.1.symm
        rw [w_13] at hP hD
        have hP : va_P E.1 CL (([(pr, .inr (4, [.ref bf, iv ((kCh bg bc [(0, 13), (1, 0), (1, 0)] 1 (ps, kT0)).2.1), .ref al]))] : va_W) ++ ([(bf, .inr (10, [.ref bv, iv 0, iv bm, iv bc]))] : va_W) ++ ([(bv, ia (E.2 3) bn bg)] : va_W) ++ ([(q_11, .inl (E.2 (3000 + 15), 3, .inl (fun zk : Nat => iI (if zk = 0 then (kLt false bg bc ((kWd 13 bg bc ps).2.1)).2.2 1 else if zk = 1 then (kLt false bg bc ((kLt false bg bc ((kWd 13 bg bc ps).2.1)).2.1)).2.2 1 else 0))))] : va_W)) H := hP
        have hD : va_D A (([(pr, .inr (4, [.ref bf, iv ((kCh bg bc [(0, 13), (1, 0), (1, 0)] 1 (ps, kT0)).2.1), .ref al]))] : va_W) ++ ([(bf, .inr (10, [.ref bv, iv 0, iv bm, iv bc]))] : va_W) ++ ([(bv, ia (E.2 3) bn bg)] : va_W) ++ ([(q_11, .inl (E.2 (3000 + 15), 3, .inl (fun zk : Nat => iI (if zk = 0 then (kLt false bg bc ((kWd 13 bg bc ps).2.1)).2.2 1 else if zk = 1 then (kLt false bg bc ((kLt false bg bc ((kWd 13 bg bc ps).2.1)).2.1)).2.2 1 else 0))))] : va_W)) := hD
        have hv0 : (kLt false bg bc ((kWd 13 bg bc ps).2.1)).2.2 1 = (kCh bg bc [(0, 13), (1, 0), (1, 0)] 1 (ps, kT0)).2.2 1 := (hK8.2.2.1).symm
        have hv1 : (kLt false bg bc ((kLt false bg bc ((kWd 13 bg bc ps).2.1)).2.1)).2.2 1 = (kCh bg bc [(0, 13), (1, 0), (1, 0)] 1 (ps, kT0)).2.2 2 := (hK8.2.2.2).symm
        rw [hv0, hv1] at hP hD
        have hP : va_P E.1 CL (([(pr, .inr (4, [.ref bf, iv ((kCh bg bc [(0, 13), (1, 0), (1, 0)] 1 (ps, kT0)).2.1), .ref al]))] : va_W) ++ ([(bf, .inr (10, [.ref bv, iv 0, iv bm, iv bc]))] : va_W) ++ ([(bv, ia (E.2 3) bn bg)] : va_W) ++ ([(q_11, .inl (E.2 (3000 + 15), 3, .inl (fun zk : Nat => iI (if zk = 0 then (kCh bg bc [(0, 13), (1, 0), (1, 0)] 1 (ps, kT0)).2.2 1 else if zk = 1 then (kCh bg bc [(0, 13), (1, 0), (1, 0)] 1 (ps, kT0)).2.2 2 else 0))))] : va_W)) H := hP
        have hD : va_D A (([(pr, .inr (4, [.ref bf, iv ((kCh bg bc [(0, 13), (1, 0), (1, 0)] 1 (ps, kT0)).2.1), .ref al]))] : va_W) ++ ([(bf, .inr (10, [.ref bv, iv 0, iv bm, iv bc]))] : va_W) ++ ([(bv, ia (E.2 3) bn bg)] : va_W) ++ ([(q_11, .inl (E.2 (3000 + 15), 3, .inl (fun zk : Nat => iI (if zk = 0 then (kCh bg bc [(0, 13), (1, 0), (1, 0)] 1 (ps, kT0)).2.2 1 else if zk = 1 then (kCh bg bc [(0, 13), (1, 0), (1, 0)] 1 (ps, kT0)).2.2 2 else 0))))] : va_W)) := hD
        refine vx_ret ?_
        refine W.widen (k := 4) (n := 24) (Nat.le_of_ble_eq_true rfl) (Nat.le_of_ble_eq_true rfl) ?_
        exact W.aret hx hb hr (Or.inl ⟨_, rfl⟩) (Or.inr ⟨_, rfl⟩) (fun tt_ ht_ hW_ => ⟨⟨q_11, rfl, hK8.1, by rw [ht_]; exact hP, hD⟩, hS.F ht_⟩) hS.2.2 dX4_needing_35
set_option maxHeartbeats 2000000 in
set_option maxRecDepth 100000 in
theorem mt_X4_needing_1 (l : Launch) (E : EE) (pr : Nat) (ps : Int) (al : Nat) (bf : Nat) (bm : Int) (bc : Int) (bv : Nat) (bg : Int → Int)  (bn : Nat) (hst : l.stackTraces = false) (hbb : 0 ≤ bc ∧ bc ≤ (bn : Int)) (hbn : bn ≤ 64) (hb7 : B7 bg) (hps : 0 ≤ ps ∧ ps ≤ bc) (sz : Nat) : vx_Met l yX4_needing (ws_ yX4_needing cX4_needing 4 (some (.object "ClockworkTailor$Change"))) { frames := 8, cells := 4, slots := 24, locals := 3075 } (va_Pc [.ref pr, iv 1] (UX E (([(pr, .inr (4, [.ref bf, iv ps, .ref al]))] : va_W) ++ ([(bf, .inr (10, [.ref bv, iv 0, iv bm, iv bc]))] : va_W) ++ ([(bv, ia (E.2 3) bn bg)] : va_W)) sz)) (UQxy E (fun u : Nat => (kCh bg bc [(0, 12), (1, 0), (1, 0)] 1 (ps, kT0)).1 = true) (fun u : Nat => .ref u) (fun u : Nat => ([(pr, .inr (4, [.ref bf, iv ((kCh bg bc [(0, 12), (1, 0), (1, 0)] 1 (ps, kT0)).2.1), .ref al]))] : va_W) ++ ([(bf, .inr (10, [.ref bv, iv 0, iv bm, iv bc]))] : va_W) ++ ([(bv, ia (E.2 3) bn bg)] : va_W) ++ ([(u, .inl (E.2 (3000 + 15), 3, .inl (fun zk : Nat => iI (if zk = 0 then (kCh bg bc [(0, 12), (1, 0), (1, 0)] 1 (ps, kT0)).2.2 1 else if zk = 1 then (kCh bg bc [(0, 12), (1, 0), (1, 0)] 1 (ps, kT0)).2.2 2 else 1))))] : va_W)) (va_A (([(pr, .inr (4, [.ref bf, iv ps, .ref al]))] : va_W) ++ ([(bf, .inr (10, [.ref bv, iv 0, iv bm, iv bc]))] : va_W) ++ ([(bv, ia (E.2 3) bn bg)] : va_W)) sz)) (UXx E (fun (En : String) (u : Unit) => En = "ClockworkTailor$SyntaxError" ∧ (kCh bg bc [(0, 12), (1, 0), (1, 0)] 1 (ps, kT0)).1 = false) (fun u : Unit => ([(pr, .inr (4, [.ref bf, iv ((kCh bg bc [(0, 12), (1, 0), (1, 0)] 1 (ps, kT0)).2.1), .ref al]))] : va_W) ++ ([(bf, .inr (10, [.ref bv, iv 0, iv bm, iv bc]))] : va_W) ++ ([(bv, ia (E.2 3) bn bg)] : va_W)) (fun u : Unit => some (8, [iv (kCh bg bc [(0, 12), (1, 0), (1, 0)] 1 (ps, kT0)).2.1])) (va_A (([(pr, .inr (4, [.ref bf, iv ps, .ref al]))] : va_W) ++ ([(bf, .inr (10, [.ref bv, iv 0, iv bm, iv bc]))] : va_W) ++ ([(bv, ia (E.2 3) bn bg)] : va_W)) sz)) 4 24 (va_A (([(pr, .inr (4, [.ref bf, iv ps, .ref al]))] : va_W) ++ ([(bf, .inr (10, [.ref bv, iv 0, iv bm, iv bc]))] : va_W) ++ ([(bv, ia (E.2 3) bn bg)] : va_W)) sz) := by
  refine vx_ofW (cc := cX4_needing) (maxL := 4) (ret := (some (.object "ClockworkTailor$Change"))) (by decide) rfl ?_
  intro p e s m args below meth c s₁ B hml htb hv
  obtain ⟨rfl, hsz, hP, hK, hD0, hE⟩ := hv
  have hx := B.exec
  have hb := B.bytes
  have hr := B.returns
  have hts := atoms_spec (ws := (ws_ yX4_needing cX4_needing 4 (some (.object "ClockworkTailor$Change")))) B.pre
  have hts : ∀ w ∈ lw_all, w.before _ s = true := fun w h => hts w (List.mem_cons_of_mem _ h)
  have hown : s.vm.findClass RX4 = some m.cls := findClass_of_methodNamed B.named
  have hlocks := B.notSynchronized
  subst hsz
  have hD := hD0.self (sz := s.heap.size)
  generalize hAe : va_A (([(pr, .inr (4, [.ref bf, iv ps, .ref al]))] : va_W) ++ ([(bf, .inr (10, [.ref bv, iv 0, iv bm, iv bc]))] : va_W) ++ ([(bv, ia (E.2 3) bn bg)] : va_W)) s.heap.size = A at hD hE ⊢
  have hA : ∀ q : Nat, s.heap.size ≤ q → A q := fun q h => by rw [← hAe]; exact Or.inr h
  have hS : va_S A s.heap s.heap [] := va_S.rf
  have hl := lv_entry ([.ref pr, iv 1]) (n := 4) (Nat.le_of_ble_eq_true rfl)
  rw [lg_entry_eq]
  generalize (lg_sl ([.ref pr, iv 1]) ++ List.replicate (4 - (lg_sl ([.ref pr, iv 1])).length) Slot.unset).toArray = ls at hl ⊢
  have hl : lv_has ls 4 [(0, .ref pr), (1, iv 1)] := hl
  have hch0 : (kCh bg bc [(0, 12), (1, 0), (1, 0)] 1 (ps, kT0)) = kCh bg bc [(0, 12), (1, 0), (1, 0)] 1 (ps, kT0) := rfl
  refine lv_aload_n hx hb dX4_needing_0 rfl (lv_at hl 0 rfl) ?_
  refine lv_iload_n hx hb dX4_needing_1 rfl (lv_at hl 1 rfl) ?_
  refine n_if_eq (tgt := 10) hx hb dX4_needing_2 (by decide) (by omega) (fun c_1 => absurd c_1 (by decide)) (fun _ => ?_)
  refine va_ldcS hx hb (own := RX4) (tx := "lazy") (index := 97) (q := EX E (2 * 12)) hown (hK.ks ("ClockworkTailor$Parser", 97, "lazy", 12) (List.mem_of_getElem? (i := 12) rfl)) dX4_needing_5 ?_
  refine lv_goto (tgt := 12) hx hb dX4_needing_7 (by decide) ?_
  have hz_2 : s.heap.size ≤ s.heap.size := hS.1
  refine n_txvS (w2 := fun u_3 => ([(pr, .inr (4, [.ref bf, iv ((kWd 12 bg bc ps).2.1), .ref al]))] : va_W) ++ ([(bf, .inr (10, [.ref bv, iv 0, iv bm, iv bc]))] : va_W) ++ ([(bv, ia (E.2 3) bn bg)] : va_W)) (w3 := fun u_4 => ([(pr, .inr (4, [.ref bf, iv ((kWd 12 bg bc ps).2.1), .ref al]))] : va_W) ++ ([(bf, .inr (10, [.ref bv, iv 0, iv bm, iv bc]))] : va_W) ++ ([(bv, ia (E.2 3) bn bg)] : va_W)) (vx_runV (As := [.ref (EX E (2 * 12))]) (rest := []) ⟨hx, hb, hml, hown, hts⟩ (mt_X4_expectWord l E pr ps al bf bm bc bv bg 12 (bn) (by exact hst) (by omega) (by omega) (by assumption) (by omega) (by decide) _) (cwV 1 hts (lw_V q1776 q1778 qs28 q103 q1779) rfl rfl rfl (by decide +kernel) ⟨Nat.le_of_ble_eq_true rfl, Nat.le_of_ble_eq_true rfl⟩) (UX_V hP hK (hD) hE hS (va_A_in hD hS hA) (va_recv hK.1 hP (ci := 4) (q0 := 0) rfl rfl)) rfl rfl hl.1 rfl (lv_room (Nat.le_of_ble_eq_true rfl)) dX4_needing_12 ⟨Nat.le_of_ble_eq_true rfl, Nat.le_of_ble_eq_true rfl⟩) hP hD hS hA [0, 1, 2] [] [0, 1, 2] [0, 1, 2] rfl rfl rfl rfl rfl (fun _ => rfl) rfl (fun _ => rfl) ?_ ?_
  · intro En ce q9 u_4 H locs hCx hP hD hS hxf hq9 hce hcv hcl
    have hCx : En = "ClockworkTailor$SyntaxError" ∧ (kWd 12 bg bc ps).1 = false := hCx
    have hP : va_P E.1 CL (([(pr, .inr (4, [.ref bf, iv ((kWd 12 bg bc ps).2.1), .ref al]))] : va_W) ++ ([(bf, .inr (10, [.ref bv, iv 0, iv bm, iv bc]))] : va_W) ++ ([(bv, ia (E.2 3) bn bg)] : va_W)) H := hP
    have hD : va_D A (([(pr, .inr (4, [.ref bf, iv ((kWd 12 bg bc ps).2.1), .ref al]))] : va_W) ++ ([(bf, .inr (10, [.ref bv, iv 0, iv bm, iv bc]))] : va_W) ++ ([(bv, ia (E.2 3) bn bg)] : va_W)) := hD
    have hK9 : kFl (kCh bg bc [(0, 12), (1, 0), (1, 0)] 1 (ps, kT0)) ((kWd 12 bg bc ps).2.1) := by
      exact kCh_f hch0 hCx.2
    have hw9 : ((kWd 12 bg bc ps).2.1 : Int) = (kCh bg bc [(0, 12), (1, 0), (1, 0)] 1 (ps, kT0)).2.1 := hK9.2.symm
    have hxf : XF E q9 (some (8, [iv ((kWd 12 bg bc ps).2.1)])) H := hxf
    rw [hw9] at hP hD hxf
    exact n_out () (by exact ⟨hCx.1, hK9.1⟩) hP hD hS hxf (Nat.le_trans hz_2 hq9) hce hcv hcl (fun x hx9 => (htb x hx9).elim) hlocks (Nat.le_of_ble_eq_true rfl) (Nat.le_of_ble_eq_true rfl)
  · intro u_3 H locs hC hP hD hS
    have hu_3 : (kWd 12 bg bc ps).1 = true := hC
    have hP : va_P E.1 CL (([(pr, .inr (4, [.ref bf, iv ((kWd 12 bg bc ps).2.1), .ref al]))] : va_W) ++ ([(bf, .inr (10, [.ref bv, iv 0, iv bm, iv bc]))] : va_W) ++ ([(bv, ia (E.2 3) bn bg)] : va_W)) H := hP
    have hD : va_D A (([(pr, .inr (4, [.ref bf, iv ((kWd 12 bg bc ps).2.1), .ref al]))] : va_W) ++ ([(bf, .inr (10, [.ref bv, iv 0, iv bm, iv bc]))] : va_W) ++ ([(bv, ia (E.2 3) bn bg)] : va_W)) := hD
    have hch1 : (kCh bg bc [(0, 12), (1, 0), (1, 0)] 1 (ps, kT0)) = kCh bg bc [(1, 0), (1, 0)] 1 ((kWd 12 bg bc ps).2.1, kT0) := kCh_t hch0 hu_3
    have hkr1 : 0 ≤ (kWd 12 bg bc ps).2.1 ∧ (kWd 12 bg bc ps).2.1 ≤ bc ∧ ps ≤ (kWd 12 bg bc ps).2.1 := kIt_r hb7 (show 0 ≤ ps ∧ ps ≤ bc by omega) (0, 12)
    refine lv_aload_n hx hb dX4_needing_15 rfl (lv_at hl 0 rfl) ?_
    refine lv_iconst (v := iI 0) hx hb dX4_needing_16 rfl ?_
    have hz_5 : s.heap.size ≤ H.size := hS.1
    refine n_txS (x := fun u_6 => (kLt false bg bc ((kWd 12 bg bc ps).2.1)).2.2 1) (w2 := fun u_6 => ([(pr, .inr (4, [.ref bf, iv ((kLt false bg bc ((kWd 12 bg bc ps).2.1)).2.1), .ref al]))] : va_W) ++ ([(bf, .inr (10, [.ref bv, iv 0, iv bm, iv bc]))] : va_W) ++ ([(bv, ia (E.2 3) bn bg)] : va_W)) (w3 := fun u_7 => ([(pr, .inr (4, [.ref bf, iv ((kLt false bg bc ((kWd 12 bg bc ps).2.1)).2.1), .ref al]))] : va_W) ++ ([(bf, .inr (10, [.ref bv, iv 0, iv bm, iv bc]))] : va_W) ++ ([(bv, ia (E.2 3) bn bg)] : va_W)) (vx_runV (As := [iv 0]) (rest := []) ⟨hx, hb, hml, hown, hts⟩ (mt_X4_letter l E pr ((kWd 12 bg bc ps).2.1) al bf bm bc bv bg false (bn) (by exact hst) (by omega) (by omega) (by assumption) (by omega) _) (cwV 1 hts (lw_V q1823 q1825 qs31 q103 q1826) rfl rfl rfl (by decide +kernel) ⟨Nat.le_of_ble_eq_true rfl, Nat.le_of_ble_eq_true rfl⟩) (UX_V hP hK (hD) hE hS (va_A_in hD hS hA) (va_recv hK.1 hP (ci := 4) (q0 := 0) rfl rfl)) rfl rfl hl.1 rfl (lv_room (Nat.le_of_ble_eq_true rfl)) dX4_needing_17 ⟨Nat.le_of_ble_eq_true rfl, Nat.le_of_ble_eq_true rfl⟩) hP hD hS hA [0, 1, 2] [] [0, 1, 2] [0, 1, 2] rfl rfl rfl rfl rfl (fun _ => rfl) rfl (fun _ => rfl) ?_ ?_
    · intro En ce q9 u_7 H locs hCx hP hD hS hxf hq9 hce hcv hcl
      have hCx : En = "ClockworkTailor$SyntaxError" ∧ (kLt false bg bc ((kWd 12 bg bc ps).2.1)).1 = false := hCx
      have hP : va_P E.1 CL (([(pr, .inr (4, [.ref bf, iv ((kLt false bg bc ((kWd 12 bg bc ps).2.1)).2.1), .ref al]))] : va_W) ++ ([(bf, .inr (10, [.ref bv, iv 0, iv bm, iv bc]))] : va_W) ++ ([(bv, ia (E.2 3) bn bg)] : va_W)) H := hP
      have hD : va_D A (([(pr, .inr (4, [.ref bf, iv ((kLt false bg bc ((kWd 12 bg bc ps).2.1)).2.1), .ref al]))] : va_W) ++ ([(bf, .inr (10, [.ref bv, iv 0, iv bm, iv bc]))] : va_W) ++ ([(bv, ia (E.2 3) bn bg)] : va_W)) := hD
      have hK9 : kFl (kCh bg bc [(0, 12), (1, 0), (1, 0)] 1 (ps, kT0)) ((kLt false bg bc ((kWd 12 bg bc ps).2.1)).2.1) := by
        exact kCh_f hch1 hCx.2
      have hw9 : ((kLt false bg bc ((kWd 12 bg bc ps).2.1)).2.1 : Int) = (kCh bg bc [(0, 12), (1, 0), (1, 0)] 1 (ps, kT0)).2.1 := hK9.2.symm
      have hxf : XF E q9 (some (8, [iv ((kLt false bg bc ((kWd 12 bg bc ps).2.1)).2.1)])) H := hxf
      rw [hw9] at hP hD hxf
      exact n_out () (by exact ⟨hCx.1, hK9.1⟩) hP hD hS hxf (Nat.le_trans hz_5 hq9) hce hcv hcl (fun x hx9 => (htb x hx9).elim) hlocks (Nat.le_of_ble_eq_true rfl) (Nat.le_of_ble_eq_true rfl)
    · intro u_6 H locs hC hP hD hS
      have hu_6 : (kLt false bg bc ((kWd 12 bg bc ps).2.1)).1 = true := hC
      have hP : va_P E.1 CL (([(pr, .inr (4, [.ref bf, iv ((kLt false bg bc ((kWd 12 bg bc ps).2.1)).2.1), .ref al]))] : va_W) ++ ([(bf, .inr (10, [.ref bv, iv 0, iv bm, iv bc]))] : va_W) ++ ([(bv, ia (E.2 3) bn bg)] : va_W)) H := hP
      have hD : va_D A (([(pr, .inr (4, [.ref bf, iv ((kLt false bg bc ((kWd 12 bg bc ps).2.1)).2.1), .ref al]))] : va_W) ++ ([(bf, .inr (10, [.ref bv, iv 0, iv bm, iv bc]))] : va_W) ++ ([(bv, ia (E.2 3) bn bg)] : va_W)) := hD
      have hch2 : (kCh bg bc [(0, 12), (1, 0), (1, 0)] 1 (ps, kT0)) = kCh bg bc [(1, 0)] 2 ((kLt false bg bc ((kWd 12 bg bc ps).2.1)).2.1, (ui kT0 1 ((kLt false bg bc ((kWd 12 bg bc ps).2.1)).2.2 1))) := kCh_t hch1 hu_6
      have hkr2 : 0 ≤ (kLt false bg bc ((kWd 12 bg bc ps).2.1)).2.1 ∧ (kLt false bg bc ((kWd 12 bg bc ps).2.1)).2.1 ≤ bc ∧ (kWd 12 bg bc ps).2.1 ≤ (kLt false bg bc ((kWd 12 bg bc ps).2.1)).2.1 := kIt_r hb7 (show 0 ≤ (kWd 12 bg bc ps).2.1 ∧ (kWd 12 bg bc ps).2.1 ≤ bc by omega) (1, 0)
      have hkv2 := kLt_v hb7 hu_6
      refine lv_istore_n (lv' := [(2, iv ((kLt false bg bc ((kWd 12 bg bc ps).2.1)).2.2 1)), (0, .ref pr), (1, iv 1)]) hx hb dX4_needing_20 rfl hl (by decide) rfl (fun ls hl => ?_)
      refine lv_aload_n hx hb dX4_needing_21 rfl (lv_at hl 1 rfl) ?_
      refine lv_iconst (v := iI 0) hx hb dX4_needing_22 rfl ?_
      have hz_8 : s.heap.size ≤ H.size := hS.1
      refine n_txS (x := fun u_9 => (kLt false bg bc ((kLt false bg bc ((kWd 12 bg bc ps).2.1)).2.1)).2.2 1) (w2 := fun u_9 => ([(pr, .inr (4, [.ref bf, iv ((kLt false bg bc ((kLt false bg bc ((kWd 12 bg bc ps).2.1)).2.1)).2.1), .ref al]))] : va_W) ++ ([(bf, .inr (10, [.ref bv, iv 0, iv bm, iv bc]))] : va_W) ++ ([(bv, ia (E.2 3) bn bg)] : va_W)) (w3 := fun u_10 => ([(pr, .inr (4, [.ref bf, iv ((kLt false bg bc ((kLt false bg bc ((kWd 12 bg bc ps).2.1)).2.1)).2.1), .ref al]))] : va_W) ++ ([(bf, .inr (10, [.ref bv, iv 0, iv bm, iv bc]))] : va_W) ++ ([(bv, ia (E.2 3) bn bg)] : va_W)) (vx_runV (As := [iv 0]) (rest := []) ⟨hx, hb, hml, hown, hts⟩ (mt_X4_letter l E pr ((kLt false bg bc ((kWd 12 bg bc ps).2.1)).2.1) al bf bm bc bv bg false (bn) (by exact hst) (by omega) (by omega) (by assumption) (by omega) _) (cwV 1 hts (lw_V q1823 q1825 qs31 q103 q1826) rfl rfl rfl (by decide +kernel) ⟨Nat.le_of_ble_eq_true rfl, Nat.le_of_ble_eq_true rfl⟩) (UX_V hP hK (hD) hE hS (va_A_in hD hS hA) (va_recv hK.1 hP (ci := 4) (q0 := 0) rfl rfl)) rfl rfl hl.1 rfl (lv_room (Nat.le_of_ble_eq_true rfl)) dX4_needing_23 ⟨Nat.le_of_ble_eq_true rfl, Nat.le_of_ble_eq_true rfl⟩) hP hD hS hA [0, 1, 2] [] [0, 1, 2] [0, 1, 2] rfl rfl rfl rfl rfl (fun _ => rfl) rfl (fun _ => rfl) ?_ ?_
      · intro En ce q9 u_10 H locs hCx hP hD hS hxf hq9 hce hcv hcl
        have hCx : En = "ClockworkTailor$SyntaxError" ∧ (kLt false bg bc ((kLt false bg bc ((kWd 12 bg bc ps).2.1)).2.1)).1 = false := hCx
        have hP : va_P E.1 CL (([(pr, .inr (4, [.ref bf, iv ((kLt false bg bc ((kLt false bg bc ((kWd 12 bg bc ps).2.1)).2.1)).2.1), .ref al]))] : va_W) ++ ([(bf, .inr (10, [.ref bv, iv 0, iv bm, iv bc]))] : va_W) ++ ([(bv, ia (E.2 3) bn bg)] : va_W)) H := hP
        have hD : va_D A (([(pr, .inr (4, [.ref bf, iv ((kLt false bg bc ((kLt false bg bc ((kWd 12 bg bc ps).2.1)).2.1)).2.1), .ref al]))] : va_W) ++ ([(bf, .inr (10, [.ref bv, iv 0, iv bm, iv bc]))] : va_W) ++ ([(bv, ia (E.2 3) bn bg)] : va_W)) := hD
        have hK9 : kFl (kCh bg bc [(0, 12), (1, 0), (1, 0)] 1 (ps, kT0)) ((kLt false bg bc ((kLt false bg bc ((kWd 12 bg bc ps).2.1)).2.1)).2.1) := by
          exact kCh_f hch2 hCx.2
        have hw9 : ((kLt false bg bc ((kLt false bg bc ((kWd 12 bg bc ps).2.1)).2.1)).2.1 : Int) = (kCh bg bc [(0, 12), (1, 0), (1, 0)] 1 (ps, kT0)).2.1 := hK9.2.symm
        have hxf : XF E q9 (some (8, [iv ((kLt false bg bc ((kLt false bg bc ((kWd 12 bg bc ps).2.1)).2.1)).2.1)])) H := hxf
        rw [hw9] at hP hD hxf
        exact n_out () (by exact ⟨hCx.1, hK9.1⟩) hP hD hS hxf (Nat.le_trans hz_8 hq9) hce hcv hcl (fun x hx9 => (htb x hx9).elim) hlocks (Nat.le_of_ble_eq_true rfl) (Nat.le_of_ble_eq_true rfl)
      · intro u_9 H locs hC hP hD hS
        have hu_9 : (kLt false bg bc ((kLt false bg bc ((kWd 12 bg bc ps).2.1)).2.1)).1 = true := hC
        have hP : va_P E.1 CL (([(pr, .inr (4, [.ref bf, iv ((kLt false bg bc ((kLt false bg bc ((kWd 12 bg bc ps).2.1)).2.1)).2.1), .ref al]))] : va_W) ++ ([(bf, .inr (10, [.ref bv, iv 0, iv bm, iv bc]))] : va_W) ++ ([(bv, ia (E.2 3) bn bg)] : va_W)) H := hP
        have hD : va_D A (([(pr, .inr (4, [.ref bf, iv ((kLt false bg bc ((kLt false bg bc ((kWd 12 bg bc ps).2.1)).2.1)).2.1), .ref al]))] : va_W) ++ ([(bf, .inr (10, [.ref bv, iv 0, iv bm, iv bc]))] : va_W) ++ ([(bv, ia (E.2 3) bn bg)] : va_W)) := hD
        have hch3 : (kCh bg bc [(0, 12), (1, 0), (1, 0)] 1 (ps, kT0)) = kCh bg bc [] 3 ((kLt false bg bc ((kLt false bg bc ((kWd 12 bg bc ps).2.1)).2.1)).2.1, (ui (ui kT0 1 ((kLt false bg bc ((kWd 12 bg bc ps).2.1)).2.2 1)) 2 ((kLt false bg bc ((kLt false bg bc ((kWd 12 bg bc ps).2.1)).2.1)).2.2 1))) := kCh_t hch2 hu_9
        have hkr3 : 0 ≤ (kLt false bg bc ((kLt false bg bc ((kWd 12 bg bc ps).2.1)).2.1)).2.1 ∧ (kLt false bg bc ((kLt false bg bc ((kWd 12 bg bc ps).2.1)).2.1)).2.1 ≤ bc ∧ (kLt false bg bc ((kWd 12 bg bc ps).2.1)).2.1 ≤ (kLt false bg bc ((kLt false bg bc ((kWd 12 bg bc ps).2.1)).2.1)).2.1 := kIt_r hb7 (show 0 ≤ (kLt false bg bc ((kWd 12 bg bc ps).2.1)).2.1 ∧ (kLt false bg bc ((kWd 12 bg bc ps).2.1)).2.1 ≤ bc by omega) (1, 0)
        have hkv3 := kLt_v hb7 hu_9
        have hK8 : (kCh bg bc [(0, 12), (1, 0), (1, 0)] 1 (ps, kT0)).1 = true ∧ (kCh bg bc [(0, 12), (1, 0), (1, 0)] 1 (ps, kT0)).2.1 = (kLt false bg bc ((kLt false bg bc ((kWd 12 bg bc ps).2.1)).2.1)).2.1 ∧ (kCh bg bc [(0, 12), (1, 0), (1, 0)] 1 (ps, kT0)).2.2 1 = (kLt false bg bc ((kWd 12 bg bc ps).2.1)).2.2 1 ∧ (kCh bg bc [(0, 12), (1, 0), (1, 0)] 1 (ps, kT0)).2.2 2 = (kLt false bg bc ((kLt false bg bc ((kWd 12 bg bc ps).2.1)).2.1)).2.2 1 := by rw [hch3]; exact ⟨rfl, rfl, rfl, rfl⟩
        refine lv_istore_n (lv' := [(3, iv ((kLt false bg bc ((kLt false bg bc ((kWd 12 bg bc ps).2.1)).2.1)).2.2 1)), (2, iv ((kLt false bg bc ((kWd 12 bg bc ps).2.1)).2.2 1)), (0, .ref pr), (1, iv 1)]) hx hb dX4_needing_26 rfl hl (by decide) rfl (fun ls hl => ?_)
        refine lv_iload_n hx hb dX4_needing_27 rfl (lv_at hl 1 rfl) ?_
        refine lv_iload_n hx hb dX4_needing_28 rfl (lv_at hl 0 rfl) ?_
        refine lv_iload_n hx hb dX4_needing_29 rfl (lv_at hl 3 rfl) ?_
        obtain ⟨_, -, -, hL_d_12, -, -⟩ := lam_fact hK (lam_words hts (State.WarmedH.refl s)) ls_15 rfl (by decide +kernel) lk_15
        refine n_indyM (x := ⟨"ClockworkTailor$Parser", "needing", "(Z)LClockworkTailor$Change;"⟩) (index := 101) (vals := [iv ((kLt false bg bc ((kWd 12 bg bc ps).2.1)).2.2 1), iv ((kLt false bg bc ((kLt false bg bc ((kWd 12 bg bc ps).2.1)).2.1)).2.2 1), iv 1]) (a0 := (3, .inl (fun zk : Nat => iI (if zk = 0 then (kLt false bg bc ((kWd 12 bg bc ps).2.1)).2.2 1 else if zk = 1 then (kLt false bg bc ((kLt false bg bc ((kWd 12 bg bc ps).2.1)).2.1)).2.2 1 else 1)))) (rest := []) hx hb (hl.1.trans hml.symm) (show s.methodNamed? ⟨"ClockworkTailor$Parser", "needing", "(Z)LClockworkTailor$Change;"⟩ = some m from B.named) ((hK.kx.1 _ ls_15).1 (by decide)) hL_d_12 (by rfl) rfl rfl (by show [narrow .char (iv ((kLt false bg bc ((kWd 12 bg bc ps).2.1)).2.2 1)), narrow .char (iv ((kLt false bg bc ((kLt false bg bc ((kWd 12 bg bc ps).2.1)).2.1)).2.2 1)), narrow .boolean (iv 1)] = _; rw [nr_c (x := (kLt false bg bc ((kWd 12 bg bc ps).2.1)).2.2 1) (by omega), nr_c (x := (kLt false bg bc ((kLt false bg bc ((kWd 12 bg bc ps).2.1)).2.1)).2.2 1) (by omega), nr_b (x := 1) (by decide)] <;> rfl) (n_fits (by show (fits .char (iv ((kLt false bg bc ((kWd 12 bg bc ps).2.1)).2.2 1)) && (fits .char (iv ((kLt false bg bc ((kLt false bg bc ((kWd 12 bg bc ps).2.1)).2.1)).2.2 1)) && (fits .boolean (iv 1) && true))) = true; rw [ft_c (x := (kLt false bg bc ((kWd 12 bg bc ps).2.1)).2.2 1) (by omega), ft_c (x := (kLt false bg bc ((kLt false bg bc ((kWd 12 bg bc ps).2.1)).2.1)).2.2 1) (by omega), ft_b (x := 1) (by decide)] <;> rfl)) hP hD hS hA rfl (Nat.le_of_ble_eq_true rfl) (Nat.le_of_ble_eq_true rfl) (Nat.le_of_ble_eq_true rfl) dX4_needing_30 (fun q_11 H hP hD hS => ?_)
        have hP : va_P E.1 CL (([(pr, .inr (4, [.ref bf, iv ((kLt false bg bc ((kLt false bg bc ((kWd 12 bg bc ps).2.1)).2.1)).2.1), .ref al]))] : va_W) ++ ([(bf, .inr (10, [.ref bv, iv 0, iv bm, iv bc]))] : va_W) ++ ([(bv, ia (E.2 3) bn bg)] : va_W) ++ ([(q_11, .inl (E.2 (3000 + 15), 3, .inl (fun zk : Nat => iI (if zk = 0 then (kLt false bg bc ((kWd 12 bg bc ps).2.1)).2.2 1 else if zk = 1 then (kLt false bg bc ((kLt false bg bc ((kWd 12 bg bc ps).2.1)).2.1)).2.2 1 else 1))))] : va_W)) H := hP
        have hD : va_D A (([(pr, .inr (4, [.ref bf, iv ((kLt false bg bc ((kLt false bg bc ((kWd 12 bg bc ps).2.1)).2.1)).2.1), .ref al]))] : va_W) ++ ([(bf, .inr (10, [.ref bv, iv 0, iv bm, iv bc]))] : va_W) ++ ([(bv, ia (E.2 3) bn bg)] : va_W) ++ ([(q_11, .inl (E.2 (3000 + 15), 3, .inl (fun zk : Nat => iI (if zk = 0 then (kLt false bg bc ((kWd 12 bg bc ps).2.1)).2.2 1 else if zk = 1 then (kLt false bg bc ((kLt false bg bc ((kWd 12 bg bc ps).2.1)).2.1)).2.2 1 else 1))))] : va_W)) := hD
        have w_13 : ((kLt false bg bc ((kLt false bg bc ((kWd 12 bg bc ps).2.1)).2.1)).2.1 : Int) = (kCh bg bc [(0, 12), (1, 0), (1, 0)] 1 (ps, kT0)).2.1 := by exact hK8.2.1.symm
        rw [w_13] at hP hD
        have hP : va_P E.1 CL (([(pr, .inr (4, [.ref bf, iv ((kCh bg bc [(0, 12), (1, 0), (1, 0)] 1 (ps, kT0)).2.1), .ref al]))] : va_W) ++ ([(bf, .inr (10, [.ref bv, iv 0, iv bm, iv bc]))] : va_W) ++ ([(bv, ia (E.2 3) bn bg)] : va_W) ++ ([(q_11, .inl (E.2 (3000 + 15), 3, .inl (fun zk : Nat => iI (if zk = 0 then (kLt false bg bc ((kWd 12 bg bc ps).2.1)).2.2 1 else if zk = 1 then (kLt false bg bc ((kLt false bg bc ((kWd 12 bg bc ps).2.1)).2.1)).2.2 1 else 1))))] : va_W)) H := hP
        have hD : va_D A (([(pr, .inr (4, [.ref bf, iv ((kCh bg bc [(0, 12), (1, 0), (1, 0)] 1 (ps, kT0)).2.1), .ref al]))] : va_W) ++ ([(bf, .inr (10, [.ref bv, iv 0, iv bm, iv bc]))] : va_W) ++ ([(bv, ia (E.2 3) bn bg)] : va_W) ++ ([(q_11, .inl (E.2 (3000 + 15), 3, .inl (fun zk : Nat => iI (if zk = 0 then (kLt false bg bc ((kWd 12 bg bc ps).2.1)).2.2 1 else if zk = 1 then (kLt false bg bc ((kLt false bg bc ((kWd 12 bg bc ps).2.1)).2.1)).2.2 1 else 1))))] : va_W)) := hD
        have hv0 : (kLt false bg bc ((kWd 12 bg bc ps).2.1)).2.2 1 = (kCh bg bc [(0, 12), (1, 0), (1, 0)] 1 (ps, kT0)).2.2 1 := (hK8.2.2.1).symm
        have hv1 : (kLt false bg bc ((kLt false bg bc ((kWd 12 bg bc ps).2.1)).2.1)).2.2 1 = (kCh bg bc [(0, 12), (1, 0), (1, 0)] 1 (ps, kT0)).2.2 2 := (hK8.2.2.2).symm
        rw [hv0, hv1] at hP hD
        have hP : va_P E.1 CL (([(pr, .inr (4, [.ref bf, iv ((kCh bg bc [(0, 12), (1, 0), (1, 0)] 1 (ps, kT0)).2.1), .ref al]))] : va_W) ++ ([(bf, .inr (10, [.ref bv, iv 0, iv bm, iv bc]))] : va_W) ++ ([(bv, ia (E.2 3) bn bg)] : va_W) ++ ([(q_11, .inl (E.2 (3000 + 15), 3, .inl (fun zk : Nat => iI (if zk = 0 then (kCh bg bc [(0, 12), (1, 0), (1, 0)] 1 (ps, kT0)).2.2 1 else if zk = 1 then (kCh bg bc [(0, 12), (1, 0), (1, 0)] 1 (ps, kT0)).2.2 2 else 1))))] : va_W)) H := hP
        have hD : va_D A (([(pr, .inr (4, [.ref bf, iv ((kCh bg bc [(0, 12), (1, 0), (1, 0)] 1 (ps, kT0)).2.1), .ref al]))] : va_W) ++ ([(bf, .inr (10, [.ref bv, iv 0, iv bm, iv bc]))] : va_W) ++ ([(bv, ia (E.2 3) bn bg)] : va_W) ++ ([(q_11, .inl (E.2 (3000 + 15), 3, .inl (fun zk : Nat => iI (if zk = 0 then (kCh bg bc [(0, 12), (1, 0), (1, 0)] 1 (ps, kT0)).2.2 1 else if zk = 1 then (kCh bg bc [(0, 12), (1, 0), (1, 0)] 1 (ps, kT0)).2.2 2 else 1))))] : va_W)) := hD
        refine vx_ret ?_
        refine W.widen (k := 4) (n := 24) (Nat.le_of_ble_eq_true rfl) (Nat.le_of_ble_eq_true rfl) ?_
        exact W.aret hx hb hr (Or.inl ⟨_, rfl⟩) (Or.inr ⟨_, rfl⟩) (fun tt_ ht_ hW_ => ⟨⟨q_11, rfl, hK8.1, by rw [ht_]; exact hP, hD⟩, hS.F ht_⟩) hS.2.2 dX4_needing_35
set_option maxHeartbeats 2000000 in
set_option maxRecDepth 100000 in
theorem mt_X4_cutting (l : Launch) (E : EE) (pr : Nat) (ps : Int) (al : Nat) (bf : Nat) (bm : Int) (bc : Int) (bv : Nat) (bg : Int → Int)  (bn : Nat) (hst : l.stackTraces = false) (hbb : 0 ≤ bc ∧ bc ≤ (bn : Int)) (hbn : bn ≤ 64) (hb7 : B7 bg) (hps : 0 ≤ ps ∧ ps ≤ bc) (sz : Nat) : vx_Met l yX4_cutting (ws_ yX4_cutting cX4_cutting 3 (some (.object "ClockworkTailor$Change"))) { frames := 8, cells := 4, slots := 23, locals := 3074 } (va_Pc [.ref pr] (UX E (([(pr, .inr (4, [.ref bf, iv ps, .ref al]))] : va_W) ++ ([(bf, .inr (10, [.ref bv, iv 0, iv bm, iv bc]))] : va_W) ++ ([(bv, ia (E.2 3) bn bg)] : va_W)) sz)) (UQxy E (fun u : Nat => (kCh bg bc [(0, 15), (1, 0), (1, 0)] 1 (ps, kT0)).1 = true) (fun u : Nat => .ref u) (fun u : Nat => ([(pr, .inr (4, [.ref bf, iv ((kCh bg bc [(0, 15), (1, 0), (1, 0)] 1 (ps, kT0)).2.1), .ref al]))] : va_W) ++ ([(bf, .inr (10, [.ref bv, iv 0, iv bm, iv bc]))] : va_W) ++ ([(bv, ia (E.2 3) bn bg)] : va_W) ++ ([(u, .inl (E.2 (3000 + 17), 2, .inl (fun zk : Nat => iI (if zk = 0 then (kCh bg bc [(0, 15), (1, 0), (1, 0)] 1 (ps, kT0)).2.2 1 else (kCh bg bc [(0, 15), (1, 0), (1, 0)] 1 (ps, kT0)).2.2 2))))] : va_W)) (va_A (([(pr, .inr (4, [.ref bf, iv ps, .ref al]))] : va_W) ++ ([(bf, .inr (10, [.ref bv, iv 0, iv bm, iv bc]))] : va_W) ++ ([(bv, ia (E.2 3) bn bg)] : va_W)) sz)) (UXx E (fun (En : String) (u : Unit) => En = "ClockworkTailor$SyntaxError" ∧ (kCh bg bc [(0, 15), (1, 0), (1, 0)] 1 (ps, kT0)).1 = false) (fun u : Unit => ([(pr, .inr (4, [.ref bf, iv ((kCh bg bc [(0, 15), (1, 0), (1, 0)] 1 (ps, kT0)).2.1), .ref al]))] : va_W) ++ ([(bf, .inr (10, [.ref bv, iv 0, iv bm, iv bc]))] : va_W) ++ ([(bv, ia (E.2 3) bn bg)] : va_W)) (fun u : Unit => some (8, [iv (kCh bg bc [(0, 15), (1, 0), (1, 0)] 1 (ps, kT0)).2.1])) (va_A (([(pr, .inr (4, [.ref bf, iv ps, .ref al]))] : va_W) ++ ([(bf, .inr (10, [.ref bv, iv 0, iv bm, iv bc]))] : va_W) ++ ([(bv, ia (E.2 3) bn bg)] : va_W)) sz)) 4 23 (va_A (([(pr, .inr (4, [.ref bf, iv ps, .ref al]))] : va_W) ++ ([(bf, .inr (10, [.ref bv, iv 0, iv bm, iv bc]))] : va_W) ++ ([(bv, ia (E.2 3) bn bg)] : va_W)) sz) := by
  refine vx_ofW (cc := cX4_cutting) (maxL := 3) (ret := (some (.object "ClockworkTailor$Change"))) (by decide) rfl ?_
  intro p e s m args below meth c s₁ B hml htb hv
  obtain ⟨rfl, hsz, hP, hK, hD0, hE⟩ := hv
  have hx := B.exec
  have hb := B.bytes
  have hr := B.returns
  have hts := atoms_spec (ws := (ws_ yX4_cutting cX4_cutting 3 (some (.object "ClockworkTailor$Change")))) B.pre
  have hts : ∀ w ∈ lw_all, w.before _ s = true := fun w h => hts w (List.mem_cons_of_mem _ h)
  have hown : s.vm.findClass RX4 = some m.cls := findClass_of_methodNamed B.named
  have hlocks := B.notSynchronized
  subst hsz
  have hD := hD0.self (sz := s.heap.size)
  generalize hAe : va_A (([(pr, .inr (4, [.ref bf, iv ps, .ref al]))] : va_W) ++ ([(bf, .inr (10, [.ref bv, iv 0, iv bm, iv bc]))] : va_W) ++ ([(bv, ia (E.2 3) bn bg)] : va_W)) s.heap.size = A at hD hE ⊢
  have hA : ∀ q : Nat, s.heap.size ≤ q → A q := fun q h => by rw [← hAe]; exact Or.inr h
  have hS : va_S A s.heap s.heap [] := va_S.rf
  have hl := lv_entry ([.ref pr]) (n := 3) (Nat.le_of_ble_eq_true rfl)
  rw [lg_entry_eq]
  generalize (lg_sl ([.ref pr]) ++ List.replicate (3 - (lg_sl ([.ref pr])).length) Slot.unset).toArray = ls at hl ⊢
  have hl : lv_has ls 3 [(0, .ref pr)] := hl
  have hch0 : (kCh bg bc [(0, 15), (1, 0), (1, 0)] 1 (ps, kT0)) = kCh bg bc [(0, 15), (1, 0), (1, 0)] 1 (ps, kT0) := rfl
  refine lv_aload_n hx hb dX4_cutting_0 rfl (lv_at hl 0 rfl) ?_
  refine va_ldcS hx hb (own := RX4) (tx := "cut") (index := 104) (q := EX E (2 * 15)) hown (hK.ks ("ClockworkTailor$Parser", 104, "cut", 15) (List.mem_of_getElem? (i := 15) rfl)) dX4_cutting_1 ?_
  have hz_1 : s.heap.size ≤ s.heap.size := hS.1
  refine n_txvS (w2 := fun u_2 => ([(pr, .inr (4, [.ref bf, iv ((kWd 15 bg bc ps).2.1), .ref al]))] : va_W) ++ ([(bf, .inr (10, [.ref bv, iv 0, iv bm, iv bc]))] : va_W) ++ ([(bv, ia (E.2 3) bn bg)] : va_W)) (w3 := fun u_3 => ([(pr, .inr (4, [.ref bf, iv ((kWd 15 bg bc ps).2.1), .ref al]))] : va_W) ++ ([(bf, .inr (10, [.ref bv, iv 0, iv bm, iv bc]))] : va_W) ++ ([(bv, ia (E.2 3) bn bg)] : va_W)) (vx_runV (As := [.ref (EX E (2 * 15))]) (rest := []) ⟨hx, hb, hml, hown, hts⟩ (mt_X4_expectWord l E pr ps al bf bm bc bv bg 15 (bn) (by exact hst) (by omega) (by omega) (by assumption) (by omega) (by decide) _) (cwV 1 hts (lw_V q1776 q1778 qs28 q103 q1779) rfl rfl rfl (by decide +kernel) ⟨Nat.le_of_ble_eq_true rfl, Nat.le_of_ble_eq_true rfl⟩) (UX_V hP hK (hD) hE hS (va_A_in hD hS hA) (va_recv hK.1 hP (ci := 4) (q0 := 0) rfl rfl)) rfl rfl hl.1 rfl (lv_room (Nat.le_of_ble_eq_true rfl)) dX4_cutting_3 ⟨Nat.le_of_ble_eq_true rfl, Nat.le_of_ble_eq_true rfl⟩) hP hD hS hA [0, 1, 2] [] [0, 1, 2] [0, 1, 2] rfl rfl rfl rfl rfl (fun _ => rfl) rfl (fun _ => rfl) ?_ ?_
  · intro En ce q9 u_3 H locs hCx hP hD hS hxf hq9 hce hcv hcl
    have hCx : En = "ClockworkTailor$SyntaxError" ∧ (kWd 15 bg bc ps).1 = false := hCx
    have hP : va_P E.1 CL (([(pr, .inr (4, [.ref bf, iv ((kWd 15 bg bc ps).2.1), .ref al]))] : va_W) ++ ([(bf, .inr (10, [.ref bv, iv 0, iv bm, iv bc]))] : va_W) ++ ([(bv, ia (E.2 3) bn bg)] : va_W)) H := hP
    have hD : va_D A (([(pr, .inr (4, [.ref bf, iv ((kWd 15 bg bc ps).2.1), .ref al]))] : va_W) ++ ([(bf, .inr (10, [.ref bv, iv 0, iv bm, iv bc]))] : va_W) ++ ([(bv, ia (E.2 3) bn bg)] : va_W)) := hD
    have hK9 : kFl (kCh bg bc [(0, 15), (1, 0), (1, 0)] 1 (ps, kT0)) ((kWd 15 bg bc ps).2.1) := by
      exact kCh_f hch0 hCx.2
    have hw9 : ((kWd 15 bg bc ps).2.1 : Int) = (kCh bg bc [(0, 15), (1, 0), (1, 0)] 1 (ps, kT0)).2.1 := hK9.2.symm
    have hxf : XF E q9 (some (8, [iv ((kWd 15 bg bc ps).2.1)])) H := hxf
    rw [hw9] at hP hD hxf
    exact n_out () (by exact ⟨hCx.1, hK9.1⟩) hP hD hS hxf (Nat.le_trans hz_1 hq9) hce hcv hcl (fun x hx9 => (htb x hx9).elim) hlocks (Nat.le_of_ble_eq_true rfl) (Nat.le_of_ble_eq_true rfl)
  · intro u_2 H locs hC hP hD hS
    have hu_2 : (kWd 15 bg bc ps).1 = true := hC
    have hP : va_P E.1 CL (([(pr, .inr (4, [.ref bf, iv ((kWd 15 bg bc ps).2.1), .ref al]))] : va_W) ++ ([(bf, .inr (10, [.ref bv, iv 0, iv bm, iv bc]))] : va_W) ++ ([(bv, ia (E.2 3) bn bg)] : va_W)) H := hP
    have hD : va_D A (([(pr, .inr (4, [.ref bf, iv ((kWd 15 bg bc ps).2.1), .ref al]))] : va_W) ++ ([(bf, .inr (10, [.ref bv, iv 0, iv bm, iv bc]))] : va_W) ++ ([(bv, ia (E.2 3) bn bg)] : va_W)) := hD
    have hch1 : (kCh bg bc [(0, 15), (1, 0), (1, 0)] 1 (ps, kT0)) = kCh bg bc [(1, 0), (1, 0)] 1 ((kWd 15 bg bc ps).2.1, kT0) := kCh_t hch0 hu_2
    have hkr1 : 0 ≤ (kWd 15 bg bc ps).2.1 ∧ (kWd 15 bg bc ps).2.1 ≤ bc ∧ ps ≤ (kWd 15 bg bc ps).2.1 := kIt_r hb7 (show 0 ≤ ps ∧ ps ≤ bc by omega) (0, 15)
    refine lv_aload_n hx hb dX4_cutting_6 rfl (lv_at hl 0 rfl) ?_
    refine lv_iconst (v := iI 0) hx hb dX4_cutting_7 rfl ?_
    have hz_4 : s.heap.size ≤ H.size := hS.1
    refine n_txS (x := fun u_5 => (kLt false bg bc ((kWd 15 bg bc ps).2.1)).2.2 1) (w2 := fun u_5 => ([(pr, .inr (4, [.ref bf, iv ((kLt false bg bc ((kWd 15 bg bc ps).2.1)).2.1), .ref al]))] : va_W) ++ ([(bf, .inr (10, [.ref bv, iv 0, iv bm, iv bc]))] : va_W) ++ ([(bv, ia (E.2 3) bn bg)] : va_W)) (w3 := fun u_6 => ([(pr, .inr (4, [.ref bf, iv ((kLt false bg bc ((kWd 15 bg bc ps).2.1)).2.1), .ref al]))] : va_W) ++ ([(bf, .inr (10, [.ref bv, iv 0, iv bm, iv bc]))] : va_W) ++ ([(bv, ia (E.2 3) bn bg)] : va_W)) (vx_runV (As := [iv 0]) (rest := []) ⟨hx, hb, hml, hown, hts⟩ (mt_X4_letter l E pr ((kWd 15 bg bc ps).2.1) al bf bm bc bv bg false (bn) (by exact hst) (by omega) (by omega) (by assumption) (by omega) _) (cwV 1 hts (lw_V q1823 q1825 qs31 q103 q1826) rfl rfl rfl (by decide +kernel) ⟨Nat.le_of_ble_eq_true rfl, Nat.le_of_ble_eq_true rfl⟩) (UX_V hP hK (hD) hE hS (va_A_in hD hS hA) (va_recv hK.1 hP (ci := 4) (q0 := 0) rfl rfl)) rfl rfl hl.1 rfl (lv_room (Nat.le_of_ble_eq_true rfl)) dX4_cutting_8 ⟨Nat.le_of_ble_eq_true rfl, Nat.le_of_ble_eq_true rfl⟩) hP hD hS hA [0, 1, 2] [] [0, 1, 2] [0, 1, 2] rfl rfl rfl rfl rfl (fun _ => rfl) rfl (fun _ => rfl) ?_ ?_
    · intro En ce q9 u_6 H locs hCx hP hD hS hxf hq9 hce hcv hcl
      have hCx : En = "ClockworkTailor$SyntaxError" ∧ (kLt false bg bc ((kWd 15 bg bc ps).2.1)).1 = false := hCx
      have hP : va_P E.1 CL (([(pr, .inr (4, [.ref bf, iv ((kLt false bg bc ((kWd 15 bg bc ps).2.1)).2.1), .ref al]))] : va_W) ++ ([(bf, .inr (10, [.ref bv, iv 0, iv bm, iv bc]))] : va_W) ++ ([(bv, ia (E.2 3) bn bg)] : va_W)) H := hP
      have hD : va_D A (([(pr, .inr (4, [.ref bf, iv ((kLt false bg bc ((kWd 15 bg bc ps).2.1)).2.1), .ref al]))] : va_W) ++ ([(bf, .inr (10, [.ref bv, iv 0, iv bm, iv bc]))] : va_W) ++ ([(bv, ia (E.2 3) bn bg)] : va_W)) := hD
      have hK9 : kFl (kCh bg bc [(0, 15), (1, 0), (1, 0)] 1 (ps, kT0)) ((kLt false bg bc ((kWd 15 bg bc ps).2.1)).2.1) := by
        exact kCh_f hch1 hCx.2
      have hw9 : ((kLt false bg bc ((kWd 15 bg bc ps).2.1)).2.1 : Int) = (kCh bg bc [(0, 15), (1, 0), (1, 0)] 1 (ps, kT0)).2.1 := hK9.2.symm
      have hxf : XF E q9 (some (8, [iv ((kLt false bg bc ((kWd 15 bg bc ps).2.1)).2.1)])) H := hxf
      rw [hw9] at hP hD hxf
      exact n_out () (by exact ⟨hCx.1, hK9.1⟩) hP hD hS hxf (Nat.le_trans hz_4 hq9) hce hcv hcl (fun x hx9 => (htb x hx9).elim) hlocks (Nat.le_of_ble_eq_true rfl) (Nat.le_of_ble_eq_true rfl)
    · intro u_5 H locs hC hP hD hS
      have hu_5 : (kLt false bg bc ((kWd 15 bg bc ps).2.1)).1 = true := hC
      have hP : va_P E.1 CL (([(pr, .inr (4, [.ref bf, iv ((kLt false bg bc ((kWd 15 bg bc ps).2.1)).2.1), .ref al]))] : va_W) ++ ([(bf, .inr (10, [.ref bv, iv 0, iv bm, iv bc]))] : va_W) ++ ([(bv, ia (E.2 3) bn bg)] : va_W)) H := hP
      have hD : va_D A (([(pr, .inr (4, [.ref bf, iv ((kLt false bg bc ((kWd 15 bg bc ps).2.1)).2.1), .ref al]))] : va_W) ++ ([(bf, .inr (10, [.ref bv, iv 0, iv bm, iv bc]))] : va_W) ++ ([(bv, ia (E.2 3) bn bg)] : va_W)) := hD
      have hch2 : (kCh bg bc [(0, 15), (1, 0), (1, 0)] 1 (ps, kT0)) = kCh bg bc [(1, 0)] 2 ((kLt false bg bc ((kWd 15 bg bc ps).2.1)).2.1, (ui kT0 1 ((kLt false bg bc ((kWd 15 bg bc ps).2.1)).2.2 1))) := kCh_t hch1 hu_5
      have hkr2 : 0 ≤ (kLt false bg bc ((kWd 15 bg bc ps).2.1)).2.1 ∧ (kLt false bg bc ((kWd 15 bg bc ps).2.1)).2.1 ≤ bc ∧ (kWd 15 bg bc ps).2.1 ≤ (kLt false bg bc ((kWd 15 bg bc ps).2.1)).2.1 := kIt_r hb7 (show 0 ≤ (kWd 15 bg bc ps).2.1 ∧ (kWd 15 bg bc ps).2.1 ≤ bc by omega) (1, 0)
      have hkv2 := kLt_v hb7 hu_5
      refine lv_istore_n (lv' := [(1, iv ((kLt false bg bc ((kWd 15 bg bc ps).2.1)).2.2 1)), (0, .ref pr)]) hx hb dX4_cutting_11 rfl hl (by decide) rfl (fun ls hl => ?_)
      refine lv_aload_n hx hb dX4_cutting_12 rfl (lv_at hl 1 rfl) ?_
      refine lv_iconst (v := iI 0) hx hb dX4_cutting_13 rfl ?_
      have hz_7 : s.heap.size ≤ H.size := hS.1
      refine n_txS (x := fun u_8 => (kLt false bg bc ((kLt false bg bc ((kWd 15 bg bc ps).2.1)).2.1)).2.2 1) (w2 := fun u_8 => ([(pr, .inr (4, [.ref bf, iv ((kLt false bg bc ((kLt false bg bc ((kWd 15 bg bc ps).2.1)).2.1)).2.1), .ref al]))] : va_W) ++ ([(bf, .inr (10, [.ref bv, iv 0, iv bm, iv bc]))] : va_W) ++ ([(bv, ia (E.2 3) bn bg)] : va_W)) (w3 := fun u_9 => ([(pr, .inr (4, [.ref bf, iv ((kLt false bg bc ((kLt false bg bc ((kWd 15 bg bc ps).2.1)).2.1)).2.1), .ref al]))] : va_W) ++ ([(bf, .inr (10, [.ref bv, iv 0, iv bm, iv bc]))] : va_W) ++ ([(bv, ia (E.2 3) bn bg)] : va_W)) (vx_runV (As := [iv 0]) (rest := []) ⟨hx, hb, hml, hown, hts⟩ (mt_X4_letter l E pr ((kLt false bg bc ((kWd 15 bg bc ps).2.1)).2.1) al bf bm bc bv bg false (bn) (by exact hst) (by omega) (by omega) (by assumption) (by omega) _) (cwV 1 hts (lw_V q1823 q1825 qs31 q103 q1826) rfl rfl rfl (by decide +kernel) ⟨Nat.le_of_ble_eq_true rfl, Nat.le_of_ble_eq_true rfl⟩) (UX_V hP hK (hD) hE hS (va_A_in hD hS hA) (va_recv hK.1 hP (ci := 4) (q0 := 0) rfl rfl)) rfl rfl hl.1 rfl (lv_room (Nat.le_of_ble_eq_true rfl)) dX4_cutting_14 ⟨Nat.le_of_ble_eq_true rfl, Nat.le_of_ble_eq_true rfl⟩) hP hD hS hA [0, 1, 2] [] [0, 1, 2] [0, 1, 2] rfl rfl rfl rfl rfl (fun _ => rfl) rfl (fun _ => rfl) ?_ ?_
      · intro En ce q9 u_9 H locs hCx hP hD hS hxf hq9 hce hcv hcl
        have hCx : En = "ClockworkTailor$SyntaxError" ∧ (kLt false bg bc ((kLt false bg bc ((kWd 15 bg bc ps).2.1)).2.1)).1 = false := hCx
        have hP : va_P E.1 CL (([(pr, .inr (4, [.ref bf, iv ((kLt false bg bc ((kLt false bg bc ((kWd 15 bg bc ps).2.1)).2.1)).2.1), .ref al]))] : va_W) ++ ([(bf, .inr (10, [.ref bv, iv 0, iv bm, iv bc]))] : va_W) ++ ([(bv, ia (E.2 3) bn bg)] : va_W)) H := hP
        have hD : va_D A (([(pr, .inr (4, [.ref bf, iv ((kLt false bg bc ((kLt false bg bc ((kWd 15 bg bc ps).2.1)).2.1)).2.1), .ref al]))] : va_W) ++ ([(bf, .inr (10, [.ref bv, iv 0, iv bm, iv bc]))] : va_W) ++ ([(bv, ia (E.2 3) bn bg)] : va_W)) := hD
        have hK9 : kFl (kCh bg bc [(0, 15), (1, 0), (1, 0)] 1 (ps, kT0)) ((kLt false bg bc ((kLt false bg bc ((kWd 15 bg bc ps).2.1)).2.1)).2.1) := by
          exact kCh_f hch2 hCx.2
        have hw9 : ((kLt false bg bc ((kLt false bg bc ((kWd 15 bg bc ps).2.1)).2.1)).2.1 : Int) = (kCh bg bc [(0, 15), (1, 0), (1, 0)] 1 (ps, kT0)).2.1 := hK9.2.symm
        have hxf : XF E q9 (some (8, [iv ((kLt false bg bc ((kLt false bg bc ((kWd 15 bg bc ps).2.1)).2.1)).2.1)])) H := hxf
        rw [hw9] at hP hD hxf
        exact n_out () (by exact ⟨hCx.1, hK9.1⟩) hP hD hS hxf (Nat.le_trans hz_7 hq9) hce hcv hcl (fun x hx9 => (htb x hx9).elim) hlocks (Nat.le_of_ble_eq_true rfl) (Nat.le_of_ble_eq_true rfl)
      · intro u_8 H locs hC hP hD hS
        have hu_8 : (kLt false bg bc ((kLt false bg bc ((kWd 15 bg bc ps).2.1)).2.1)).1 = true := hC
        have hP : va_P E.1 CL (([(pr, .inr (4, [.ref bf, iv ((kLt false bg bc ((kLt false bg bc ((kWd 15 bg bc ps).2.1)).2.1)).2.1), .ref al]))] : va_W) ++ ([(bf, .inr (10, [.ref bv, iv 0, iv bm, iv bc]))] : va_W) ++ ([(bv, ia (E.2 3) bn bg)] : va_W)) H := hP
        have hD : va_D A (([(pr, .inr (4, [.ref bf, iv ((kLt false bg bc ((kLt false bg bc ((kWd 15 bg bc ps).2.1)).2.1)).2.1), .ref al]))] : va_W) ++ ([(bf, .inr (10, [.ref bv, iv 0, iv bm, iv bc]))] : va_W) ++ ([(bv, ia (E.2 3) bn bg)] : va_W)) := hD
        have hch3 : (kCh bg bc [(0, 15), (1, 0), (1, 0)] 1 (ps, kT0)) = kCh bg bc [] 3 ((kLt false bg bc ((kLt false bg bc ((kWd 15 bg bc ps).2.1)).2.1)).2.1, (ui (ui kT0 1 ((kLt false bg bc ((kWd 15 bg bc ps).2.1)).2.2 1)) 2 ((kLt false bg bc ((kLt false bg bc ((kWd 15 bg bc ps).2.1)).2.1)).2.2 1))) := kCh_t hch2 hu_8
        have hkr3 : 0 ≤ (kLt false bg bc ((kLt false bg bc ((kWd 15 bg bc ps).2.1)).2.1)).2.1 ∧ (kLt false bg bc ((kLt false bg bc ((kWd 15 bg bc ps).2.1)).2.1)).2.1 ≤ bc ∧ (kLt false bg bc ((kWd 15 bg bc ps).2.1)).2.1 ≤ (kLt false bg bc ((kLt false bg bc ((kWd 15 bg bc ps).2.1)).2.1)).2.1 := kIt_r hb7 (show 0 ≤ (kLt false bg bc ((kWd 15 bg bc ps).2.1)).2.1 ∧ (kLt false bg bc ((kWd 15 bg bc ps).2.1)).2.1 ≤ bc by omega) (1, 0)
        have hkv3 := kLt_v hb7 hu_8
        have hK8 : (kCh bg bc [(0, 15), (1, 0), (1, 0)] 1 (ps, kT0)).1 = true ∧ (kCh bg bc [(0, 15), (1, 0), (1, 0)] 1 (ps, kT0)).2.1 = (kLt false bg bc ((kLt false bg bc ((kWd 15 bg bc ps).2.1)).2.1)).2.1 ∧ (kCh bg bc [(0, 15), (1, 0), (1, 0)] 1 (ps, kT0)).2.2 1 = (kLt false bg bc ((kWd 15 bg bc ps).2.1)).2.2 1 ∧ (kCh bg bc [(0, 15), (1, 0), (1, 0)] 1 (ps, kT0)).2.2 2 = (kLt false bg bc ((kLt false bg bc ((kWd 15 bg bc ps).2.1)).2.1)).2.2 1 := by rw [hch3]; exact ⟨rfl, rfl, rfl, rfl⟩
        refine lv_istore_n (lv' := [(2, iv ((kLt false bg bc ((kLt false bg bc ((kWd 15 bg bc ps).2.1)).2.1)).2.2 1)), (1, iv ((kLt false bg bc ((kWd 15 bg bc ps).2.1)).2.2 1)), (0, .ref pr)]) hx hb dX4_cutting_17 rfl hl (by decide) rfl (fun ls hl => ?_)
        refine lv_iload_n hx hb dX4_cutting_18 rfl (lv_at hl 1 rfl) ?_
        refine lv_iload_n hx hb dX4_cutting_19 rfl (lv_at hl 0 rfl) ?_
        obtain ⟨_, -, -, hL_d_11, -, -⟩ := lam_fact hK (lam_words hts (State.WarmedH.refl s)) ls_17 rfl (by decide +kernel) lk_17
        refine n_indyM (x := ⟨"ClockworkTailor$Parser", "cutting", "()LClockworkTailor$Change;"⟩) (index := 106) (vals := [iv ((kLt false bg bc ((kWd 15 bg bc ps).2.1)).2.2 1), iv ((kLt false bg bc ((kLt false bg bc ((kWd 15 bg bc ps).2.1)).2.1)).2.2 1)]) (a0 := (2, .inl (fun zk : Nat => iI (if zk = 0 then (kLt false bg bc ((kWd 15 bg bc ps).2.1)).2.2 1 else (kLt false bg bc ((kLt false bg bc ((kWd 15 bg bc ps).2.1)).2.1)).2.2 1)))) (rest := []) hx hb (hl.1.trans hml.symm) (show s.methodNamed? ⟨"ClockworkTailor$Parser", "cutting", "()LClockworkTailor$Change;"⟩ = some m from B.named) ((hK.kx.1 _ ls_17).1 (by decide)) hL_d_11 (by rfl) rfl rfl (by show [narrow .char (iv ((kLt false bg bc ((kWd 15 bg bc ps).2.1)).2.2 1)), narrow .char (iv ((kLt false bg bc ((kLt false bg bc ((kWd 15 bg bc ps).2.1)).2.1)).2.2 1))] = _; rw [nr_c (x := (kLt false bg bc ((kWd 15 bg bc ps).2.1)).2.2 1) (by omega), nr_c (x := (kLt false bg bc ((kLt false bg bc ((kWd 15 bg bc ps).2.1)).2.1)).2.2 1) (by omega)] <;> rfl) (n_fits (by show (fits .char (iv ((kLt false bg bc ((kWd 15 bg bc ps).2.1)).2.2 1)) && (fits .char (iv ((kLt false bg bc ((kLt false bg bc ((kWd 15 bg bc ps).2.1)).2.1)).2.2 1)) && true)) = true; rw [ft_c (x := (kLt false bg bc ((kWd 15 bg bc ps).2.1)).2.2 1) (by omega), ft_c (x := (kLt false bg bc ((kLt false bg bc ((kWd 15 bg bc ps).2.1)).2.1)).2.2 1) (by omega)] <;> rfl)) hP hD hS hA rfl (Nat.le_of_ble_eq_true rfl) (Nat.le_of_ble_eq_true rfl) (Nat.le_of_ble_eq_true rfl) dX4_cutting_20 (fun q_10 H hP hD hS => ?_)
        have hP : va_P E.1 CL (([(pr, .inr (4, [.ref bf, iv ((kLt false bg bc ((kLt false bg bc ((kWd 15 bg bc ps).2.1)).2.1)).2.1), .ref al]))] : va_W) ++ ([(bf, .inr (10, [.ref bv, iv 0, iv bm, iv bc]))] : va_W) ++ ([(bv, ia (E.2 3) bn bg)] : va_W) ++ ([(q_10, .inl (E.2 (3000 + 17), 2, .inl (fun zk : Nat => iI (if zk = 0 then (kLt false bg bc ((kWd 15 bg bc ps).2.1)).2.2 1 else (kLt false bg bc ((kLt false bg bc ((kWd 15 bg bc ps).2.1)).2.1)).2.2 1))))] : va_W)) H := hP
        have hD : va_D A (([(pr, .inr (4, [.ref bf, iv ((kLt false bg bc ((kLt false bg bc ((kWd 15 bg bc ps).2.1)).2.1)).2.1), .ref al]))] : va_W) ++ ([(bf, .inr (10, [.ref bv, iv 0, iv bm, iv bc]))] : va_W) ++ ([(bv, ia (E.2 3) bn bg)] : va_W) ++ ([(q_10, .inl (E.2 (3000 + 17), 2, .inl (fun zk : Nat => iI (if zk = 0 then (kLt false bg bc ((kWd 15 bg bc ps).2.1)).2.2 1 else (kLt false bg bc ((kLt false bg bc ((kWd 15 bg bc ps).2.1)).2.1)).2.2 1))))] : va_W)) := hD
        have w_12 : ((kLt false bg bc ((kLt false bg bc ((kWd 15 bg bc ps).2.1)).2.1)).2.1 : Int) = (kCh bg bc [(0, 15), (1, 0), (1, 0)] 1 (ps, kT0)).2.1 := by exact hK8.2.1.symm
        rw [w_12] at hP hD
        have hP : va_P E.1 CL (([(pr, .inr (4, [.ref bf, iv ((kCh bg bc [(0, 15), (1, 0), (1, 0)] 1 (ps, kT0)).2.1), .ref al]))] : va_W) ++ ([(bf, .inr (10, [.ref bv, iv 0, iv bm, iv bc]))] : va_W) ++ ([(bv, ia (E.2 3) bn bg)] : va_W) ++ ([(q_10, .inl (E.2 (3000 + 17), 2, .inl (fun zk : Nat => iI (if zk = 0 then (kLt false bg bc ((kWd 15 bg bc ps).2.1)).2.2 1 else (kLt false bg bc ((kLt false bg bc ((kWd 15 bg bc ps).2.1)).2.1)).2.2 1))))] : va_W)) H := hP
        have hD : va_D A (([(pr, .inr (4, [.ref bf, iv ((kCh bg bc [(0, 15), (1, 0), (1, 0)] 1 (ps, kT0)).2.1), .ref al]))] : va_W) ++ ([(bf, .inr (10, [.ref bv, iv 0, iv bm, iv bc]))] : va_W) ++ ([(bv, ia (E.2 3) bn bg)] : va_W) ++ ([(q_10, .inl (E.2 (3000 + 17), 2, .inl (fun zk : Nat => iI (if zk = 0 then (kLt false bg bc ((kWd 15 bg bc ps).2.1)).2.2 1 else (kLt false bg bc ((kLt false bg bc ((kWd 15 bg bc ps).2.1)).2.1)).2.2 1))))] : va_W)) := hD
        have hv0 : (kLt false bg bc ((kWd 15 bg bc ps).2.1)).2.2 1 = (kCh bg bc [(0, 15), (1, 0), (1, 0)] 1 (ps, kT0)).2.2 1 := (hK8.2.2.1).symm
        have hv1 : (kLt false bg bc ((kLt false bg bc ((kWd 15 bg bc ps).2.1)).2.1)).2.2 1 = (kCh bg bc [(0, 15), (1, 0), (1, 0)] 1 (ps, kT0)).2.2 2 := (hK8.2.2.2).symm
        rw [hv0, hv1] at hP hD
        have hP : va_P E.1 CL (([(pr, .inr (4, [.ref bf, iv ((kCh bg bc [(0, 15), (1, 0), (1, 0)] 1 (ps, kT0)).2.1), .ref al]))] : va_W) ++ ([(bf, .inr (10, [.ref bv, iv 0, iv bm, iv bc]))] : va_W) ++ ([(bv, ia (E.2 3) bn bg)] : va_W) ++ ([(q_10, .inl (E.2 (3000 + 17), 2, .inl (fun zk : Nat => iI (if zk = 0 then (kCh bg bc [(0, 15), (1, 0), (1, 0)] 1 (ps, kT0)).2.2 1 else (kCh bg bc [(0, 15), (1, 0), (1, 0)] 1 (ps, kT0)).2.2 2))))] : va_W)) H := hP
        have hD : va_D A (([(pr, .inr (4, [.ref bf, iv ((kCh bg bc [(0, 15), (1, 0), (1, 0)] 1 (ps, kT0)).2.1), .ref al]))] : va_W) ++ ([(bf, .inr (10, [.ref bv, iv 0, iv bm, iv bc]))] : va_W) ++ ([(bv, ia (E.2 3) bn bg)] : va_W) ++ ([(q_10, .inl (E.2 (3000 + 17), 2, .inl (fun zk : Nat => iI (if zk = 0 then (kCh bg bc [(0, 15), (1, 0), (1, 0)] 1 (ps, kT0)).2.2 1 else (kCh bg bc [(0, 15), (1, 0), (1, 0)] 1 (ps, kT0)).2.2 2))))] : va_W)) := hD
        refine vx_ret ?_
        refine W.widen (k := 4) (n := 23) (Nat.le_of_ble_eq_true rfl) (Nat.le_of_ble_eq_true rfl) ?_
        exact W.aret hx hb hr (Or.inl ⟨_, rfl⟩) (Or.inr ⟨_, rfl⟩) (fun tt_ ht_ hW_ => ⟨⟨q_10, rfl, hK8.1, by rw [ht_]; exact hP, hD⟩, hS.F ht_⟩) hS.2.2 dX4_cutting_25
set_option maxHeartbeats 2000000 in
set_option maxRecDepth 100000 in
theorem mt_X4_swapping (l : Launch) (E : EE) (pr : Nat) (ps : Int) (al : Nat) (bf : Nat) (bm : Int) (bc : Int) (bv : Nat) (bg : Int → Int)  (bn : Nat) (hst : l.stackTraces = false) (hbb : 0 ≤ bc ∧ bc ≤ (bn : Int)) (hbn : bn ≤ 64) (hb7 : B7 bg) (hps : 0 ≤ ps ∧ ps ≤ bc) (sz : Nat) : vx_Met l yX4_swapping (ws_ yX4_swapping cX4_swapping 3 (some (.object "ClockworkTailor$Change"))) { frames := 8, cells := 4, slots := 23, locals := 3074 } (va_Pc [.ref pr] (UX E (([(pr, .inr (4, [.ref bf, iv ps, .ref al]))] : va_W) ++ ([(bf, .inr (10, [.ref bv, iv 0, iv bm, iv bc]))] : va_W) ++ ([(bv, ia (E.2 3) bn bg)] : va_W)) sz)) (UQxy E (fun u : Nat => (kCh bg bc [(0, 16), (1, 0), (1, 0)] 1 (ps, kT0)).1 = true) (fun u : Nat => .ref u) (fun u : Nat => ([(pr, .inr (4, [.ref bf, iv ((kCh bg bc [(0, 16), (1, 0), (1, 0)] 1 (ps, kT0)).2.1), .ref al]))] : va_W) ++ ([(bf, .inr (10, [.ref bv, iv 0, iv bm, iv bc]))] : va_W) ++ ([(bv, ia (E.2 3) bn bg)] : va_W) ++ ([(u, .inl (E.2 (3000 + 18), 2, .inl (fun zk : Nat => iI (if zk = 0 then (kCh bg bc [(0, 16), (1, 0), (1, 0)] 1 (ps, kT0)).2.2 1 else (kCh bg bc [(0, 16), (1, 0), (1, 0)] 1 (ps, kT0)).2.2 2))))] : va_W)) (va_A (([(pr, .inr (4, [.ref bf, iv ps, .ref al]))] : va_W) ++ ([(bf, .inr (10, [.ref bv, iv 0, iv bm, iv bc]))] : va_W) ++ ([(bv, ia (E.2 3) bn bg)] : va_W)) sz)) (UXx E (fun (En : String) (u : Unit) => En = "ClockworkTailor$SyntaxError" ∧ (kCh bg bc [(0, 16), (1, 0), (1, 0)] 1 (ps, kT0)).1 = false) (fun u : Unit => ([(pr, .inr (4, [.ref bf, iv ((kCh bg bc [(0, 16), (1, 0), (1, 0)] 1 (ps, kT0)).2.1), .ref al]))] : va_W) ++ ([(bf, .inr (10, [.ref bv, iv 0, iv bm, iv bc]))] : va_W) ++ ([(bv, ia (E.2 3) bn bg)] : va_W)) (fun u : Unit => some (8, [iv (kCh bg bc [(0, 16), (1, 0), (1, 0)] 1 (ps, kT0)).2.1])) (va_A (([(pr, .inr (4, [.ref bf, iv ps, .ref al]))] : va_W) ++ ([(bf, .inr (10, [.ref bv, iv 0, iv bm, iv bc]))] : va_W) ++ ([(bv, ia (E.2 3) bn bg)] : va_W)) sz)) 4 23 (va_A (([(pr, .inr (4, [.ref bf, iv ps, .ref al]))] : va_W) ++ ([(bf, .inr (10, [.ref bv, iv 0, iv bm, iv bc]))] : va_W) ++ ([(bv, ia (E.2 3) bn bg)] : va_W)) sz) := by
  refine vx_ofW (cc := cX4_swapping) (maxL := 3) (ret := (some (.object "ClockworkTailor$Change"))) (by decide) rfl ?_
  intro p e s m args below meth c s₁ B hml htb hv
  obtain ⟨rfl, hsz, hP, hK, hD0, hE⟩ := hv
  have hx := B.exec
  have hb := B.bytes
  have hr := B.returns
  have hts := atoms_spec (ws := (ws_ yX4_swapping cX4_swapping 3 (some (.object "ClockworkTailor$Change")))) B.pre
  have hts : ∀ w ∈ lw_all, w.before _ s = true := fun w h => hts w (List.mem_cons_of_mem _ h)
  have hown : s.vm.findClass RX4 = some m.cls := findClass_of_methodNamed B.named
  have hlocks := B.notSynchronized
  subst hsz
  have hD := hD0.self (sz := s.heap.size)
  generalize hAe : va_A (([(pr, .inr (4, [.ref bf, iv ps, .ref al]))] : va_W) ++ ([(bf, .inr (10, [.ref bv, iv 0, iv bm, iv bc]))] : va_W) ++ ([(bv, ia (E.2 3) bn bg)] : va_W)) s.heap.size = A at hD hE ⊢
  have hA : ∀ q : Nat, s.heap.size ≤ q → A q := fun q h => by rw [← hAe]; exact Or.inr h
  have hS : va_S A s.heap s.heap [] := va_S.rf
  have hl := lv_entry ([.ref pr]) (n := 3) (Nat.le_of_ble_eq_true rfl)
  rw [lg_entry_eq]
  generalize (lg_sl ([.ref pr]) ++ List.replicate (3 - (lg_sl ([.ref pr])).length) Slot.unset).toArray = ls at hl ⊢
  have hl : lv_has ls 3 [(0, .ref pr)] := hl
  have hch0 : (kCh bg bc [(0, 16), (1, 0), (1, 0)] 1 (ps, kT0)) = kCh bg bc [(0, 16), (1, 0), (1, 0)] 1 (ps, kT0) := rfl
  refine lv_aload_n hx hb dX4_swapping_0 rfl (lv_at hl 0 rfl) ?_
  refine va_ldcS hx hb (own := RX4) (tx := "swap") (index := 109) (q := EX E (2 * 16)) hown (hK.ks ("ClockworkTailor$Parser", 109, "swap", 16) (List.mem_of_getElem? (i := 16) rfl)) dX4_swapping_1 ?_
  have hz_1 : s.heap.size ≤ s.heap.size := hS.1
  refine n_txvS (w2 := fun u_2 => ([(pr, .inr (4, [.ref bf, iv ((kWd 16 bg bc ps).2.1), .ref al]))] : va_W) ++ ([(bf, .inr (10, [.ref bv, iv 0, iv bm, iv bc]))] : va_W) ++ ([(bv, ia (E.2 3) bn bg)] : va_W)) (w3 := fun u_3 => ([(pr, .inr (4, [.ref bf, iv ((kWd 16 bg bc ps).2.1), .ref al]))] : va_W) ++ ([(bf, .inr (10, [.ref bv, iv 0, iv bm, iv bc]))] : va_W) ++ ([(bv, ia (E.2 3) bn bg)] : va_W)) (vx_runV (As := [.ref (EX E (2 * 16))]) (rest := []) ⟨hx, hb, hml, hown, hts⟩ (mt_X4_expectWord l E pr ps al bf bm bc bv bg 16 (bn) (by exact hst) (by omega) (by omega) (by assumption) (by omega) (by decide) _) (cwV 1 hts (lw_V q1776 q1778 qs28 q103 q1779) rfl rfl rfl (by decide +kernel) ⟨Nat.le_of_ble_eq_true rfl, Nat.le_of_ble_eq_true rfl⟩) (UX_V hP hK (hD) hE hS (va_A_in hD hS hA) (va_recv hK.1 hP (ci := 4) (q0 := 0) rfl rfl)) rfl rfl hl.1 rfl (lv_room (Nat.le_of_ble_eq_true rfl)) dX4_swapping_3 ⟨Nat.le_of_ble_eq_true rfl, Nat.le_of_ble_eq_true rfl⟩) hP hD hS hA [0, 1, 2] [] [0, 1, 2] [0, 1, 2] rfl rfl rfl rfl rfl (fun _ => rfl) rfl (fun _ => rfl) ?_ ?_
  · intro En ce q9 u_3 H locs hCx hP hD hS hxf hq9 hce hcv hcl
    have hCx : En = "ClockworkTailor$SyntaxError" ∧ (kWd 16 bg bc ps).1 = false := hCx
    have hP : va_P E.1 CL (([(pr, .inr (4, [.ref bf, iv ((kWd 16 bg bc ps).2.1), .ref al]))] : va_W) ++ ([(bf, .inr (10, [.ref bv, iv 0, iv bm, iv bc]))] : va_W) ++ ([(bv, ia (E.2 3) bn bg)] : va_W)) H := hP
    have hD : va_D A (([(pr, .inr (4, [.ref bf, iv ((kWd 16 bg bc ps).2.1), .ref al]))] : va_W) ++ ([(bf, .inr (10, [.ref bv, iv 0, iv bm, iv bc]))] : va_W) ++ ([(bv, ia (E.2 3) bn bg)] : va_W)) := hD
    have hK9 : kFl (kCh bg bc [(0, 16), (1, 0), (1, 0)] 1 (ps, kT0)) ((kWd 16 bg bc ps).2.1) := by
      exact kCh_f hch0 hCx.2
    have hw9 : ((kWd 16 bg bc ps).2.1 : Int) = (kCh bg bc [(0, 16), (1, 0), (1, 0)] 1 (ps, kT0)).2.1 := hK9.2.symm
    have hxf : XF E q9 (some (8, [iv ((kWd 16 bg bc ps).2.1)])) H := hxf
    rw [hw9] at hP hD hxf
    exact n_out () (by exact ⟨hCx.1, hK9.1⟩) hP hD hS hxf (Nat.le_trans hz_1 hq9) hce hcv hcl (fun x hx9 => (htb x hx9).elim) hlocks (Nat.le_of_ble_eq_true rfl) (Nat.le_of_ble_eq_true rfl)
  · intro u_2 H locs hC hP hD hS
    have hu_2 : (kWd 16 bg bc ps).1 = true := hC
    have hP : va_P E.1 CL (([(pr, .inr (4, [.ref bf, iv ((kWd 16 bg bc ps).2.1), .ref al]))] : va_W) ++ ([(bf, .inr (10, [.ref bv, iv 0, iv bm, iv bc]))] : va_W) ++ ([(bv, ia (E.2 3) bn bg)] : va_W)) H := hP
    have hD : va_D A (([(pr, .inr (4, [.ref bf, iv ((kWd 16 bg bc ps).2.1), .ref al]))] : va_W) ++ ([(bf, .inr (10, [.ref bv, iv 0, iv bm, iv bc]))] : va_W) ++ ([(bv, ia (E.2 3) bn bg)] : va_W)) := hD
    have hch1 : (kCh bg bc [(0, 16), (1, 0), (1, 0)] 1 (ps, kT0)) = kCh bg bc [(1, 0), (1, 0)] 1 ((kWd 16 bg bc ps).2.1, kT0) := kCh_t hch0 hu_2
    have hkr1 : 0 ≤ (kWd 16 bg bc ps).2.1 ∧ (kWd 16 bg bc ps).2.1 ≤ bc ∧ ps ≤ (kWd 16 bg bc ps).2.1 := kIt_r hb7 (show 0 ≤ ps ∧ ps ≤ bc by omega) (0, 16)
    refine lv_aload_n hx hb dX4_swapping_6 rfl (lv_at hl 0 rfl) ?_
    refine lv_iconst (v := iI 0) hx hb dX4_swapping_7 rfl ?_
    have hz_4 : s.heap.size ≤ H.size := hS.1
    refine n_txS (x := fun u_5 => (kLt false bg bc ((kWd 16 bg bc ps).2.1)).2.2 1) (w2 := fun u_5 => ([(pr, .inr (4, [.ref bf, iv ((kLt false bg bc ((kWd 16 bg bc ps).2.1)).2.1), .ref al]))] : va_W) ++ ([(bf, .inr (10, [.ref bv, iv 0, iv bm, iv bc]))] : va_W) ++ ([(bv, ia (E.2 3) bn bg)] : va_W)) (w3 := fun u_6 => ([(pr, .inr (4, [.ref bf, iv ((kLt false bg bc ((kWd 16 bg bc ps).2.1)).2.1), .ref al]))] : va_W) ++ ([(bf, .inr (10, [.ref bv, iv 0, iv bm, iv bc]))] : va_W) ++ ([(bv, ia (E.2 3) bn bg)] : va_W)) (vx_runV (As := [iv 0]) (rest := []) ⟨hx, hb, hml, hown, hts⟩ (mt_X4_letter l E pr ((kWd 16 bg bc ps).2.1) al bf bm bc bv bg false (bn) (by exact hst) (by omega) (by omega) (by assumption) (by omega) _) (cwV 1 hts (lw_V q1823 q1825 qs31 q103 q1826) rfl rfl rfl (by decide +kernel) ⟨Nat.le_of_ble_eq_true rfl, Nat.le_of_ble_eq_true rfl⟩) (UX_V hP hK (hD) hE hS (va_A_in hD hS hA) (va_recv hK.1 hP (ci := 4) (q0 := 0) rfl rfl)) rfl rfl hl.1 rfl (lv_room (Nat.le_of_ble_eq_true rfl)) dX4_swapping_8 ⟨Nat.le_of_ble_eq_true rfl, Nat.le_of_ble_eq_true rfl⟩) hP hD hS hA [0, 1, 2] [] [0, 1, 2] [0, 1, 2] rfl rfl rfl rfl rfl (fun _ => rfl) rfl (fun _ => rfl) ?_ ?_
    · intro En ce q9 u_6 H locs hCx hP hD hS hxf hq9 hce hcv hcl
      have hCx : En = "ClockworkTailor$SyntaxError" ∧ (kLt false bg bc ((kWd 16 bg bc ps).2.1)).1 = false := hCx
      have hP : va_P E.1 CL (([(pr, .inr (4, [.ref bf, iv ((kLt false bg bc ((kWd 16 bg bc ps).2.1)).2.1), .ref al]))] : va_W) ++ ([(bf, .inr (10, [.ref bv, iv 0, iv bm, iv bc]))] : va_W) ++ ([(bv, ia (E.2 3) bn bg)] : va_W)) H := hP
      have hD : va_D A (([(pr, .inr (4, [.ref bf, iv ((kLt false bg bc ((kWd 16 bg bc ps).2.1)).2.1), .ref al]))] : va_W) ++ ([(bf, .inr (10, [.ref bv, iv 0, iv bm, iv bc]))] : va_W) ++ ([(bv, ia (E.2 3) bn bg)] : va_W)) := hD
      have hK9 : kFl (kCh bg bc [(0, 16), (1, 0), (1, 0)] 1 (ps, kT0)) ((kLt false bg bc ((kWd 16 bg bc ps).2.1)).2.1) := by
        exact kCh_f hch1 hCx.2
      have hw9 : ((kLt false bg bc ((kWd 16 bg bc ps).2.1)).2.1 : Int) = (kCh bg bc [(0, 16), (1, 0), (1, 0)] 1 (ps, kT0)).2.1 := hK9.2.symm
      have hxf : XF E q9 (some (8, [iv ((kLt false bg bc ((kWd 16 bg bc ps).2.1)).2.1)])) H := hxf
      rw [hw9] at hP hD hxf
      exact n_out () (by exact ⟨hCx.1, hK9.1⟩) hP hD hS hxf (Nat.le_trans hz_4 hq9) hce hcv hcl (fun x hx9 => (htb x hx9).elim) hlocks (Nat.le_of_ble_eq_true rfl) (Nat.le_of_ble_eq_true rfl)
    · intro u_5 H locs hC hP hD hS
      have hu_5 : (kLt false bg bc ((kWd 16 bg bc ps).2.1)).1 = true := hC
      have hP : va_P E.1 CL (([(pr, .inr (4, [.ref bf, iv ((kLt false bg bc ((kWd 16 bg bc ps).2.1)).2.1), .ref al]))] : va_W) ++ ([(bf, .inr (10, [.ref bv, iv 0, iv bm, iv bc]))] : va_W) ++ ([(bv, ia (E.2 3) bn bg)] : va_W)) H := hP
      have hD : va_D A (([(pr, .inr (4, [.ref bf, iv ((kLt false bg bc ((kWd 16 bg bc ps).2.1)).2.1), .ref al]))] : va_W) ++ ([(bf, .inr (10, [.ref bv, iv 0, iv bm, iv bc]))] : va_W) ++ ([(bv, ia (E.2 3) bn bg)] : va_W)) := hD
      have hch2 : (kCh bg bc [(0, 16), (1, 0), (1, 0)] 1 (ps, kT0)) = kCh bg bc [(1, 0)] 2 ((kLt false bg bc ((kWd 16 bg bc ps).2.1)).2.1, (ui kT0 1 ((kLt false bg bc ((kWd 16 bg bc ps).2.1)).2.2 1))) := kCh_t hch1 hu_5
      have hkr2 : 0 ≤ (kLt false bg bc ((kWd 16 bg bc ps).2.1)).2.1 ∧ (kLt false bg bc ((kWd 16 bg bc ps).2.1)).2.1 ≤ bc ∧ (kWd 16 bg bc ps).2.1 ≤ (kLt false bg bc ((kWd 16 bg bc ps).2.1)).2.1 := kIt_r hb7 (show 0 ≤ (kWd 16 bg bc ps).2.1 ∧ (kWd 16 bg bc ps).2.1 ≤ bc by omega) (1, 0)
      have hkv2 := kLt_v hb7 hu_5
      refine lv_istore_n (lv' := [(1, iv ((kLt false bg bc ((kWd 16 bg bc ps).2.1)).2.2 1)), (0, .ref pr)]) hx hb dX4_swapping_11 rfl hl (by decide) rfl (fun ls hl => ?_)
      refine lv_aload_n hx hb dX4_swapping_12 rfl (lv_at hl 1 rfl) ?_
      refine lv_iconst (v := iI 0) hx hb dX4_swapping_13 rfl ?_
      have hz_7 : s.heap.size ≤ H.size := hS.1
      refine n_txS (x := fun u_8 => (kLt false bg bc ((kLt false bg bc ((kWd 16 bg bc ps).2.1)).2.1)).2.2 1) (w2 := fun u_8 => ([(pr, .inr (4, [.ref bf, iv ((kLt false bg bc ((kLt false bg bc ((kWd 16 bg bc ps).2.1)).2.1)).2.1), .ref al]))] : va_W) ++ ([(bf, .inr (10, [.ref bv, iv 0, iv bm, iv bc]))] : va_W) ++ ([(bv, ia (E.2 3) bn bg)] : va_W)) (w3 := fun u_9 => ([(pr, .inr (4, [.ref bf, iv ((kLt false bg bc ((kLt false bg bc ((kWd 16 bg bc ps).2.1)).2.1)).2.1), .ref al]))] : va_W) ++ ([(bf, .inr (10, [.ref bv, iv 0, iv bm, iv bc]))] : va_W) ++ ([(bv, ia (E.2 3) bn bg)] : va_W)) (vx_runV (As := [iv 0]) (rest := []) ⟨hx, hb, hml, hown, hts⟩ (mt_X4_letter l E pr ((kLt false bg bc ((kWd 16 bg bc ps).2.1)).2.1) al bf bm bc bv bg false (bn) (by exact hst) (by omega) (by omega) (by assumption) (by omega) _) (cwV 1 hts (lw_V q1823 q1825 qs31 q103 q1826) rfl rfl rfl (by decide +kernel) ⟨Nat.le_of_ble_eq_true rfl, Nat.le_of_ble_eq_true rfl⟩) (UX_V hP hK (hD) hE hS (va_A_in hD hS hA) (va_recv hK.1 hP (ci := 4) (q0 := 0) rfl rfl)) rfl rfl hl.1 rfl (lv_room (Nat.le_of_ble_eq_true rfl)) dX4_swapping_14 ⟨Nat.le_of_ble_eq_true rfl, Nat.le_of_ble_eq_true rfl⟩) hP hD hS hA [0, 1, 2] [] [0, 1, 2] [0, 1, 2] rfl rfl rfl rfl rfl (fun _ => rfl) rfl (fun _ => rfl) ?_ ?_
      · intro En ce q9 u_9 H locs hCx hP hD hS hxf hq9 hce hcv hcl
        have hCx : En = "ClockworkTailor$SyntaxError" ∧ (kLt false bg bc ((kLt false bg bc ((kWd 16 bg bc ps).2.1)).2.1)).1 = false := hCx
        have hP : va_P E.1 CL (([(pr, .inr (4, [.ref bf, iv ((kLt false bg bc ((kLt false bg bc ((kWd 16 bg bc ps).2.1)).2.1)).2.1), .ref al]))] : va_W) ++ ([(bf, .inr (10, [.ref bv, iv 0, iv bm, iv bc]))] : va_W) ++ ([(bv, ia (E.2 3) bn bg)] : va_W)) H := hP
        have hD : va_D A (([(pr, .inr (4, [.ref bf, iv ((kLt false bg bc ((kLt false bg bc ((kWd 16 bg bc ps).2.1)).2.1)).2.1), .ref al]))] : va_W) ++ ([(bf, .inr (10, [.ref bv, iv 0, iv bm, iv bc]))] : va_W) ++ ([(bv, ia (E.2 3) bn bg)] : va_W)) := hD
        have hK9 : kFl (kCh bg bc [(0, 16), (1, 0), (1, 0)] 1 (ps, kT0)) ((kLt false bg bc ((kLt false bg bc ((kWd 16 bg bc ps).2.1)).2.1)).2.1) := by
          exact kCh_f hch2 hCx.2
        have hw9 : ((kLt false bg bc ((kLt false bg bc ((kWd 16 bg bc ps).2.1)).2.1)).2.1 : Int) = (kCh bg bc [(0, 16), (1, 0), (1, 0)] 1 (ps, kT0)).2.1 := hK9.2.symm
        have hxf : XF E q9 (some (8, [iv ((kLt false bg bc ((kLt false bg bc ((kWd 16 bg bc ps).2.1)).2.1)).2.1)])) H := hxf
        rw [hw9] at hP hD hxf
        exact n_out () (by exact ⟨hCx.1, hK9.1⟩) hP hD hS hxf (Nat.le_trans hz_7 hq9) hce hcv hcl (fun x hx9 => (htb x hx9).elim) hlocks (Nat.le_of_ble_eq_true rfl) (Nat.le_of_ble_eq_true rfl)
      · intro u_8 H locs hC hP hD hS
        have hu_8 : (kLt false bg bc ((kLt false bg bc ((kWd 16 bg bc ps).2.1)).2.1)).1 = true := hC
        have hP : va_P E.1 CL (([(pr, .inr (4, [.ref bf, iv ((kLt false bg bc ((kLt false bg bc ((kWd 16 bg bc ps).2.1)).2.1)).2.1), .ref al]))] : va_W) ++ ([(bf, .inr (10, [.ref bv, iv 0, iv bm, iv bc]))] : va_W) ++ ([(bv, ia (E.2 3) bn bg)] : va_W)) H := hP
        have hD : va_D A (([(pr, .inr (4, [.ref bf, iv ((kLt false bg bc ((kLt false bg bc ((kWd 16 bg bc ps).2.1)).2.1)).2.1), .ref al]))] : va_W) ++ ([(bf, .inr (10, [.ref bv, iv 0, iv bm, iv bc]))] : va_W) ++ ([(bv, ia (E.2 3) bn bg)] : va_W)) := hD
        have hch3 : (kCh bg bc [(0, 16), (1, 0), (1, 0)] 1 (ps, kT0)) = kCh bg bc [] 3 ((kLt false bg bc ((kLt false bg bc ((kWd 16 bg bc ps).2.1)).2.1)).2.1, (ui (ui kT0 1 ((kLt false bg bc ((kWd 16 bg bc ps).2.1)).2.2 1)) 2 ((kLt false bg bc ((kLt false bg bc ((kWd 16 bg bc ps).2.1)).2.1)).2.2 1))) := kCh_t hch2 hu_8
        have hkr3 : 0 ≤ (kLt false bg bc ((kLt false bg bc ((kWd 16 bg bc ps).2.1)).2.1)).2.1 ∧ (kLt false bg bc ((kLt false bg bc ((kWd 16 bg bc ps).2.1)).2.1)).2.1 ≤ bc ∧ (kLt false bg bc ((kWd 16 bg bc ps).2.1)).2.1 ≤ (kLt false bg bc ((kLt false bg bc ((kWd 16 bg bc ps).2.1)).2.1)).2.1 := kIt_r hb7 (show 0 ≤ (kLt false bg bc ((kWd 16 bg bc ps).2.1)).2.1 ∧ (kLt false bg bc ((kWd 16 bg bc ps).2.1)).2.1 ≤ bc by omega) (1, 0)
        have hkv3 := kLt_v hb7 hu_8
        have hK8 : (kCh bg bc [(0, 16), (1, 0), (1, 0)] 1 (ps, kT0)).1 = true ∧ (kCh bg bc [(0, 16), (1, 0), (1, 0)] 1 (ps, kT0)).2.1 = (kLt false bg bc ((kLt false bg bc ((kWd 16 bg bc ps).2.1)).2.1)).2.1 ∧ (kCh bg bc [(0, 16), (1, 0), (1, 0)] 1 (ps, kT0)).2.2 1 = (kLt false bg bc ((kWd 16 bg bc ps).2.1)).2.2 1 ∧ (kCh bg bc [(0, 16), (1, 0), (1, 0)] 1 (ps, kT0)).2.2 2 = (kLt false bg bc ((kLt false bg bc ((kWd 16 bg bc ps).2.1)).2.1)).2.2 1 := by rw [hch3]; exact ⟨rfl, rfl, rfl, rfl⟩
        refine lv_istore_n (lv' := [(2, iv ((kLt false bg bc ((kLt false bg bc ((kWd 16 bg bc ps).2.1)).2.1)).2.2 1)), (1, iv ((kLt false bg bc ((kWd 16 bg bc ps).2.1)).2.2 1)), (0, .ref pr)]) hx hb dX4_swapping_17 rfl hl (by decide) rfl (fun ls hl => ?_)
        refine lv_iload_n hx hb dX4_swapping_18 rfl (lv_at hl 1 rfl) ?_
        refine lv_iload_n hx hb dX4_swapping_19 rfl (lv_at hl 0 rfl) ?_
        obtain ⟨_, -, -, hL_d_11, -, -⟩ := lam_fact hK (lam_words hts (State.WarmedH.refl s)) ls_18 rfl (by decide +kernel) lk_18
        refine n_indyM (x := ⟨"ClockworkTailor$Parser", "swapping", "()LClockworkTailor$Change;"⟩) (index := 111) (vals := [iv ((kLt false bg bc ((kWd 16 bg bc ps).2.1)).2.2 1), iv ((kLt false bg bc ((kLt false bg bc ((kWd 16 bg bc ps).2.1)).2.1)).2.2 1)]) (a0 := (2, .inl (fun zk : Nat => iI (if zk = 0 then (kLt false bg bc ((kWd 16 bg bc ps).2.1)).2.2 1 else (kLt false bg bc ((kLt false bg bc ((kWd 16 bg bc ps).2.1)).2.1)).2.2 1)))) (rest := []) hx hb (hl.1.trans hml.symm) (show s.methodNamed? ⟨"ClockworkTailor$Parser", "swapping", "()LClockworkTailor$Change;"⟩ = some m from B.named) ((hK.kx.1 _ ls_18).1 (by decide)) hL_d_11 (by rfl) rfl rfl (by show [narrow .char (iv ((kLt false bg bc ((kWd 16 bg bc ps).2.1)).2.2 1)), narrow .char (iv ((kLt false bg bc ((kLt false bg bc ((kWd 16 bg bc ps).2.1)).2.1)).2.2 1))] = _; rw [nr_c (x := (kLt false bg bc ((kWd 16 bg bc ps).2.1)).2.2 1) (by omega), nr_c (x := (kLt false bg bc ((kLt false bg bc ((kWd 16 bg bc ps).2.1)).2.1)).2.2 1) (by omega)] <;> rfl) (n_fits (by show (fits .char (iv ((kLt false bg bc ((kWd 16 bg bc ps).2.1)).2.2 1)) && (fits .char (iv ((kLt false bg bc ((kLt false bg bc ((kWd 16 bg bc ps).2.1)).2.1)).2.2 1)) && true)) = true; rw [ft_c (x := (kLt false bg bc ((kWd 16 bg bc ps).2.1)).2.2 1) (by omega), ft_c (x := (kLt false bg bc ((kLt false bg bc ((kWd 16 bg bc ps).2.1)).2.1)).2.2 1) (by omega)] <;> rfl)) hP hD hS hA rfl (Nat.le_of_ble_eq_true rfl) (Nat.le_of_ble_eq_true rfl) (Nat.le_of_ble_eq_true rfl) dX4_swapping_20 (fun q_10 H hP hD hS => ?_)
        have hP : va_P E.1 CL (([(pr, .inr (4, [.ref bf, iv ((kLt false bg bc ((kLt false bg bc ((kWd 16 bg bc ps).2.1)).2.1)).2.1), .ref al]))] : va_W) ++ ([(bf, .inr (10, [.ref bv, iv 0, iv bm, iv bc]))] : va_W) ++ ([(bv, ia (E.2 3) bn bg)] : va_W) ++ ([(q_10, .inl (E.2 (3000 + 18), 2, .inl (fun zk : Nat => iI (if zk = 0 then (kLt false bg bc ((kWd 16 bg bc ps).2.1)).2.2 1 else (kLt false bg bc ((kLt false bg bc ((kWd 16 bg bc ps).2.1)).2.1)).2.2 1))))] : va_W)) H := hP
        have hD : va_D A (([(pr, .inr (4, [.ref bf, iv ((kLt false bg bc ((kLt false bg bc ((kWd 16 bg bc ps).2.1)).2.1)).2.1), .ref al]))] : va_W) ++ ([(bf, .inr (10, [.ref bv, iv 0, iv bm, iv bc]))] : va_W) ++ ([(bv, ia (E.2 3) bn bg)] : va_W) ++ ([(q_10, .inl (E.2 (3000 + 18), 2, .inl (fun zk : Nat => iI (if zk = 0 then (kLt false bg bc ((kWd 16 bg bc ps).2.1)).2.2 1 else (kLt false bg bc ((kLt false bg bc ((kWd 16 bg bc ps).2.1)).2.1)).2.2 1))))] : va_W)) := hD
        have w_12 : ((kLt false bg bc ((kLt false bg bc ((kWd 16 bg bc ps).2.1)).2.1)).2.1 : Int) = (kCh bg bc [(0, 16), (1, 0), (1, 0)] 1 (ps, kT0)).2.1 := by exact hK8.2.1.symm
        rw [w_12] at hP hD
        have hP : va_P E.1 CL (([(pr, .inr (4, [.ref bf, iv ((kCh bg bc [(0, 16), (1, 0), (1, 0)] 1 (ps, kT0)).2.1), .ref al]))] : va_W) ++ ([(bf, .inr (10, [.ref bv, iv 0, iv bm, iv bc]))] : va_W) ++ ([(bv, ia (E.2 3) bn bg)] : va_W) ++ ([(q_10, .inl (E.2 (3000 + 18), 2, .inl (fun zk : Nat => iI (if zk = 0 then (kLt false bg bc ((kWd 16 bg bc ps).2.1)).2.2 1 else (kLt false bg bc ((kLt false bg bc ((kWd 16 bg bc ps).2.1)).2.1)).2.2 1))))] : va_W)) H := hP
        have hD : va_D A (([(pr, .inr (4, [.ref bf, iv ((kCh bg bc [(0, 16), (1, 0), (1, 0)] 1 (ps, kT0)).2.1), .ref al]))] : va_W) ++ ([(bf, .inr (10, [.ref bv, iv 0, iv bm, iv bc]))] : va_W) ++ ([(bv, ia (E.2 3) bn bg)] : va_W) ++ ([(q_10, .inl (E.2 (3000 + 18), 2, .inl (fun zk : Nat => iI (if zk = 0 then (kLt false bg bc ((kWd 16 bg bc ps).2.1)).2.2 1 else (kLt false bg bc ((kLt false bg bc ((kWd 16 bg bc ps).2.1)).2.1)).2.2 1))))] : va_W)) := hD
        have hv0 : (kLt false bg bc ((kWd 16 bg bc ps).2.1)).2.2 1 = (kCh bg bc [(0, 16), (1, 0), (1, 0)] 1 (ps, kT0)).2.2 1 := (hK8.2.2.1).symm
        have hv1 : (kLt false bg bc ((kLt false bg bc ((kWd 16 bg bc ps).2.1)).2.1)).2.2 1 = (kCh bg bc [(0, 16), (1, 0), (1, 0)] 1 (ps, kT0)).2.2 2 := (hK8.2.2.2).symm
        rw [hv0, hv1] at hP hD
        have hP : va_P E.1 CL (([(pr, .inr (4, [.ref bf, iv ((kCh bg bc [(0, 16), (1, 0), (1, 0)] 1 (ps, kT0)).2.1), .ref al]))] : va_W) ++ ([(bf, .inr (10, [.ref bv, iv 0, iv bm, iv bc]))] : va_W) ++ ([(bv, ia (E.2 3) bn bg)] : va_W) ++ ([(q_10, .inl (E.2 (3000 + 18), 2, .inl (fun zk : Nat => iI (if zk = 0 then (kCh bg bc [(0, 16), (1, 0), (1, 0)] 1 (ps, kT0)).2.2 1 else (kCh bg bc [(0, 16), (1, 0), (1, 0)] 1 (ps, kT0)).2.2 2))))] : va_W)) H := hP
        have hD : va_D A (([(pr, .inr (4, [.ref bf, iv ((kCh bg bc [(0, 16), (1, 0), (1, 0)] 1 (ps, kT0)).2.1), .ref al]))] : va_W) ++ ([(bf, .inr (10, [.ref bv, iv 0, iv bm, iv bc]))] : va_W) ++ ([(bv, ia (E.2 3) bn bg)] : va_W) ++ ([(q_10, .inl (E.2 (3000 + 18), 2, .inl (fun zk : Nat => iI (if zk = 0 then (kCh bg bc [(0, 16), (1, 0), (1, 0)] 1 (ps, kT0)).2.2 1 else (kCh bg bc [(0, 16), (1, 0), (1, 0)] 1 (ps, kT0)).2.2 2))))] : va_W)) := hD
        refine vx_ret ?_
        refine W.widen (k := 4) (n := 23) (Nat.le_of_ble_eq_true rfl) (Nat.le_of_ble_eq_true rfl) ?_
        exact W.aret hx hb hr (Or.inl ⟨_, rfl⟩) (Or.inr ⟨_, rfl⟩) (fun tt_ ht_ hW_ => ⟨⟨q_10, rfl, hK8.1, by rw [ht_]; exact hP, hD⟩, hS.F ht_⟩) hS.2.2 dX4_swapping_25
set_option maxHeartbeats 2000000 in
set_option maxRecDepth 100000 in
theorem mt_X4_puttingBack (l : Launch) (E : EE) (pr : Nat) (ps : Int) (al : Nat) (bf : Nat) (bm : Int) (bc : Int) (bv : Nat) (bg : Int → Int)  (bn : Nat) (hst : l.stackTraces = false) (hbb : 0 ≤ bc ∧ bc ≤ (bn : Int)) (hbn : bn ≤ 64) (hb7 : B7 bg) (hps : 0 ≤ ps ∧ ps ≤ bc) (sz : Nat) : vx_Met l yX4_puttingBack (ws_ yX4_puttingBack cX4_puttingBack 2 (some (.object "ClockworkTailor$Change"))) { frames := 8, cells := 3, slots := 15, locals := 3073 } (va_Pc [.ref pr] (UX E (([(pr, .inr (4, [.ref bf, iv ps, .ref al]))] : va_W) ++ ([(bf, .inr (10, [.ref bv, iv 0, iv bm, iv bc]))] : va_W) ++ ([(bv, ia (E.2 3) bn bg)] : va_W)) sz)) (UQxy E (fun u : Nat => (kCh bg bc [(0, 17), (1, 0)] 1 (ps, kT0)).1 = true) (fun u : Nat => .ref u) (fun u : Nat => ([(pr, .inr (4, [.ref bf, iv ((kCh bg bc [(0, 17), (1, 0)] 1 (ps, kT0)).2.1), .ref al]))] : va_W) ++ ([(bf, .inr (10, [.ref bv, iv 0, iv bm, iv bc]))] : va_W) ++ ([(bv, ia (E.2 3) bn bg)] : va_W) ++ ([(u, .inl (E.2 (3000 + 19), 1, .inl (fun zk : Nat => iI ( (kCh bg bc [(0, 17), (1, 0)] 1 (ps, kT0)).2.2 1))))] : va_W)) (va_A (([(pr, .inr (4, [.ref bf, iv ps, .ref al]))] : va_W) ++ ([(bf, .inr (10, [.ref bv, iv 0, iv bm, iv bc]))] : va_W) ++ ([(bv, ia (E.2 3) bn bg)] : va_W)) sz)) (UXx E (fun (En : String) (u : Unit) => En = "ClockworkTailor$SyntaxError" ∧ (kCh bg bc [(0, 17), (1, 0)] 1 (ps, kT0)).1 = false) (fun u : Unit => ([(pr, .inr (4, [.ref bf, iv ((kCh bg bc [(0, 17), (1, 0)] 1 (ps, kT0)).2.1), .ref al]))] : va_W) ++ ([(bf, .inr (10, [.ref bv, iv 0, iv bm, iv bc]))] : va_W) ++ ([(bv, ia (E.2 3) bn bg)] : va_W)) (fun u : Unit => some (8, [iv (kCh bg bc [(0, 17), (1, 0)] 1 (ps, kT0)).2.1])) (va_A (([(pr, .inr (4, [.ref bf, iv ps, .ref al]))] : va_W) ++ ([(bf, .inr (10, [.ref bv, iv 0, iv bm, iv bc]))] : va_W) ++ ([(bv, ia (E.2 3) bn bg)] : va_W)) sz)) 3 15 (va_A (([(pr, .inr (4, [.ref bf, iv ps, .ref al]))] : va_W) ++ ([(bf, .inr (10, [.ref bv, iv 0, iv bm, iv bc]))] : va_W) ++ ([(bv, ia (E.2 3) bn bg)] : va_W)) sz) := by
  refine vx_ofW (cc := cX4_puttingBack) (maxL := 2) (ret := (some (.object "ClockworkTailor$Change"))) (by decide) rfl ?_
  intro p e s m args below meth c s₁ B hml htb hv
  obtain ⟨rfl, hsz, hP, hK, hD0, hE⟩ := hv
  have hx := B.exec
  have hb := B.bytes
  have hr := B.returns
  have hts := atoms_spec (ws := (ws_ yX4_puttingBack cX4_puttingBack 2 (some (.object "ClockworkTailor$Change")))) B.pre
  have hts : ∀ w ∈ lw_all, w.before _ s = true := fun w h => hts w (List.mem_cons_of_mem _ h)
  have hown : s.vm.findClass RX4 = some m.cls := findClass_of_methodNamed B.named
  have hlocks := B.notSynchronized
  subst hsz
  have hD := hD0.self (sz := s.heap.size)
  generalize hAe : va_A (([(pr, .inr (4, [.ref bf, iv ps, .ref al]))] : va_W) ++ ([(bf, .inr (10, [.ref bv, iv 0, iv bm, iv bc]))] : va_W) ++ ([(bv, ia (E.2 3) bn bg)] : va_W)) s.heap.size = A at hD hE ⊢
  have hA : ∀ q : Nat, s.heap.size ≤ q → A q := fun q h => by rw [← hAe]; exact Or.inr h
  have hS : va_S A s.heap s.heap [] := va_S.rf
  have hl := lv_entry ([.ref pr]) (n := 2) (Nat.le_of_ble_eq_true rfl)
  rw [lg_entry_eq]
  generalize (lg_sl ([.ref pr]) ++ List.replicate (2 - (lg_sl ([.ref pr])).length) Slot.unset).toArray = ls at hl ⊢
  have hl : lv_has ls 2 [(0, .ref pr)] := hl
  have hch0 : (kCh bg bc [(0, 17), (1, 0)] 1 (ps, kT0)) = kCh bg bc [(0, 17), (1, 0)] 1 (ps, kT0) := rfl
  refine lv_aload_n hx hb dX4_puttingBack_0 rfl (lv_at hl 0 rfl) ?_
  refine va_ldcS hx hb (own := RX4) (tx := "back") (index := 112) (q := EX E (2 * 17)) hown (hK.ks ("ClockworkTailor$Parser", 112, "back", 17) (List.mem_of_getElem? (i := 17) rfl)) dX4_puttingBack_1 ?_
  have hz_1 : s.heap.size ≤ s.heap.size := hS.1
  refine n_txvS (w2 := fun u_2 => ([(pr, .inr (4, [.ref bf, iv ((kWd 17 bg bc ps).2.1), .ref al]))] : va_W) ++ ([(bf, .inr (10, [.ref bv, iv 0, iv bm, iv bc]))] : va_W) ++ ([(bv, ia (E.2 3) bn bg)] : va_W)) (w3 := fun u_3 => ([(pr, .inr (4, [.ref bf, iv ((kWd 17 bg bc ps).2.1), .ref al]))] : va_W) ++ ([(bf, .inr (10, [.ref bv, iv 0, iv bm, iv bc]))] : va_W) ++ ([(bv, ia (E.2 3) bn bg)] : va_W)) (vx_runV (As := [.ref (EX E (2 * 17))]) (rest := []) ⟨hx, hb, hml, hown, hts⟩ (mt_X4_expectWord l E pr ps al bf bm bc bv bg 17 (bn) (by exact hst) (by omega) (by omega) (by assumption) (by omega) (by decide) _) (cwV 1 hts (lw_V q1776 q1778 qs28 q103 q1779) rfl rfl rfl (by decide +kernel) ⟨Nat.le_of_ble_eq_true rfl, Nat.le_of_ble_eq_true rfl⟩) (UX_V hP hK (hD) hE hS (va_A_in hD hS hA) (va_recv hK.1 hP (ci := 4) (q0 := 0) rfl rfl)) rfl rfl hl.1 rfl (lv_room (Nat.le_of_ble_eq_true rfl)) dX4_puttingBack_3 ⟨Nat.le_of_ble_eq_true rfl, Nat.le_of_ble_eq_true rfl⟩) hP hD hS hA [0, 1, 2] [] [0, 1, 2] [0, 1, 2] rfl rfl rfl rfl rfl (fun _ => rfl) rfl (fun _ => rfl) ?_ ?_
  · intro En ce q9 u_3 H locs hCx hP hD hS hxf hq9 hce hcv hcl
    have hCx : En = "ClockworkTailor$SyntaxError" ∧ (kWd 17 bg bc ps).1 = false := hCx
    have hP : va_P E.1 CL (([(pr, .inr (4, [.ref bf, iv ((kWd 17 bg bc ps).2.1), .ref al]))] : va_W) ++ ([(bf, .inr (10, [.ref bv, iv 0, iv bm, iv bc]))] : va_W) ++ ([(bv, ia (E.2 3) bn bg)] : va_W)) H := hP
    have hD : va_D A (([(pr, .inr (4, [.ref bf, iv ((kWd 17 bg bc ps).2.1), .ref al]))] : va_W) ++ ([(bf, .inr (10, [.ref bv, iv 0, iv bm, iv bc]))] : va_W) ++ ([(bv, ia (E.2 3) bn bg)] : va_W)) := hD
    have hK9 : kFl (kCh bg bc [(0, 17), (1, 0)] 1 (ps, kT0)) ((kWd 17 bg bc ps).2.1) := by
      exact kCh_f hch0 hCx.2
    have hw9 : ((kWd 17 bg bc ps).2.1 : Int) = (kCh bg bc [(0, 17), (1, 0)] 1 (ps, kT0)).2.1 := hK9.2.symm
    have hxf : XF E q9 (some (8, [iv ((kWd 17 bg bc ps).2.1)])) H := hxf
    rw [hw9] at hP hD hxf
    exact n_out () (by exact ⟨hCx.1, hK9.1⟩) hP hD hS hxf (Nat.le_trans hz_1 hq9) hce hcv hcl (fun x hx9 => (htb x hx9).elim) hlocks (Nat.le_of_ble_eq_true rfl) (Nat.le_of_ble_eq_true rfl)
  · intro u_2 H locs hC hP hD hS
    have hu_2 : (kWd 17 bg bc ps).1 = true := hC
    have hP : va_P E.1 CL (([(pr, .inr (4, [.ref bf, iv ((kWd 17 bg bc ps).2.1), .ref al]))] : va_W) ++ ([(bf, .inr (10, [.ref bv, iv 0, iv bm, iv bc]))] : va_W) ++ ([(bv, ia (E.2 3) bn bg)] : va_W)) H := hP
    have hD : va_D A (([(pr, .inr (4, [.ref bf, iv ((kWd 17 bg bc ps).2.1), .ref al]))] : va_W) ++ ([(bf, .inr (10, [.ref bv, iv 0, iv bm, iv bc]))] : va_W) ++ ([(bv, ia (E.2 3) bn bg)] : va_W)) := hD
    have hch1 : (kCh bg bc [(0, 17), (1, 0)] 1 (ps, kT0)) = kCh bg bc [(1, 0)] 1 ((kWd 17 bg bc ps).2.1, kT0) := kCh_t hch0 hu_2
    have hkr1 : 0 ≤ (kWd 17 bg bc ps).2.1 ∧ (kWd 17 bg bc ps).2.1 ≤ bc ∧ ps ≤ (kWd 17 bg bc ps).2.1 := kIt_r hb7 (show 0 ≤ ps ∧ ps ≤ bc by omega) (0, 17)
    refine lv_aload_n hx hb dX4_puttingBack_6 rfl (lv_at hl 0 rfl) ?_
    refine lv_iconst (v := iI 0) hx hb dX4_puttingBack_7 rfl ?_
    have hz_4 : s.heap.size ≤ H.size := hS.1
    refine n_txS (x := fun u_5 => (kLt false bg bc ((kWd 17 bg bc ps).2.1)).2.2 1) (w2 := fun u_5 => ([(pr, .inr (4, [.ref bf, iv ((kLt false bg bc ((kWd 17 bg bc ps).2.1)).2.1), .ref al]))] : va_W) ++ ([(bf, .inr (10, [.ref bv, iv 0, iv bm, iv bc]))] : va_W) ++ ([(bv, ia (E.2 3) bn bg)] : va_W)) (w3 := fun u_6 => ([(pr, .inr (4, [.ref bf, iv ((kLt false bg bc ((kWd 17 bg bc ps).2.1)).2.1), .ref al]))] : va_W) ++ ([(bf, .inr (10, [.ref bv, iv 0, iv bm, iv bc]))] : va_W) ++ ([(bv, ia (E.2 3) bn bg)] : va_W)) (vx_runV (As := [iv 0]) (rest := []) ⟨hx, hb, hml, hown, hts⟩ (mt_X4_letter l E pr ((kWd 17 bg bc ps).2.1) al bf bm bc bv bg false (bn) (by exact hst) (by omega) (by omega) (by assumption) (by omega) _) (cwV 1 hts (lw_V q1823 q1825 qs31 q103 q1826) rfl rfl rfl (by decide +kernel) ⟨Nat.le_of_ble_eq_true rfl, Nat.le_of_ble_eq_true rfl⟩) (UX_V hP hK (hD) hE hS (va_A_in hD hS hA) (va_recv hK.1 hP (ci := 4) (q0 := 0) rfl rfl)) rfl rfl hl.1 rfl (lv_room (Nat.le_of_ble_eq_true rfl)) dX4_puttingBack_8 ⟨Nat.le_of_ble_eq_true rfl, Nat.le_of_ble_eq_true rfl⟩) hP hD hS hA [0, 1, 2] [] [0, 1, 2] [0, 1, 2] rfl rfl rfl rfl rfl (fun _ => rfl) rfl (fun _ => rfl) ?_ ?_
    · intro En ce q9 u_6 H locs hCx hP hD hS hxf hq9 hce hcv hcl
      have hCx : En = "ClockworkTailor$SyntaxError" ∧ (kLt false bg bc ((kWd 17 bg bc ps).2.1)).1 = false := hCx
      have hP : va_P E.1 CL (([(pr, .inr (4, [.ref bf, iv ((kLt false bg bc ((kWd 17 bg bc ps).2.1)).2.1), .ref al]))] : va_W) ++ ([(bf, .inr (10, [.ref bv, iv 0, iv bm, iv bc]))] : va_W) ++ ([(bv, ia (E.2 3) bn bg)] : va_W)) H := hP
      have hD : va_D A (([(pr, .inr (4, [.ref bf, iv ((kLt false bg bc ((kWd 17 bg bc ps).2.1)).2.1), .ref al]))] : va_W) ++ ([(bf, .inr (10, [.ref bv, iv 0, iv bm, iv bc]))] : va_W) ++ ([(bv, ia (E.2 3) bn bg)] : va_W)) := hD
      have hK9 : kFl (kCh bg bc [(0, 17), (1, 0)] 1 (ps, kT0)) ((kLt false bg bc ((kWd 17 bg bc ps).2.1)).2.1) := by
        exact kCh_f hch1 hCx.2
      have hw9 : ((kLt false bg bc ((kWd 17 bg bc ps).2.1)).2.1 : Int) = (kCh bg bc [(0, 17), (1, 0)] 1 (ps, kT0)).2.1 := hK9.2.symm
      have hxf : XF E q9 (some (8, [iv ((kLt false bg bc ((kWd 17 bg bc ps).2.1)).2.1)])) H := hxf
      rw [hw9] at hP hD hxf
      exact n_out () (by exact ⟨hCx.1, hK9.1⟩) hP hD hS hxf (Nat.le_trans hz_4 hq9) hce hcv hcl (fun x hx9 => (htb x hx9).elim) hlocks (Nat.le_of_ble_eq_true rfl) (Nat.le_of_ble_eq_true rfl)
    · intro u_5 H locs hC hP hD hS
      have hu_5 : (kLt false bg bc ((kWd 17 bg bc ps).2.1)).1 = true := hC
      have hP : va_P E.1 CL (([(pr, .inr (4, [.ref bf, iv ((kLt false bg bc ((kWd 17 bg bc ps).2.1)).2.1), .ref al]))] : va_W) ++ ([(bf, .inr (10, [.ref bv, iv 0, iv bm, iv bc]))] : va_W) ++ ([(bv, ia (E.2 3) bn bg)] : va_W)) H := hP
      have hD : va_D A (([(pr, .inr (4, [.ref bf, iv ((kLt false bg bc ((kWd 17 bg bc ps).2.1)).2.1), .ref al]))] : va_W) ++ ([(bf, .inr (10, [.ref bv, iv 0, iv bm, iv bc]))] : va_W) ++ ([(bv, ia (E.2 3) bn bg)] : va_W)) := hD
      have hch2 : (kCh bg bc [(0, 17), (1, 0)] 1 (ps, kT0)) = kCh bg bc [] 2 ((kLt false bg bc ((kWd 17 bg bc ps).2.1)).2.1, (ui kT0 1 ((kLt false bg bc ((kWd 17 bg bc ps).2.1)).2.2 1))) := kCh_t hch1 hu_5
      have hkr2 : 0 ≤ (kLt false bg bc ((kWd 17 bg bc ps).2.1)).2.1 ∧ (kLt false bg bc ((kWd 17 bg bc ps).2.1)).2.1 ≤ bc ∧ (kWd 17 bg bc ps).2.1 ≤ (kLt false bg bc ((kWd 17 bg bc ps).2.1)).2.1 := kIt_r hb7 (show 0 ≤ (kWd 17 bg bc ps).2.1 ∧ (kWd 17 bg bc ps).2.1 ≤ bc by omega) (1, 0)
      have hkv2 := kLt_v hb7 hu_5
      have hK8 : (kCh bg bc [(0, 17), (1, 0)] 1 (ps, kT0)).1 = true ∧ (kCh bg bc [(0, 17), (1, 0)] 1 (ps, kT0)).2.1 = (kLt false bg bc ((kWd 17 bg bc ps).2.1)).2.1 ∧ (kCh bg bc [(0, 17), (1, 0)] 1 (ps, kT0)).2.2 1 = (kLt false bg bc ((kWd 17 bg bc ps).2.1)).2.2 1 := by rw [hch2]; exact ⟨rfl, rfl, rfl⟩
      refine lv_istore_n (lv' := [(1, iv ((kLt false bg bc ((kWd 17 bg bc ps).2.1)).2.2 1)), (0, .ref pr)]) hx hb dX4_puttingBack_11 rfl hl (by decide) rfl (fun ls hl => ?_)
      refine lv_iload_n hx hb dX4_puttingBack_12 rfl (lv_at hl 0 rfl) ?_
      obtain ⟨_, -, -, hL_d_8, -, -⟩ := lam_fact hK (lam_words hts (State.WarmedH.refl s)) ls_19 rfl (by decide +kernel) lk_19
      refine n_indyM (x := ⟨"ClockworkTailor$Parser", "puttingBack", "()LClockworkTailor$Change;"⟩) (index := 114) (vals := [iv ((kLt false bg bc ((kWd 17 bg bc ps).2.1)).2.2 1)]) (a0 := (1, .inl (fun zk : Nat => iI ( (kLt false bg bc ((kWd 17 bg bc ps).2.1)).2.2 1)))) (rest := []) hx hb (hl.1.trans hml.symm) (show s.methodNamed? ⟨"ClockworkTailor$Parser", "puttingBack", "()LClockworkTailor$Change;"⟩ = some m from B.named) ((hK.kx.1 _ ls_19).1 (by decide)) hL_d_8 (by rfl) rfl rfl (by show [narrow .char (iv ((kLt false bg bc ((kWd 17 bg bc ps).2.1)).2.2 1))] = _; rw [nr_c (x := (kLt false bg bc ((kWd 17 bg bc ps).2.1)).2.2 1) (by omega)] <;> rfl) (n_fits (by show (fits .char (iv ((kLt false bg bc ((kWd 17 bg bc ps).2.1)).2.2 1)) && true) = true; rw [ft_c (x := (kLt false bg bc ((kWd 17 bg bc ps).2.1)).2.2 1) (by omega)] <;> rfl)) hP hD hS hA rfl (Nat.le_of_ble_eq_true rfl) (Nat.le_of_ble_eq_true rfl) (Nat.le_of_ble_eq_true rfl) dX4_puttingBack_13 (fun q_7 H hP hD hS => ?_)
      have hP : va_P E.1 CL (([(pr, .inr (4, [.ref bf, iv ((kLt false bg bc ((kWd 17 bg bc ps).2.1)).2.1), .ref al]))] : va_W) ++ ([(bf, .inr (10, [.ref bv, iv 0, iv bm, iv bc]))] : va_W) ++ ([(bv, ia (E.2 3) bn bg)] : va_W) ++ ([(q_7, .inl (E.2 (3000 + 19), 1, .inl (fun zk : Nat => iI ( (kLt false bg bc ((kWd 17 bg bc ps).2.1)).2.2 1))))] : va_W)) H := hP
      have hD : va_D A (([(pr, .inr (4, [.ref bf, iv ((kLt false bg bc ((kWd 17 bg bc ps).2.1)).2.1), .ref al]))] : va_W) ++ ([(bf, .inr (10, [.ref bv, iv 0, iv bm, iv bc]))] : va_W) ++ ([(bv, ia (E.2 3) bn bg)] : va_W) ++ ([(q_7, .inl (E.2 (3000 + 19), 1, .inl (fun zk : Nat => iI ( (kLt false bg bc ((kWd 17 bg bc ps).2.1)).2.2 1))))] : va_W)) := hD
      have w_9 : ((kLt false bg bc ((kWd 17 bg bc ps).2.1)).2.1 : Int) = (kCh bg bc [(0, 17), (1, 0)] 1 (ps, kT0)).2.1 := by exact hK8.2.1.symm
      rw [w_9] at hP hD
      have hP : va_P E.1 CL (([(pr, .inr (4, [.ref bf, iv ((kCh bg bc [(0, 17), (1, 0)] 1 (ps, kT0)).2.1), .ref al]))] : va_W) ++ ([(bf, .inr (10, [.ref bv, iv 0, iv bm, iv bc]))] : va_W) ++ ([(bv, ia (E.2 3) bn bg)] : va_W) ++ ([(q_7, .inl (E.2 (3000 + 19), 1, .inl (fun zk : Nat => iI ( (kLt false bg bc ((kWd 17 bg bc ps).2.1)).2.2 1))))] : va_W)) H := hP
      have hD : va_D A (([(pr, .inr (4, [.ref bf, iv ((kCh bg bc [(0, 17), (1, 0)] 1 (ps, kT0)).2.1), .ref al]))] : va_W) ++ ([(bf, .inr (10, [.ref bv, iv 0, iv bm, iv bc]))] : va_W) ++ ([(bv, ia (E.2 3) bn bg)] : va_W) ++ ([(q_7, .inl (E.2 (3000 + 19), 1, .inl (fun zk : Nat => iI ( (kLt false bg bc ((kWd 17 bg bc ps).2.1)).2.2 1))))] : va_W)) := hD
      have hv0 : (kLt false bg bc ((kWd 17 bg bc ps).2.1)).2.2 1 = (kCh bg bc [(0, 17), (1, 0)] 1 (ps, kT0)).2.2 1 := (hK8.2.2).symm
      rw [hv0] at hP hD
      have hP : va_P E.1 CL (([(pr, .inr (4, [.ref bf, iv ((kCh bg bc [(0, 17), (1, 0)] 1 (ps, kT0)).2.1), .ref al]))] : va_W) ++ ([(bf, .inr (10, [.ref bv, iv 0, iv bm, iv bc]))] : va_W) ++ ([(bv, ia (E.2 3) bn bg)] : va_W) ++ ([(q_7, .inl (E.2 (3000 + 19), 1, .inl (fun zk : Nat => iI ( (kCh bg bc [(0, 17), (1, 0)] 1 (ps, kT0)).2.2 1))))] : va_W)) H := hP
      have hD : va_D A (([(pr, .inr (4, [.ref bf, iv ((kCh bg bc [(0, 17), (1, 0)] 1 (ps, kT0)).2.1), .ref al]))] : va_W) ++ ([(bf, .inr (10, [.ref bv, iv 0, iv bm, iv bc]))] : va_W) ++ ([(bv, ia (E.2 3) bn bg)] : va_W) ++ ([(q_7, .inl (E.2 (3000 + 19), 1, .inl (fun zk : Nat => iI ( (kCh bg bc [(0, 17), (1, 0)] 1 (ps, kT0)).2.2 1))))] : va_W)) := hD
      refine vx_ret ?_
      refine W.widen (k := 3) (n := 15) (Nat.le_of_ble_eq_true rfl) (Nat.le_of_ble_eq_true rfl) ?_
      exact W.aret hx hb hr (Or.inl ⟨_, rfl⟩) (Or.inr ⟨_, rfl⟩) (fun tt_ ht_ hW_ => ⟨⟨q_7, rfl, hK8.1, by rw [ht_]; exact hP, hD⟩, hS.F ht_⟩) hS.2.2 dX4_puttingBack_18
set_option maxHeartbeats 2000000 in
set_option maxRecDepth 100000 in
theorem mt_X4_opening (l : Launch) (E : EE) (pr : Nat) (ps : Int) (al : Nat) (bf : Nat) (bm : Int) (bc : Int) (bv : Nat) (bg : Int → Int)  (bn : Nat) (hst : l.stackTraces = false) (hbb : 0 ≤ bc ∧ bc ≤ (bn : Int)) (hbn : bn ≤ 64) (hb7 : B7 bg) (hps : 0 ≤ ps ∧ ps ≤ bc) (sz : Nat) : vx_Met l yX4_opening (ws_ yX4_opening cX4_opening 1 (some (.object "ClockworkTailor$Change"))) { frames := 8, cells := 1, slots := 7, locals := 3072 } (va_Pc [.ref pr] (UX E (([(pr, .inr (4, [.ref bf, iv ps, .ref al]))] : va_W) ++ ([(bf, .inr (10, [.ref bv, iv 0, iv bm, iv bc]))] : va_W) ++ ([(bv, ia (E.2 3) bn bg)] : va_W)) sz)) (UQxy E (fun u : Unit => (kCh bg bc [(0, 18)] 1 (ps, kT0)).1 = true) (fun u : Unit => .ref (EX E 3020)) (fun u : Unit => ([(pr, .inr (4, [.ref bf, iv ((kCh bg bc [(0, 18)] 1 (ps, kT0)).2.1), .ref al]))] : va_W) ++ ([(bf, .inr (10, [.ref bv, iv 0, iv bm, iv bc]))] : va_W) ++ ([(bv, ia (E.2 3) bn bg)] : va_W)) (va_A (([(pr, .inr (4, [.ref bf, iv ps, .ref al]))] : va_W) ++ ([(bf, .inr (10, [.ref bv, iv 0, iv bm, iv bc]))] : va_W) ++ ([(bv, ia (E.2 3) bn bg)] : va_W)) sz)) (UXx E (fun (En : String) (u : Unit) => En = "ClockworkTailor$SyntaxError" ∧ (kCh bg bc [(0, 18)] 1 (ps, kT0)).1 = false) (fun u : Unit => ([(pr, .inr (4, [.ref bf, iv ((kCh bg bc [(0, 18)] 1 (ps, kT0)).2.1), .ref al]))] : va_W) ++ ([(bf, .inr (10, [.ref bv, iv 0, iv bm, iv bc]))] : va_W) ++ ([(bv, ia (E.2 3) bn bg)] : va_W)) (fun u : Unit => some (8, [iv (kCh bg bc [(0, 18)] 1 (ps, kT0)).2.1])) (va_A (([(pr, .inr (4, [.ref bf, iv ps, .ref al]))] : va_W) ++ ([(bf, .inr (10, [.ref bv, iv 0, iv bm, iv bc]))] : va_W) ++ ([(bv, ia (E.2 3) bn bg)] : va_W)) sz)) 1 7 (va_A (([(pr, .inr (4, [.ref bf, iv ps, .ref al]))] : va_W) ++ ([(bf, .inr (10, [.ref bv, iv 0, iv bm, iv bc]))] : va_W) ++ ([(bv, ia (E.2 3) bn bg)] : va_W)) sz) := by
  refine vx_ofW (cc := cX4_opening) (maxL := 1) (ret := (some (.object "ClockworkTailor$Change"))) (by decide) rfl ?_
  intro p e s m args below meth c s₁ B hml htb hv
  obtain ⟨rfl, hsz, hP, hK, hD0, hE⟩ := hv
  have hx := B.exec
  have hb := B.bytes
  have hr := B.returns
  have hts := atoms_spec (ws := (ws_ yX4_opening cX4_opening 1 (some (.object "ClockworkTailor$Change")))) B.pre
  have hts : ∀ w ∈ lw_all, w.before _ s = true := fun w h => hts w (List.mem_cons_of_mem _ h)
  have hown : s.vm.findClass RX4 = some m.cls := findClass_of_methodNamed B.named
  have hlocks := B.notSynchronized
  subst hsz
  have hD := hD0.self (sz := s.heap.size)
  generalize hAe : va_A (([(pr, .inr (4, [.ref bf, iv ps, .ref al]))] : va_W) ++ ([(bf, .inr (10, [.ref bv, iv 0, iv bm, iv bc]))] : va_W) ++ ([(bv, ia (E.2 3) bn bg)] : va_W)) s.heap.size = A at hD hE ⊢
  have hA : ∀ q : Nat, s.heap.size ≤ q → A q := fun q h => by rw [← hAe]; exact Or.inr h
  have hS : va_S A s.heap s.heap [] := va_S.rf
  have hl := lv_entry ([.ref pr]) (n := 1) (Nat.le_of_ble_eq_true rfl)
  rw [lg_entry_eq]
  generalize (lg_sl ([.ref pr]) ++ List.replicate (1 - (lg_sl ([.ref pr])).length) Slot.unset).toArray = ls at hl ⊢
  have hl : lv_has ls 1 [(0, .ref pr)] := hl
  have hch0 : (kCh bg bc [(0, 18)] 1 (ps, kT0)) = kCh bg bc [(0, 18)] 1 (ps, kT0) := rfl
  refine lv_aload_n hx hb dX4_opening_0 rfl (lv_at hl 0 rfl) ?_
  refine va_ldcS hx hb (own := RX4) (tx := "open") (index := 115) (q := EX E (2 * 18)) hown (hK.ks ("ClockworkTailor$Parser", 115, "open", 18) (List.mem_of_getElem? (i := 18) rfl)) dX4_opening_1 ?_
  have hz_1 : s.heap.size ≤ s.heap.size := hS.1
  refine n_txvS (w2 := fun u_2 => ([(pr, .inr (4, [.ref bf, iv ((kWd 18 bg bc ps).2.1), .ref al]))] : va_W) ++ ([(bf, .inr (10, [.ref bv, iv 0, iv bm, iv bc]))] : va_W) ++ ([(bv, ia (E.2 3) bn bg)] : va_W)) (w3 := fun u_3 => ([(pr, .inr (4, [.ref bf, iv ((kWd 18 bg bc ps).2.1), .ref al]))] : va_W) ++ ([(bf, .inr (10, [.ref bv, iv 0, iv bm, iv bc]))] : va_W) ++ ([(bv, ia (E.2 3) bn bg)] : va_W)) (vx_runV (As := [.ref (EX E (2 * 18))]) (rest := []) ⟨hx, hb, hml, hown, hts⟩ (mt_X4_expectWord l E pr ps al bf bm bc bv bg 18 (bn) (by exact hst) (by omega) (by omega) (by assumption) (by omega) (by decide) _) (cwV 1 hts (lw_V q1776 q1778 qs28 q103 q1779) rfl rfl rfl (by decide +kernel) ⟨Nat.le_of_ble_eq_true rfl, Nat.le_of_ble_eq_true rfl⟩) (UX_V hP hK (hD) hE hS (va_A_in hD hS hA) (va_recv hK.1 hP (ci := 4) (q0 := 0) rfl rfl)) rfl rfl hl.1 rfl (lv_room (Nat.le_of_ble_eq_true rfl)) dX4_opening_3 ⟨Nat.le_of_ble_eq_true rfl, Nat.le_of_ble_eq_true rfl⟩) hP hD hS hA [0, 1, 2] [] [0, 1, 2] [0, 1, 2] rfl rfl rfl rfl rfl (fun _ => rfl) rfl (fun _ => rfl) ?_ ?_
  · intro En ce q9 u_3 H locs hCx hP hD hS hxf hq9 hce hcv hcl
    have hCx : En = "ClockworkTailor$SyntaxError" ∧ (kWd 18 bg bc ps).1 = false := hCx
    have hP : va_P E.1 CL (([(pr, .inr (4, [.ref bf, iv ((kWd 18 bg bc ps).2.1), .ref al]))] : va_W) ++ ([(bf, .inr (10, [.ref bv, iv 0, iv bm, iv bc]))] : va_W) ++ ([(bv, ia (E.2 3) bn bg)] : va_W)) H := hP
    have hD : va_D A (([(pr, .inr (4, [.ref bf, iv ((kWd 18 bg bc ps).2.1), .ref al]))] : va_W) ++ ([(bf, .inr (10, [.ref bv, iv 0, iv bm, iv bc]))] : va_W) ++ ([(bv, ia (E.2 3) bn bg)] : va_W)) := hD
    have hK9 : kFl (kCh bg bc [(0, 18)] 1 (ps, kT0)) ((kWd 18 bg bc ps).2.1) := by
      exact kCh_f hch0 hCx.2
    have hw9 : ((kWd 18 bg bc ps).2.1 : Int) = (kCh bg bc [(0, 18)] 1 (ps, kT0)).2.1 := hK9.2.symm
    have hxf : XF E q9 (some (8, [iv ((kWd 18 bg bc ps).2.1)])) H := hxf
    rw [hw9] at hP hD hxf
    exact n_out () (by exact ⟨hCx.1, hK9.1⟩) hP hD hS hxf (Nat.le_trans hz_1 hq9) hce hcv hcl (fun x hx9 => (htb x hx9).elim) hlocks (Nat.le_of_ble_eq_true rfl) (Nat.le_of_ble_eq_true rfl)
  · intro u_2 H locs hC hP hD hS
    have hu_2 : (kWd 18 bg bc ps).1 = true := hC
    have hP : va_P E.1 CL (([(pr, .inr (4, [.ref bf, iv ((kWd 18 bg bc ps).2.1), .ref al]))] : va_W) ++ ([(bf, .inr (10, [.ref bv, iv 0, iv bm, iv bc]))] : va_W) ++ ([(bv, ia (E.2 3) bn bg)] : va_W)) H := hP
    have hD : va_D A (([(pr, .inr (4, [.ref bf, iv ((kWd 18 bg bc ps).2.1), .ref al]))] : va_W) ++ ([(bf, .inr (10, [.ref bv, iv 0, iv bm, iv bc]))] : va_W) ++ ([(bv, ia (E.2 3) bn bg)] : va_W)) := hD
    have hch1 : (kCh bg bc [(0, 18)] 1 (ps, kT0)) = kCh bg bc [] 1 ((kWd 18 bg bc ps).2.1, kT0) := kCh_t hch0 hu_2
    have hkr1 : 0 ≤ (kWd 18 bg bc ps).2.1 ∧ (kWd 18 bg bc ps).2.1 ≤ bc ∧ ps ≤ (kWd 18 bg bc ps).2.1 := kIt_r hb7 (show 0 ≤ ps ∧ ps ≤ bc by omega) (0, 18)
    have hK8 : (kCh bg bc [(0, 18)] 1 (ps, kT0)).1 = true ∧ (kCh bg bc [(0, 18)] 1 (ps, kT0)).2.1 = (kWd 18 bg bc ps).2.1 := by rw [hch1]; exact ⟨rfl, rfl⟩
    refine n_indyC (x := ⟨"ClockworkTailor$Parser", "opening", "()LClockworkTailor$Change;"⟩) (index := 117) hx hb (hl.1.trans hml.symm) (show s.methodNamed? ⟨"ClockworkTailor$Parser", "opening", "()LClockworkTailor$Change;"⟩ = some m from B.named) ((hK.kx.1 _ ls_20).2 rfl) (Nat.le_of_ble_eq_true rfl) dX4_opening_6 ?_
    have w_4 : ((kWd 18 bg bc ps).2.1 : Int) = (kCh bg bc [(0, 18)] 1 (ps, kT0)).2.1 := by exact hK8.2.symm
    rw [w_4] at hP hD
    have hP : va_P E.1 CL (([(pr, .inr (4, [.ref bf, iv ((kCh bg bc [(0, 18)] 1 (ps, kT0)).2.1), .ref al]))] : va_W) ++ ([(bf, .inr (10, [.ref bv, iv 0, iv bm, iv bc]))] : va_W) ++ ([(bv, ia (E.2 3) bn bg)] : va_W)) H := hP
    have hD : va_D A (([(pr, .inr (4, [.ref bf, iv ((kCh bg bc [(0, 18)] 1 (ps, kT0)).2.1), .ref al]))] : va_W) ++ ([(bf, .inr (10, [.ref bv, iv 0, iv bm, iv bc]))] : va_W) ++ ([(bv, ia (E.2 3) bn bg)] : va_W)) := hD
    refine vx_ret ?_
    refine W.widen (k := 1) (n := 7) (Nat.le_of_ble_eq_true rfl) (Nat.le_of_ble_eq_true rfl) ?_
    exact W.aret hx hb hr (Or.inl ⟨_, rfl⟩) (Or.inr ⟨_, rfl⟩) (fun tt_ ht_ hW_ => ⟨⟨(), rfl, hK8.1, by rw [ht_]; exact hP, hD⟩, hS.F ht_⟩) hS.2.2 dX4_opening_11
set_option maxHeartbeats 2000000 in
set_option maxRecDepth 100000 in
theorem mt_X4_closing (l : Launch) (E : EE) (pr : Nat) (ps : Int) (al : Nat) (bf : Nat) (bm : Int) (bc : Int) (bv : Nat) (bg : Int → Int)  (bn : Nat) (hst : l.stackTraces = false) (hbb : 0 ≤ bc ∧ bc ≤ (bn : Int)) (hbn : bn ≤ 64) (hb7 : B7 bg) (hps : 0 ≤ ps ∧ ps ≤ bc) (sz : Nat) : vx_Met l yX4_closing (ws_ yX4_closing cX4_closing 2 (some (.object "ClockworkTailor$Change"))) { frames := 8, cells := 3, slots := 15, locals := 3073 } (va_Pc [.ref pr] (UX E (([(pr, .inr (4, [.ref bf, iv ps, .ref al]))] : va_W) ++ ([(bf, .inr (10, [.ref bv, iv 0, iv bm, iv bc]))] : va_W) ++ ([(bv, ia (E.2 3) bn bg)] : va_W)) sz)) (UQxy E (fun u : Nat => (kCh bg bc [(0, 14), (2, 1)] 1 (ps, kT0)).1 = true) (fun u : Nat => .ref u) (fun u : Nat => ([(pr, .inr (4, [.ref bf, iv ((kCh bg bc [(0, 14), (2, 1)] 1 (ps, kT0)).2.1), .ref al]))] : va_W) ++ ([(bf, .inr (10, [.ref bv, iv 0, iv bm, iv bc]))] : va_W) ++ ([(bv, ia (E.2 3) bn bg)] : va_W) ++ ([(u, .inl (E.2 (3000 + 16), 1, .inl (fun zk : Nat => iI ( (kCh bg bc [(0, 14), (2, 1)] 1 (ps, kT0)).2.2 1))))] : va_W)) (va_A (([(pr, .inr (4, [.ref bf, iv ps, .ref al]))] : va_W) ++ ([(bf, .inr (10, [.ref bv, iv 0, iv bm, iv bc]))] : va_W) ++ ([(bv, ia (E.2 3) bn bg)] : va_W)) sz)) (UXx E (fun (En : String) (u : Unit) => En = "ClockworkTailor$SyntaxError" ∧ (kCh bg bc [(0, 14), (2, 1)] 1 (ps, kT0)).1 = false) (fun u : Unit => ([(pr, .inr (4, [.ref bf, iv ((kCh bg bc [(0, 14), (2, 1)] 1 (ps, kT0)).2.1), .ref al]))] : va_W) ++ ([(bf, .inr (10, [.ref bv, iv 0, iv bm, iv bc]))] : va_W) ++ ([(bv, ia (E.2 3) bn bg)] : va_W)) (fun u : Unit => some (8, [iv (kCh bg bc [(0, 14), (2, 1)] 1 (ps, kT0)).2.1])) (va_A (([(pr, .inr (4, [.ref bf, iv ps, .ref al]))] : va_W) ++ ([(bf, .inr (10, [.ref bv, iv 0, iv bm, iv bc]))] : va_W) ++ ([(bv, ia (E.2 3) bn bg)] : va_W)) sz)) 3 15 (va_A (([(pr, .inr (4, [.ref bf, iv ps, .ref al]))] : va_W) ++ ([(bf, .inr (10, [.ref bv, iv 0, iv bm, iv bc]))] : va_W) ++ ([(bv, ia (E.2 3) bn bg)] : va_W)) sz) := by
  refine vx_ofW (cc := cX4_closing) (maxL := 2) (ret := (some (.object "ClockworkTailor$Change"))) (by decide) rfl ?_
  intro p e s m args below meth c s₁ B hml htb hv
  obtain ⟨rfl, hsz, hP, hK, hD0, hE⟩ := hv
  have hx := B.exec
  have hb := B.bytes
  have hr := B.returns
  have hts := atoms_spec (ws := (ws_ yX4_closing cX4_closing 2 (some (.object "ClockworkTailor$Change")))) B.pre
  have hts : ∀ w ∈ lw_all, w.before _ s = true := fun w h => hts w (List.mem_cons_of_mem _ h)
  have hown : s.vm.findClass RX4 = some m.cls := findClass_of_methodNamed B.named
  have hlocks := B.notSynchronized
  subst hsz
  have hD := hD0.self (sz := s.heap.size)
  generalize hAe : va_A (([(pr, .inr (4, [.ref bf, iv ps, .ref al]))] : va_W) ++ ([(bf, .inr (10, [.ref bv, iv 0, iv bm, iv bc]))] : va_W) ++ ([(bv, ia (E.2 3) bn bg)] : va_W)) s.heap.size = A at hD hE ⊢
  have hA : ∀ q : Nat, s.heap.size ≤ q → A q := fun q h => by rw [← hAe]; exact Or.inr h
  have hS : va_S A s.heap s.heap [] := va_S.rf
  have hl := lv_entry ([.ref pr]) (n := 2) (Nat.le_of_ble_eq_true rfl)
  rw [lg_entry_eq]
  generalize (lg_sl ([.ref pr]) ++ List.replicate (2 - (lg_sl ([.ref pr])).length) Slot.unset).toArray = ls at hl ⊢
  have hl : lv_has ls 2 [(0, .ref pr)] := hl
  have hch0 : (kCh bg bc [(0, 14), (2, 1)] 1 (ps, kT0)) = kCh bg bc [(0, 14), (2, 1)] 1 (ps, kT0) := rfl
  refine lv_aload_n hx hb dX4_closing_0 rfl (lv_at hl 0 rfl) ?_
  refine va_ldcS hx hb (own := RX4) (tx := "close") (index := 120) (q := EX E (2 * 14)) hown (hK.ks ("ClockworkTailor$Parser", 120, "close", 14) (List.mem_of_getElem? (i := 14) rfl)) dX4_closing_1 ?_
  have hz_1 : s.heap.size ≤ s.heap.size := hS.1
  refine n_txvS (w2 := fun u_2 => ([(pr, .inr (4, [.ref bf, iv ((kWd 14 bg bc ps).2.1), .ref al]))] : va_W) ++ ([(bf, .inr (10, [.ref bv, iv 0, iv bm, iv bc]))] : va_W) ++ ([(bv, ia (E.2 3) bn bg)] : va_W)) (w3 := fun u_3 => ([(pr, .inr (4, [.ref bf, iv ((kWd 14 bg bc ps).2.1), .ref al]))] : va_W) ++ ([(bf, .inr (10, [.ref bv, iv 0, iv bm, iv bc]))] : va_W) ++ ([(bv, ia (E.2 3) bn bg)] : va_W)) (vx_runV (As := [.ref (EX E (2 * 14))]) (rest := []) ⟨hx, hb, hml, hown, hts⟩ (mt_X4_expectWord l E pr ps al bf bm bc bv bg 14 (bn) (by exact hst) (by omega) (by omega) (by assumption) (by omega) (by decide) _) (cwV 1 hts (lw_V q1776 q1778 qs28 q103 q1779) rfl rfl rfl (by decide +kernel) ⟨Nat.le_of_ble_eq_true rfl, Nat.le_of_ble_eq_true rfl⟩) (UX_V hP hK (hD) hE hS (va_A_in hD hS hA) (va_recv hK.1 hP (ci := 4) (q0 := 0) rfl rfl)) rfl rfl hl.1 rfl (lv_room (Nat.le_of_ble_eq_true rfl)) dX4_closing_3 ⟨Nat.le_of_ble_eq_true rfl, Nat.le_of_ble_eq_true rfl⟩) hP hD hS hA [0, 1, 2] [] [0, 1, 2] [0, 1, 2] rfl rfl rfl rfl rfl (fun _ => rfl) rfl (fun _ => rfl) ?_ ?_
  · intro En ce q9 u_3 H locs hCx hP hD hS hxf hq9 hce hcv hcl
    have hCx : En = "ClockworkTailor$SyntaxError" ∧ (kWd 14 bg bc ps).1 = false := hCx
    have hP : va_P E.1 CL (([(pr, .inr (4, [.ref bf, iv ((kWd 14 bg bc ps).2.1), .ref al]))] : va_W) ++ ([(bf, .inr (10, [.ref bv, iv 0, iv bm, iv bc]))] : va_W) ++ ([(bv, ia (E.2 3) bn bg)] : va_W)) H := hP
    have hD : va_D A (([(pr, .inr (4, [.ref bf, iv ((kWd 14 bg bc ps).2.1), .ref al]))] : va_W) ++ ([(bf, .inr (10, [.ref bv, iv 0, iv bm, iv bc]))] : va_W) ++ ([(bv, ia (E.2 3) bn bg)] : va_W)) := hD
    have hK9 : kFl (kCh bg bc [(0, 14), (2, 1)] 1 (ps, kT0)) ((kWd 14 bg bc ps).2.1) := by
      exact kCh_f hch0 hCx.2
    have hw9 : ((kWd 14 bg bc ps).2.1 : Int) = (kCh bg bc [(0, 14), (2, 1)] 1 (ps, kT0)).2.1 := hK9.2.symm
    have hxf : XF E q9 (some (8, [iv ((kWd 14 bg bc ps).2.1)])) H := hxf
    rw [hw9] at hP hD hxf
    exact n_out () (by exact ⟨hCx.1, hK9.1⟩) hP hD hS hxf (Nat.le_trans hz_1 hq9) hce hcv hcl (fun x hx9 => (htb x hx9).elim) hlocks (Nat.le_of_ble_eq_true rfl) (Nat.le_of_ble_eq_true rfl)
  · intro u_2 H locs hC hP hD hS
    have hu_2 : (kWd 14 bg bc ps).1 = true := hC
    have hP : va_P E.1 CL (([(pr, .inr (4, [.ref bf, iv ((kWd 14 bg bc ps).2.1), .ref al]))] : va_W) ++ ([(bf, .inr (10, [.ref bv, iv 0, iv bm, iv bc]))] : va_W) ++ ([(bv, ia (E.2 3) bn bg)] : va_W)) H := hP
    have hD : va_D A (([(pr, .inr (4, [.ref bf, iv ((kWd 14 bg bc ps).2.1), .ref al]))] : va_W) ++ ([(bf, .inr (10, [.ref bv, iv 0, iv bm, iv bc]))] : va_W) ++ ([(bv, ia (E.2 3) bn bg)] : va_W)) := hD
    have hch1 : (kCh bg bc [(0, 14), (2, 1)] 1 (ps, kT0)) = kCh bg bc [(2, 1)] 1 ((kWd 14 bg bc ps).2.1, kT0) := kCh_t hch0 hu_2
    have hkr1 : 0 ≤ (kWd 14 bg bc ps).2.1 ∧ (kWd 14 bg bc ps).2.1 ≤ bc ∧ ps ≤ (kWd 14 bg bc ps).2.1 := kIt_r hb7 (show 0 ≤ ps ∧ ps ≤ bc by omega) (0, 14)
    refine lv_aload_n hx hb dX4_closing_6 rfl (lv_at hl 0 rfl) ?_
    refine lv_iconst (v := iI 1) hx hb dX4_closing_7 rfl ?_
    have hz_4 : s.heap.size ≤ H.size := hS.1
    refine n_txS (x := fun u_5 => (kNm 1 bg bc ((kWd 14 bg bc ps).2.1)).2.2 1) (w2 := fun u_5 => ([(pr, .inr (4, [.ref bf, iv ((kNm 1 bg bc ((kWd 14 bg bc ps).2.1)).2.1), .ref al]))] : va_W) ++ ([(bf, .inr (10, [.ref bv, iv 0, iv bm, iv bc]))] : va_W) ++ ([(bv, ia (E.2 3) bn bg)] : va_W)) (w3 := fun u_6 => ([(pr, .inr (4, [.ref bf, iv ((kNm 1 bg bc ((kWd 14 bg bc ps).2.1)).2.1), .ref al]))] : va_W) ++ ([(bf, .inr (10, [.ref bv, iv 0, iv bm, iv bc]))] : va_W) ++ ([(bv, ia (E.2 3) bn bg)] : va_W)) (vx_runV (As := [iv 1]) (rest := []) ⟨hx, hb, hml, hown, hts⟩ (mt_X4_number l E pr ((kWd 14 bg bc ps).2.1) al bf bm bc bv bg 1 (bn) (by exact hst) (by omega) (by omega) (by assumption) (by omega) (by omega) _) (cwV 1 hts (lw_V q1829 q1831 qs32 q103 q1832) rfl rfl rfl (by decide +kernel) ⟨Nat.le_of_ble_eq_true rfl, Nat.le_of_ble_eq_true rfl⟩) (UX_V hP hK (hD) hE hS (va_A_in hD hS hA) (va_recv hK.1 hP (ci := 4) (q0 := 0) rfl rfl)) rfl rfl hl.1 rfl (lv_room (Nat.le_of_ble_eq_true rfl)) dX4_closing_8 ⟨Nat.le_of_ble_eq_true rfl, Nat.le_of_ble_eq_true rfl⟩) hP hD hS hA [0, 1, 2] [] [0, 1, 2] [0, 1, 2] rfl rfl rfl rfl rfl (fun _ => rfl) rfl (fun _ => rfl) ?_ ?_
    · intro En ce q9 u_6 H locs hCx hP hD hS hxf hq9 hce hcv hcl
      have hCx : En = "ClockworkTailor$SyntaxError" ∧ (kNm 1 bg bc ((kWd 14 bg bc ps).2.1)).1 = false := hCx
      have hP : va_P E.1 CL (([(pr, .inr (4, [.ref bf, iv ((kNm 1 bg bc ((kWd 14 bg bc ps).2.1)).2.1), .ref al]))] : va_W) ++ ([(bf, .inr (10, [.ref bv, iv 0, iv bm, iv bc]))] : va_W) ++ ([(bv, ia (E.2 3) bn bg)] : va_W)) H := hP
      have hD : va_D A (([(pr, .inr (4, [.ref bf, iv ((kNm 1 bg bc ((kWd 14 bg bc ps).2.1)).2.1), .ref al]))] : va_W) ++ ([(bf, .inr (10, [.ref bv, iv 0, iv bm, iv bc]))] : va_W) ++ ([(bv, ia (E.2 3) bn bg)] : va_W)) := hD
      have hK9 : kFl (kCh bg bc [(0, 14), (2, 1)] 1 (ps, kT0)) ((kNm 1 bg bc ((kWd 14 bg bc ps).2.1)).2.1) := by
        exact kCh_f hch1 hCx.2
      have hw9 : ((kNm 1 bg bc ((kWd 14 bg bc ps).2.1)).2.1 : Int) = (kCh bg bc [(0, 14), (2, 1)] 1 (ps, kT0)).2.1 := hK9.2.symm
      have hxf : XF E q9 (some (8, [iv ((kNm 1 bg bc ((kWd 14 bg bc ps).2.1)).2.1)])) H := hxf
      rw [hw9] at hP hD hxf
      exact n_out () (by exact ⟨hCx.1, hK9.1⟩) hP hD hS hxf (Nat.le_trans hz_4 hq9) hce hcv hcl (fun x hx9 => (htb x hx9).elim) hlocks (Nat.le_of_ble_eq_true rfl) (Nat.le_of_ble_eq_true rfl)
    · intro u_5 H locs hC hP hD hS
      have hu_5 : (kNm 1 bg bc ((kWd 14 bg bc ps).2.1)).1 = true := hC
      have hP : va_P E.1 CL (([(pr, .inr (4, [.ref bf, iv ((kNm 1 bg bc ((kWd 14 bg bc ps).2.1)).2.1), .ref al]))] : va_W) ++ ([(bf, .inr (10, [.ref bv, iv 0, iv bm, iv bc]))] : va_W) ++ ([(bv, ia (E.2 3) bn bg)] : va_W)) H := hP
      have hD : va_D A (([(pr, .inr (4, [.ref bf, iv ((kNm 1 bg bc ((kWd 14 bg bc ps).2.1)).2.1), .ref al]))] : va_W) ++ ([(bf, .inr (10, [.ref bv, iv 0, iv bm, iv bc]))] : va_W) ++ ([(bv, ia (E.2 3) bn bg)] : va_W)) := hD
      have hch2 : (kCh bg bc [(0, 14), (2, 1)] 1 (ps, kT0)) = kCh bg bc [] 2 ((kNm 1 bg bc ((kWd 14 bg bc ps).2.1)).2.1, (ui kT0 1 ((kNm 1 bg bc ((kWd 14 bg bc ps).2.1)).2.2 1))) := kCh_t hch1 hu_5
      have hkr2 : 0 ≤ (kNm 1 bg bc ((kWd 14 bg bc ps).2.1)).2.1 ∧ (kNm 1 bg bc ((kWd 14 bg bc ps).2.1)).2.1 ≤ bc ∧ (kWd 14 bg bc ps).2.1 ≤ (kNm 1 bg bc ((kWd 14 bg bc ps).2.1)).2.1 := kIt_r hb7 (show 0 ≤ (kWd 14 bg bc ps).2.1 ∧ (kWd 14 bg bc ps).2.1 ≤ bc by omega) (2, 1)
      have hkv2 := kNm_v hb7 (show 0 ≤ (kWd 14 bg bc ps).2.1 ∧ (kWd 14 bg bc ps).2.1 ≤ bc by omega) hu_5 (by omega)
      have hK8 : (kCh bg bc [(0, 14), (2, 1)] 1 (ps, kT0)).1 = true ∧ (kCh bg bc [(0, 14), (2, 1)] 1 (ps, kT0)).2.1 = (kNm 1 bg bc ((kWd 14 bg bc ps).2.1)).2.1 ∧ (kCh bg bc [(0, 14), (2, 1)] 1 (ps, kT0)).2.2 1 = (kNm 1 bg bc ((kWd 14 bg bc ps).2.1)).2.2 1 := by rw [hch2]; exact ⟨rfl, rfl, rfl⟩
      refine lv_istore_n (lv' := [(1, iv ((kNm 1 bg bc ((kWd 14 bg bc ps).2.1)).2.2 1)), (0, .ref pr)]) hx hb dX4_closing_11 rfl hl (by decide) rfl (fun ls hl => ?_)
      refine lv_iload_n hx hb dX4_closing_12 rfl (lv_at hl 0 rfl) ?_
      obtain ⟨_, -, -, hL_d_8, -, -⟩ := lam_fact hK (lam_words hts (State.WarmedH.refl s)) ls_16 rfl (by decide +kernel) lk_16
      refine n_indyM (x := ⟨"ClockworkTailor$Parser", "closing", "()LClockworkTailor$Change;"⟩) (index := 122) (vals := [iv ((kNm 1 bg bc ((kWd 14 bg bc ps).2.1)).2.2 1)]) (a0 := (1, .inl (fun zk : Nat => iI ( (kNm 1 bg bc ((kWd 14 bg bc ps).2.1)).2.2 1)))) (rest := []) hx hb (hl.1.trans hml.symm) (show s.methodNamed? ⟨"ClockworkTailor$Parser", "closing", "()LClockworkTailor$Change;"⟩ = some m from B.named) ((hK.kx.1 _ ls_16).1 (by decide)) hL_d_8 (by rfl) rfl rfl rfl (n_fits rfl) hP hD hS hA rfl (Nat.le_of_ble_eq_true rfl) (Nat.le_of_ble_eq_true rfl) (Nat.le_of_ble_eq_true rfl) dX4_closing_13 (fun q_7 H hP hD hS => ?_)
      have hP : va_P E.1 CL (([(pr, .inr (4, [.ref bf, iv ((kNm 1 bg bc ((kWd 14 bg bc ps).2.1)).2.1), .ref al]))] : va_W) ++ ([(bf, .inr (10, [.ref bv, iv 0, iv bm, iv bc]))] : va_W) ++ ([(bv, ia (E.2 3) bn bg)] : va_W) ++ ([(q_7, .inl (E.2 (3000 + 16), 1, .inl (fun zk : Nat => iI ( (kNm 1 bg bc ((kWd 14 bg bc ps).2.1)).2.2 1))))] : va_W)) H := hP
      have hD : va_D A (([(pr, .inr (4, [.ref bf, iv ((kNm 1 bg bc ((kWd 14 bg bc ps).2.1)).2.1), .ref al]))] : va_W) ++ ([(bf, .inr (10, [.ref bv, iv 0, iv bm, iv bc]))] : va_W) ++ ([(bv, ia (E.2 3) bn bg)] : va_W) ++ ([(q_7, .inl (E.2 (3000 + 16), 1, .inl (fun zk : Nat => iI ( (kNm 1 bg bc ((kWd 14 bg bc ps).2.1)).2.2 1))))] : va_W)) := hD
      have w_9 : ((kNm 1 bg bc ((kWd 14 bg bc ps).2.1)).2.1 : Int) = (kCh bg bc [(0, 14), (2, 1)] 1 (ps, kT0)).2.1 := by exact hK8.2.1.symm
      rw [w_9] at hP hD
      have hP : va_P E.1 CL (([(pr, .inr (4, [.ref bf, iv ((kCh bg bc [(0, 14), (2, 1)] 1 (ps, kT0)).2.1), .ref al]))] : va_W) ++ ([(bf, .inr (10, [.ref bv, iv 0, iv bm, iv bc]))] : va_W) ++ ([(bv, ia (E.2 3) bn bg)] : va_W) ++ ([(q_7, .inl (E.2 (3000 + 16), 1, .inl (fun zk : Nat => iI ( (kNm 1 bg bc ((kWd 14 bg bc ps).2.1)).2.2 1))))] : va_W)) H := hP
      have hD : va_D A (([(pr, .inr (4, [.ref bf, iv ((kCh bg bc [(0, 14), (2, 1)] 1 (ps, kT0)).2.1), .ref al]))] : va_W) ++ ([(bf, .inr (10, [.ref bv, iv 0, iv bm, iv bc]))] : va_W) ++ ([(bv, ia (E.2 3) bn bg)] : va_W) ++ ([(q_7, .inl (E.2 (3000 + 16), 1, .inl (fun zk : Nat => iI ( (kNm 1 bg bc ((kWd 14 bg bc ps).2.1)).2.2 1))))] : va_W)) := hD
      have hv0 : (kNm 1 bg bc ((kWd 14 bg bc ps).2.1)).2.2 1 = (kCh bg bc [(0, 14), (2, 1)] 1 (ps, kT0)).2.2 1 := (hK8.2.2).symm
      rw [hv0] at hP hD
      have hP : va_P E.1 CL (([(pr, .inr (4, [.ref bf, iv ((kCh bg bc [(0, 14), (2, 1)] 1 (ps, kT0)).2.1), .ref al]))] : va_W) ++ ([(bf, .inr (10, [.ref bv, iv 0, iv bm, iv bc]))] : va_W) ++ ([(bv, ia (E.2 3) bn bg)] : va_W) ++ ([(q_7, .inl (E.2 (3000 + 16), 1, .inl (fun zk : Nat => iI ( (kCh bg bc [(0, 14), (2, 1)] 1 (ps, kT0)).2.2 1))))] : va_W)) H := hP
      have hD : va_D A (([(pr, .inr (4, [.ref bf, iv ((kCh bg bc [(0, 14), (2, 1)] 1 (ps, kT0)).2.1), .ref al]))] : va_W) ++ ([(bf, .inr (10, [.ref bv, iv 0, iv bm, iv bc]))] : va_W) ++ ([(bv, ia (E.2 3) bn bg)] : va_W) ++ ([(q_7, .inl (E.2 (3000 + 16), 1, .inl (fun zk : Nat => iI ( (kCh bg bc [(0, 14), (2, 1)] 1 (ps, kT0)).2.2 1))))] : va_W)) := hD
      refine vx_ret ?_
      refine W.widen (k := 3) (n := 15) (Nat.le_of_ble_eq_true rfl) (Nat.le_of_ble_eq_true rfl) ?_
      exact W.aret hx hb hr (Or.inl ⟨_, rfl⟩) (Or.inr ⟨_, rfl⟩) (fun tt_ ht_ hW_ => ⟨⟨q_7, rfl, hK8.1, by rw [ht_]; exact hP, hD⟩, hS.F ht_⟩) hS.2.2 dX4_closing_18
set_option maxHeartbeats 2000000 in
set_option maxRecDepth 100000 in
theorem mt_X4_making (l : Launch) (E : EE) (pr : Nat) (ps : Int) (al : Nat) (bf : Nat) (bm : Int) (bc : Int) (bv : Nat) (bg : Int → Int)  (bn : Nat) (hst : l.stackTraces = false) (hbb : 0 ≤ bc ∧ bc ≤ (bn : Int)) (hbn : bn ≤ 64) (hb7 : B7 bg) (hps : 0 ≤ ps ∧ ps ≤ bc) (sz : Nat) : vx_Met l yX4_making (ws_ yX4_making cX4_making 3 (some (.object "ClockworkTailor$Change"))) { frames := 8, cells := 4, slots := 23, locals := 3074 } (va_Pc [.ref pr] (UX E (([(pr, .inr (4, [.ref bf, iv ps, .ref al]))] : va_W) ++ ([(bf, .inr (10, [.ref bv, iv 0, iv bm, iv bc]))] : va_W) ++ ([(bv, ia (E.2 3) bn bg)] : va_W)) sz)) (UQxy E (fun u : Nat => (kCh bg bc [(0, 19), (1, 0), (2, 1)] 1 (ps, kT0)).1 = true) (fun u : Nat => .ref u) (fun u : Nat => ([(pr, .inr (4, [.ref bf, iv ((kCh bg bc [(0, 19), (1, 0), (2, 1)] 1 (ps, kT0)).2.1), .ref al]))] : va_W) ++ ([(bf, .inr (10, [.ref bv, iv 0, iv bm, iv bc]))] : va_W) ++ ([(bv, ia (E.2 3) bn bg)] : va_W) ++ ([(u, .inl (E.2 (3000 + 21), 2, .inl (fun zk : Nat => iI (if zk = 0 then (kCh bg bc [(0, 19), (1, 0), (2, 1)] 1 (ps, kT0)).2.2 1 else (kCh bg bc [(0, 19), (1, 0), (2, 1)] 1 (ps, kT0)).2.2 2))))] : va_W)) (va_A (([(pr, .inr (4, [.ref bf, iv ps, .ref al]))] : va_W) ++ ([(bf, .inr (10, [.ref bv, iv 0, iv bm, iv bc]))] : va_W) ++ ([(bv, ia (E.2 3) bn bg)] : va_W)) sz)) (UXx E (fun (En : String) (u : Unit) => En = "ClockworkTailor$SyntaxError" ∧ (kCh bg bc [(0, 19), (1, 0), (2, 1)] 1 (ps, kT0)).1 = false) (fun u : Unit => ([(pr, .inr (4, [.ref bf, iv ((kCh bg bc [(0, 19), (1, 0), (2, 1)] 1 (ps, kT0)).2.1), .ref al]))] : va_W) ++ ([(bf, .inr (10, [.ref bv, iv 0, iv bm, iv bc]))] : va_W) ++ ([(bv, ia (E.2 3) bn bg)] : va_W)) (fun u : Unit => some (8, [iv (kCh bg bc [(0, 19), (1, 0), (2, 1)] 1 (ps, kT0)).2.1])) (va_A (([(pr, .inr (4, [.ref bf, iv ps, .ref al]))] : va_W) ++ ([(bf, .inr (10, [.ref bv, iv 0, iv bm, iv bc]))] : va_W) ++ ([(bv, ia (E.2 3) bn bg)] : va_W)) sz)) 4 23 (va_A (([(pr, .inr (4, [.ref bf, iv ps, .ref al]))] : va_W) ++ ([(bf, .inr (10, [.ref bv, iv 0, iv bm, iv bc]))] : va_W) ++ ([(bv, ia (E.2 3) bn bg)] : va_W)) sz) := by
  refine vx_ofW (cc := cX4_making) (maxL := 3) (ret := (some (.object "ClockworkTailor$Change"))) (by decide) rfl ?_
  intro p e s m args below meth c s₁ B hml htb hv
  obtain ⟨rfl, hsz, hP, hK, hD0, hE⟩ := hv
  have hx := B.exec
  have hb := B.bytes
  have hr := B.returns
  have hts := atoms_spec (ws := (ws_ yX4_making cX4_making 3 (some (.object "ClockworkTailor$Change")))) B.pre
  have hts : ∀ w ∈ lw_all, w.before _ s = true := fun w h => hts w (List.mem_cons_of_mem _ h)
  have hown : s.vm.findClass RX4 = some m.cls := findClass_of_methodNamed B.named
  have hlocks := B.notSynchronized
  subst hsz
  have hD := hD0.self (sz := s.heap.size)
  generalize hAe : va_A (([(pr, .inr (4, [.ref bf, iv ps, .ref al]))] : va_W) ++ ([(bf, .inr (10, [.ref bv, iv 0, iv bm, iv bc]))] : va_W) ++ ([(bv, ia (E.2 3) bn bg)] : va_W)) s.heap.size = A at hD hE ⊢
  have hA : ∀ q : Nat, s.heap.size ≤ q → A q := fun q h => by rw [← hAe]; exact Or.inr h
  have hS : va_S A s.heap s.heap [] := va_S.rf
  have hl := lv_entry ([.ref pr]) (n := 3) (Nat.le_of_ble_eq_true rfl)
  rw [lg_entry_eq]
  generalize (lg_sl ([.ref pr]) ++ List.replicate (3 - (lg_sl ([.ref pr])).length) Slot.unset).toArray = ls at hl ⊢
  have hl : lv_has ls 3 [(0, .ref pr)] := hl
  have hch0 : (kCh bg bc [(0, 19), (1, 0), (2, 1)] 1 (ps, kT0)) = kCh bg bc [(0, 19), (1, 0), (2, 1)] 1 (ps, kT0) := rfl
  refine lv_aload_n hx hb dX4_making_0 rfl (lv_at hl 0 rfl) ?_
  refine va_ldcS hx hb (own := RX4) (tx := "make") (index := 125) (q := EX E (2 * 19)) hown (hK.ks ("ClockworkTailor$Parser", 125, "make", 19) (List.mem_of_getElem? (i := 19) rfl)) dX4_making_1 ?_
  have hz_1 : s.heap.size ≤ s.heap.size := hS.1
  refine n_txvS (w2 := fun u_2 => ([(pr, .inr (4, [.ref bf, iv ((kWd 19 bg bc ps).2.1), .ref al]))] : va_W) ++ ([(bf, .inr (10, [.ref bv, iv 0, iv bm, iv bc]))] : va_W) ++ ([(bv, ia (E.2 3) bn bg)] : va_W)) (w3 := fun u_3 => ([(pr, .inr (4, [.ref bf, iv ((kWd 19 bg bc ps).2.1), .ref al]))] : va_W) ++ ([(bf, .inr (10, [.ref bv, iv 0, iv bm, iv bc]))] : va_W) ++ ([(bv, ia (E.2 3) bn bg)] : va_W)) (vx_runV (As := [.ref (EX E (2 * 19))]) (rest := []) ⟨hx, hb, hml, hown, hts⟩ (mt_X4_expectWord l E pr ps al bf bm bc bv bg 19 (bn) (by exact hst) (by omega) (by omega) (by assumption) (by omega) (by decide) _) (cwV 1 hts (lw_V q1776 q1778 qs28 q103 q1779) rfl rfl rfl (by decide +kernel) ⟨Nat.le_of_ble_eq_true rfl, Nat.le_of_ble_eq_true rfl⟩) (UX_V hP hK (hD) hE hS (va_A_in hD hS hA) (va_recv hK.1 hP (ci := 4) (q0 := 0) rfl rfl)) rfl rfl hl.1 rfl (lv_room (Nat.le_of_ble_eq_true rfl)) dX4_making_3 ⟨Nat.le_of_ble_eq_true rfl, Nat.le_of_ble_eq_true rfl⟩) hP hD hS hA [0, 1, 2] [] [0, 1, 2] [0, 1, 2] rfl rfl rfl rfl rfl (fun _ => rfl) rfl (fun _ => rfl) ?_ ?_
  · intro En ce q9 u_3 H locs hCx hP hD hS hxf hq9 hce hcv hcl
    have hCx : En = "ClockworkTailor$SyntaxError" ∧ (kWd 19 bg bc ps).1 = false := hCx
    have hP : va_P E.1 CL (([(pr, .inr (4, [.ref bf, iv ((kWd 19 bg bc ps).2.1), .ref al]))] : va_W) ++ ([(bf, .inr (10, [.ref bv, iv 0, iv bm, iv bc]))] : va_W) ++ ([(bv, ia (E.2 3) bn bg)] : va_W)) H := hP
    have hD : va_D A (([(pr, .inr (4, [.ref bf, iv ((kWd 19 bg bc ps).2.1), .ref al]))] : va_W) ++ ([(bf, .inr (10, [.ref bv, iv 0, iv bm, iv bc]))] : va_W) ++ ([(bv, ia (E.2 3) bn bg)] : va_W)) := hD
    have hK9 : kFl (kCh bg bc [(0, 19), (1, 0), (2, 1)] 1 (ps, kT0)) ((kWd 19 bg bc ps).2.1) := by
      exact kCh_f hch0 hCx.2
    have hw9 : ((kWd 19 bg bc ps).2.1 : Int) = (kCh bg bc [(0, 19), (1, 0), (2, 1)] 1 (ps, kT0)).2.1 := hK9.2.symm
    have hxf : XF E q9 (some (8, [iv ((kWd 19 bg bc ps).2.1)])) H := hxf
    rw [hw9] at hP hD hxf
    exact n_out () (by exact ⟨hCx.1, hK9.1⟩) hP hD hS hxf (Nat.le_trans hz_1 hq9) hce hcv hcl (fun x hx9 => (htb x hx9).elim) hlocks (Nat.le_of_ble_eq_true rfl) (Nat.le_of_ble_eq_true rfl)
  · intro u_2 H locs hC hP hD hS
    have hu_2 : (kWd 19 bg bc ps).1 = true := hC
    have hP : va_P E.1 CL (([(pr, .inr (4, [.ref bf, iv ((kWd 19 bg bc ps).2.1), .ref al]))] : va_W) ++ ([(bf, .inr (10, [.ref bv, iv 0, iv bm, iv bc]))] : va_W) ++ ([(bv, ia (E.2 3) bn bg)] : va_W)) H := hP
    have hD : va_D A (([(pr, .inr (4, [.ref bf, iv ((kWd 19 bg bc ps).2.1), .ref al]))] : va_W) ++ ([(bf, .inr (10, [.ref bv, iv 0, iv bm, iv bc]))] : va_W) ++ ([(bv, ia (E.2 3) bn bg)] : va_W)) := hD
    have hch1 : (kCh bg bc [(0, 19), (1, 0), (2, 1)] 1 (ps, kT0)) = kCh bg bc [(1, 0), (2, 1)] 1 ((kWd 19 bg bc ps).2.1, kT0) := kCh_t hch0 hu_2
    have hkr1 : 0 ≤ (kWd 19 bg bc ps).2.1 ∧ (kWd 19 bg bc ps).2.1 ≤ bc ∧ ps ≤ (kWd 19 bg bc ps).2.1 := kIt_r hb7 (show 0 ≤ ps ∧ ps ≤ bc by omega) (0, 19)
    refine lv_aload_n hx hb dX4_making_6 rfl (lv_at hl 0 rfl) ?_
    refine lv_iconst (v := iI 0) hx hb dX4_making_7 rfl ?_
    have hz_4 : s.heap.size ≤ H.size := hS.1
    refine n_txS (x := fun u_5 => (kLt false bg bc ((kWd 19 bg bc ps).2.1)).2.2 1) (w2 := fun u_5 => ([(pr, .inr (4, [.ref bf, iv ((kLt false bg bc ((kWd 19 bg bc ps).2.1)).2.1), .ref al]))] : va_W) ++ ([(bf, .inr (10, [.ref bv, iv 0, iv bm, iv bc]))] : va_W) ++ ([(bv, ia (E.2 3) bn bg)] : va_W)) (w3 := fun u_6 => ([(pr, .inr (4, [.ref bf, iv ((kLt false bg bc ((kWd 19 bg bc ps).2.1)).2.1), .ref al]))] : va_W) ++ ([(bf, .inr (10, [.ref bv, iv 0, iv bm, iv bc]))] : va_W) ++ ([(bv, ia (E.2 3) bn bg)] : va_W)) (vx_runV (As := [iv 0]) (rest := []) ⟨hx, hb, hml, hown, hts⟩ (mt_X4_letter l E pr ((kWd 19 bg bc ps).2.1) al bf bm bc bv bg false (bn) (by exact hst) (by omega) (by omega) (by assumption) (by omega) _) (cwV 1 hts (lw_V q1823 q1825 qs31 q103 q1826) rfl rfl rfl (by decide +kernel) ⟨Nat.le_of_ble_eq_true rfl, Nat.le_of_ble_eq_true rfl⟩) (UX_V hP hK (hD) hE hS (va_A_in hD hS hA) (va_recv hK.1 hP (ci := 4) (q0 := 0) rfl rfl)) rfl rfl hl.1 rfl (lv_room (Nat.le_of_ble_eq_true rfl)) dX4_making_8 ⟨Nat.le_of_ble_eq_true rfl, Nat.le_of_ble_eq_true rfl⟩) hP hD hS hA [0, 1, 2] [] [0, 1, 2] [0, 1, 2] rfl rfl rfl rfl rfl (fun _ => rfl) rfl (fun _ => rfl) ?_ ?_
    · intro En ce q9 u_6 H locs hCx hP hD hS hxf hq9 hce hcv hcl
      have hCx : En = "ClockworkTailor$SyntaxError" ∧ (kLt false bg bc ((kWd 19 bg bc ps).2.1)).1 = false := hCx
      have hP : va_P E.1 CL (([(pr, .inr (4, [.ref bf, iv ((kLt false bg bc ((kWd 19 bg bc ps).2.1)).2.1), .ref al]))] : va_W) ++ ([(bf, .inr (10, [.ref bv, iv 0, iv bm, iv bc]))] : va_W) ++ ([(bv, ia (E.2 3) bn bg)] : va_W)) H := hP
      have hD : va_D A (([(pr, .inr (4, [.ref bf, iv ((kLt false bg bc ((kWd 19 bg bc ps).2.1)).2.1), .ref al]))] : va_W) ++ ([(bf, .inr (10, [.ref bv, iv 0, iv bm, iv bc]))] : va_W) ++ ([(bv, ia (E.2 3) bn bg)] : va_W)) := hD
      have hK9 : kFl (kCh bg bc [(0, 19), (1, 0), (2, 1)] 1 (ps, kT0)) ((kLt false bg bc ((kWd 19 bg bc ps).2.1)).2.1) := by
        exact kCh_f hch1 hCx.2
      have hw9 : ((kLt false bg bc ((kWd 19 bg bc ps).2.1)).2.1 : Int) = (kCh bg bc [(0, 19), (1, 0), (2, 1)] 1 (ps, kT0)).2.1 := hK9.2.symm
      have hxf : XF E q9 (some (8, [iv ((kLt false bg bc ((kWd 19 bg bc ps).2.1)).2.1)])) H := hxf
      rw [hw9] at hP hD hxf
      exact n_out () (by exact ⟨hCx.1, hK9.1⟩) hP hD hS hxf (Nat.le_trans hz_4 hq9) hce hcv hcl (fun x hx9 => (htb x hx9).elim) hlocks (Nat.le_of_ble_eq_true rfl) (Nat.le_of_ble_eq_true rfl)
    · intro u_5 H locs hC hP hD hS
      have hu_5 : (kLt false bg bc ((kWd 19 bg bc ps).2.1)).1 = true := hC
      have hP : va_P E.1 CL (([(pr, .inr (4, [.ref bf, iv ((kLt false bg bc ((kWd 19 bg bc ps).2.1)).2.1), .ref al]))] : va_W) ++ ([(bf, .inr (10, [.ref bv, iv 0, iv bm, iv bc]))] : va_W) ++ ([(bv, ia (E.2 3) bn bg)] : va_W)) H := hP
      have hD : va_D A (([(pr, .inr (4, [.ref bf, iv ((kLt false bg bc ((kWd 19 bg bc ps).2.1)).2.1), .ref al]))] : va_W) ++ ([(bf, .inr (10, [.ref bv, iv 0, iv bm, iv bc]))] : va_W) ++ ([(bv, ia (E.2 3) bn bg)] : va_W)) := hD
      have hch2 : (kCh bg bc [(0, 19), (1, 0), (2, 1)] 1 (ps, kT0)) = kCh bg bc [(2, 1)] 2 ((kLt false bg bc ((kWd 19 bg bc ps).2.1)).2.1, (ui kT0 1 ((kLt false bg bc ((kWd 19 bg bc ps).2.1)).2.2 1))) := kCh_t hch1 hu_5
      have hkr2 : 0 ≤ (kLt false bg bc ((kWd 19 bg bc ps).2.1)).2.1 ∧ (kLt false bg bc ((kWd 19 bg bc ps).2.1)).2.1 ≤ bc ∧ (kWd 19 bg bc ps).2.1 ≤ (kLt false bg bc ((kWd 19 bg bc ps).2.1)).2.1 := kIt_r hb7 (show 0 ≤ (kWd 19 bg bc ps).2.1 ∧ (kWd 19 bg bc ps).2.1 ≤ bc by omega) (1, 0)
      have hkv2 := kLt_v hb7 hu_5
      refine lv_istore_n (lv' := [(1, iv ((kLt false bg bc ((kWd 19 bg bc ps).2.1)).2.2 1)), (0, .ref pr)]) hx hb dX4_making_11 rfl hl (by decide) rfl (fun ls hl => ?_)
      refine lv_aload_n hx hb dX4_making_12 rfl (lv_at hl 1 rfl) ?_
      refine lv_iconst (v := iI 1) hx hb dX4_making_13 rfl ?_
      have hz_7 : s.heap.size ≤ H.size := hS.1
      refine n_txS (x := fun u_8 => (kNm 1 bg bc ((kLt false bg bc ((kWd 19 bg bc ps).2.1)).2.1)).2.2 1) (w2 := fun u_8 => ([(pr, .inr (4, [.ref bf, iv ((kNm 1 bg bc ((kLt false bg bc ((kWd 19 bg bc ps).2.1)).2.1)).2.1), .ref al]))] : va_W) ++ ([(bf, .inr (10, [.ref bv, iv 0, iv bm, iv bc]))] : va_W) ++ ([(bv, ia (E.2 3) bn bg)] : va_W)) (w3 := fun u_9 => ([(pr, .inr (4, [.ref bf, iv ((kNm 1 bg bc ((kLt false bg bc ((kWd 19 bg bc ps).2.1)).2.1)).2.1), .ref al]))] : va_W) ++ ([(bf, .inr (10, [.ref bv, iv 0, iv bm, iv bc]))] : va_W) ++ ([(bv, ia (E.2 3) bn bg)] : va_W)) (vx_runV (As := [iv 1]) (rest := []) ⟨hx, hb, hml, hown, hts⟩ (mt_X4_number l E pr ((kLt false bg bc ((kWd 19 bg bc ps).2.1)).2.1) al bf bm bc bv bg 1 (bn) (by exact hst) (by omega) (by omega) (by assumption) (by omega) (by omega) _) (cwV 1 hts (lw_V q1829 q1831 qs32 q103 q1832) rfl rfl rfl (by decide +kernel) ⟨Nat.le_of_ble_eq_true rfl, Nat.le_of_ble_eq_true rfl⟩) (UX_V hP hK (hD) hE hS (va_A_in hD hS hA) (va_recv hK.1 hP (ci := 4) (q0 := 0) rfl rfl)) rfl rfl hl.1 rfl (lv_room (Nat.le_of_ble_eq_true rfl)) dX4_making_14 ⟨Nat.le_of_ble_eq_true rfl, Nat.le_of_ble_eq_true rfl⟩) hP hD hS hA [0, 1, 2] [] [0, 1, 2] [0, 1, 2] rfl rfl rfl rfl rfl (fun _ => rfl) rfl (fun _ => rfl) ?_ ?_
      · intro En ce q9 u_9 H locs hCx hP hD hS hxf hq9 hce hcv hcl
        have hCx : En = "ClockworkTailor$SyntaxError" ∧ (kNm 1 bg bc ((kLt false bg bc ((kWd 19 bg bc ps).2.1)).2.1)).1 = false := hCx
        have hP : va_P E.1 CL (([(pr, .inr (4, [.ref bf, iv ((kNm 1 bg bc ((kLt false bg bc ((kWd 19 bg bc ps).2.1)).2.1)).2.1), .ref al]))] : va_W) ++ ([(bf, .inr (10, [.ref bv, iv 0, iv bm, iv bc]))] : va_W) ++ ([(bv, ia (E.2 3) bn bg)] : va_W)) H := hP
        have hD : va_D A (([(pr, .inr (4, [.ref bf, iv ((kNm 1 bg bc ((kLt false bg bc ((kWd 19 bg bc ps).2.1)).2.1)).2.1), .ref al]))] : va_W) ++ ([(bf, .inr (10, [.ref bv, iv 0, iv bm, iv bc]))] : va_W) ++ ([(bv, ia (E.2 3) bn bg)] : va_W)) := hD
        have hK9 : kFl (kCh bg bc [(0, 19), (1, 0), (2, 1)] 1 (ps, kT0)) ((kNm 1 bg bc ((kLt false bg bc ((kWd 19 bg bc ps).2.1)).2.1)).2.1) := by
          exact kCh_f hch2 hCx.2
        have hw9 : ((kNm 1 bg bc ((kLt false bg bc ((kWd 19 bg bc ps).2.1)).2.1)).2.1 : Int) = (kCh bg bc [(0, 19), (1, 0), (2, 1)] 1 (ps, kT0)).2.1 := hK9.2.symm
        have hxf : XF E q9 (some (8, [iv ((kNm 1 bg bc ((kLt false bg bc ((kWd 19 bg bc ps).2.1)).2.1)).2.1)])) H := hxf
        rw [hw9] at hP hD hxf
        exact n_out () (by exact ⟨hCx.1, hK9.1⟩) hP hD hS hxf (Nat.le_trans hz_7 hq9) hce hcv hcl (fun x hx9 => (htb x hx9).elim) hlocks (Nat.le_of_ble_eq_true rfl) (Nat.le_of_ble_eq_true rfl)
      · intro u_8 H locs hC hP hD hS
        have hu_8 : (kNm 1 bg bc ((kLt false bg bc ((kWd 19 bg bc ps).2.1)).2.1)).1 = true := hC
        have hP : va_P E.1 CL (([(pr, .inr (4, [.ref bf, iv ((kNm 1 bg bc ((kLt false bg bc ((kWd 19 bg bc ps).2.1)).2.1)).2.1), .ref al]))] : va_W) ++ ([(bf, .inr (10, [.ref bv, iv 0, iv bm, iv bc]))] : va_W) ++ ([(bv, ia (E.2 3) bn bg)] : va_W)) H := hP
        have hD : va_D A (([(pr, .inr (4, [.ref bf, iv ((kNm 1 bg bc ((kLt false bg bc ((kWd 19 bg bc ps).2.1)).2.1)).2.1), .ref al]))] : va_W) ++ ([(bf, .inr (10, [.ref bv, iv 0, iv bm, iv bc]))] : va_W) ++ ([(bv, ia (E.2 3) bn bg)] : va_W)) := hD
        have hch3 : (kCh bg bc [(0, 19), (1, 0), (2, 1)] 1 (ps, kT0)) = kCh bg bc [] 3 ((kNm 1 bg bc ((kLt false bg bc ((kWd 19 bg bc ps).2.1)).2.1)).2.1, (ui (ui kT0 1 ((kLt false bg bc ((kWd 19 bg bc ps).2.1)).2.2 1)) 2 ((kNm 1 bg bc ((kLt false bg bc ((kWd 19 bg bc ps).2.1)).2.1)).2.2 1))) := kCh_t hch2 hu_8
        have hkr3 : 0 ≤ (kNm 1 bg bc ((kLt false bg bc ((kWd 19 bg bc ps).2.1)).2.1)).2.1 ∧ (kNm 1 bg bc ((kLt false bg bc ((kWd 19 bg bc ps).2.1)).2.1)).2.1 ≤ bc ∧ (kLt false bg bc ((kWd 19 bg bc ps).2.1)).2.1 ≤ (kNm 1 bg bc ((kLt false bg bc ((kWd 19 bg bc ps).2.1)).2.1)).2.1 := kIt_r hb7 (show 0 ≤ (kLt false bg bc ((kWd 19 bg bc ps).2.1)).2.1 ∧ (kLt false bg bc ((kWd 19 bg bc ps).2.1)).2.1 ≤ bc by omega) (2, 1)
        have hkv3 := kNm_v hb7 (show 0 ≤ (kLt false bg bc ((kWd 19 bg bc ps).2.1)).2.1 ∧ (kLt false bg bc ((kWd 19 bg bc ps).2.1)).2.1 ≤ bc by omega) hu_8 (by omega)
        have hK8 : (kCh bg bc [(0, 19), (1, 0), (2, 1)] 1 (ps, kT0)).1 = true ∧ (kCh bg bc [(0, 19), (1, 0), (2, 1)] 1 (ps, kT0)).2.1 = (kNm 1 bg bc ((kLt false bg bc ((kWd 19 bg bc ps).2.1)).2.1)).2.1 ∧ (kCh bg bc [(0, 19), (1, 0), (2, 1)] 1 (ps, kT0)).2.2 1 = (kLt false bg bc ((kWd 19 bg bc ps).2.1)).2.2 1 ∧ (kCh bg bc [(0, 19), (1, 0), (2, 1)] 1 (ps, kT0)).2.2 2 = (kNm 1 bg bc ((kLt false bg bc ((kWd 19 bg bc ps).2.1)).2.1)).2.2 1 := by rw [hch3]; exact ⟨rfl, rfl, rfl, rfl⟩
        refine lv_istore_n (lv' := [(2, iv ((kNm 1 bg bc ((kLt false bg bc ((kWd 19 bg bc ps).2.1)).2.1)).2.2 1)), (1, iv ((kLt false bg bc ((kWd 19 bg bc ps).2.1)).2.2 1)), (0, .ref pr)]) hx hb dX4_making_17 rfl hl (by decide) rfl (fun ls hl => ?_)
        refine lv_iload_n hx hb dX4_making_18 rfl (lv_at hl 1 rfl) ?_
        refine lv_iload_n hx hb dX4_making_19 rfl (lv_at hl 0 rfl) ?_
        obtain ⟨_, -, -, hL_d_11, -, -⟩ := lam_fact hK (lam_words hts (State.WarmedH.refl s)) ls_21 rfl (by decide +kernel) lk_21
        refine n_indyM (x := ⟨"ClockworkTailor$Parser", "making", "()LClockworkTailor$Change;"⟩) (index := 127) (vals := [iv ((kLt false bg bc ((kWd 19 bg bc ps).2.1)).2.2 1), iv ((kNm 1 bg bc ((kLt false bg bc ((kWd 19 bg bc ps).2.1)).2.1)).2.2 1)]) (a0 := (2, .inl (fun zk : Nat => iI (if zk = 0 then (kLt false bg bc ((kWd 19 bg bc ps).2.1)).2.2 1 else (kNm 1 bg bc ((kLt false bg bc ((kWd 19 bg bc ps).2.1)).2.1)).2.2 1)))) (rest := []) hx hb (hl.1.trans hml.symm) (show s.methodNamed? ⟨"ClockworkTailor$Parser", "making", "()LClockworkTailor$Change;"⟩ = some m from B.named) ((hK.kx.1 _ ls_21).1 (by decide)) hL_d_11 (by rfl) rfl rfl (by show [narrow .char (iv ((kLt false bg bc ((kWd 19 bg bc ps).2.1)).2.2 1)), narrow .int (iv ((kNm 1 bg bc ((kLt false bg bc ((kWd 19 bg bc ps).2.1)).2.1)).2.2 1))] = _; rw [nr_c (x := (kLt false bg bc ((kWd 19 bg bc ps).2.1)).2.2 1) (by omega)] <;> rfl) (n_fits (by show (fits .char (iv ((kLt false bg bc ((kWd 19 bg bc ps).2.1)).2.2 1)) && (fits .int (iv ((kNm 1 bg bc ((kLt false bg bc ((kWd 19 bg bc ps).2.1)).2.1)).2.2 1)) && true)) = true; rw [ft_c (x := (kLt false bg bc ((kWd 19 bg bc ps).2.1)).2.2 1) (by omega)] <;> rfl)) hP hD hS hA rfl (Nat.le_of_ble_eq_true rfl) (Nat.le_of_ble_eq_true rfl) (Nat.le_of_ble_eq_true rfl) dX4_making_20 (fun q_10 H hP hD hS => ?_)
        have hP : va_P E.1 CL (([(pr, .inr (4, [.ref bf, iv ((kNm 1 bg bc ((kLt false bg bc ((kWd 19 bg bc ps).2.1)).2.1)).2.1), .ref al]))] : va_W) ++ ([(bf, .inr (10, [.ref bv, iv 0, iv bm, iv bc]))] : va_W) ++ ([(bv, ia (E.2 3) bn bg)] : va_W) ++ ([(q_10, .inl (E.2 (3000 + 21), 2, .inl (fun zk : Nat => iI (if zk = 0 then (kLt false bg bc ((kWd 19 bg bc ps).2.1)).2.2 1 else (kNm 1 bg bc ((kLt false bg bc ((kWd 19 bg bc ps).2.1)).2.1)).2.2 1))))] : va_W)) H := hP
        have hD : va_D A (([(pr, .inr (4, [.ref bf, iv ((kNm 1 bg bc ((kLt false bg bc ((kWd 19 bg bc ps).2.1)).2.1)).2.1), .ref al]))] : va_W) ++ ([(bf, .inr (10, [.ref bv, iv 0, iv bm, iv bc]))] : va_W) ++ ([(bv, ia (E.2 3) bn bg)] : va_W) ++ ([(q_10, .inl (E.2 (3000 + 21), 2, .inl (fun zk : Nat => iI (if zk = 0 then (kLt false bg bc ((kWd 19 bg bc ps).2.1)).2.2 1 else (kNm 1 bg bc ((kLt false bg bc ((kWd 19 bg bc ps).2.1)).2.1)).2.2 1))))] : va_W)) := hD
        have w_12 : ((kNm 1 bg bc ((kLt false bg bc ((kWd 19 bg bc ps).2.1)).2.1)).2.1 : Int) = (kCh bg bc [(0, 19), (1, 0), (2, 1)] 1 (ps, kT0)).2.1 := by exact hK8.2.1.symm
        rw [w_12] at hP hD
        have hP : va_P E.1 CL (([(pr, .inr (4, [.ref bf, iv ((kCh bg bc [(0, 19), (1, 0), (2, 1)] 1 (ps, kT0)).2.1), .ref al]))] : va_W) ++ ([(bf, .inr (10, [.ref bv, iv 0, iv bm, iv bc]))] : va_W) ++ ([(bv, ia (E.2 3) bn bg)] : va_W) ++ ([(q_10, .inl (E.2 (3000 + 21), 2, .inl (fun zk : Nat => iI (if zk = 0 then (kLt false bg bc ((kWd 19 bg bc ps).2.1)).2.2 1 else (kNm 1 bg bc ((kLt false bg bc ((kWd 19 bg bc ps).2.1)).2.1)).2.2 1))))] : va_W)) H := hP
        have hD : va_D A (([(pr, .inr (4, [.ref bf, iv ((kCh bg bc [(0, 19), (1, 0), (2, 1)] 1 (ps, kT0)).2.1), .ref al]))] : va_W) ++ ([(bf, .inr (10, [.ref bv, iv 0, iv bm, iv bc]))] : va_W) ++ ([(bv, ia (E.2 3) bn bg)] : va_W) ++ ([(q_10, .inl (E.2 (3000 + 21), 2, .inl (fun zk : Nat => iI (if zk = 0 then (kLt false bg bc ((kWd 19 bg bc ps).2.1)).2.2 1 else (kNm 1 bg bc ((kLt false bg bc ((kWd 19 bg bc ps).2.1)).2.1)).2.2 1))))] : va_W)) := hD
        have hv0 : (kLt false bg bc ((kWd 19 bg bc ps).2.1)).2.2 1 = (kCh bg bc [(0, 19), (1, 0), (2, 1)] 1 (ps, kT0)).2.2 1 := (hK8.2.2.1).symm
        have hv1 : (kNm 1 bg bc ((kLt false bg bc ((kWd 19 bg bc ps).2.1)).2.1)).2.2 1 = (kCh bg bc [(0, 19), (1, 0), (2, 1)] 1 (ps, kT0)).2.2 2 := (hK8.2.2.2).symm
        rw [hv0, hv1] at hP hD
        have hP : va_P E.1 CL (([(pr, .inr (4, [.ref bf, iv ((kCh bg bc [(0, 19), (1, 0), (2, 1)] 1 (ps, kT0)).2.1), .ref al]))] : va_W) ++ ([(bf, .inr (10, [.ref bv, iv 0, iv bm, iv bc]))] : va_W) ++ ([(bv, ia (E.2 3) bn bg)] : va_W) ++ ([(q_10, .inl (E.2 (3000 + 21), 2, .inl (fun zk : Nat => iI (if zk = 0 then (kCh bg bc [(0, 19), (1, 0), (2, 1)] 1 (ps, kT0)).2.2 1 else (kCh bg bc [(0, 19), (1, 0), (2, 1)] 1 (ps, kT0)).2.2 2))))] : va_W)) H := hP
        have hD : va_D A (([(pr, .inr (4, [.ref bf, iv ((kCh bg bc [(0, 19), (1, 0), (2, 1)] 1 (ps, kT0)).2.1), .ref al]))] : va_W) ++ ([(bf, .inr (10, [.ref bv, iv 0, iv bm, iv bc]))] : va_W) ++ ([(bv, ia (E.2 3) bn bg)] : va_W) ++ ([(q_10, .inl (E.2 (3000 + 21), 2, .inl (fun zk : Nat => iI (if zk = 0 then (kCh bg bc [(0, 19), (1, 0), (2, 1)] 1 (ps, kT0)).2.2 1 else (kCh bg bc [(0, 19), (1, 0), (2, 1)] 1 (ps, kT0)).2.2 2))))] : va_W)) := hD
        refine vx_ret ?_
        refine W.widen (k := 4) (n := 23) (Nat.le_of_ble_eq_true rfl) (Nat.le_of_ble_eq_true rfl) ?_
        exact W.aret hx hb hr (Or.inl ⟨_, rfl⟩) (Or.inr ⟨_, rfl⟩) (fun tt_ ht_ hW_ => ⟨⟨q_10, rfl, hK8.1, by rw [ht_]; exact hP, hD⟩, hS.F ht_⟩) hS.2.2 dX4_making_25
set_option maxHeartbeats 2000000 in
set_option maxRecDepth 100000 in
theorem mt_X4_touching (l : Launch) (E : EE) (pr : Nat) (ps : Int) (al : Nat) (bf : Nat) (bm : Int) (bc : Int) (bv : Nat) (bg : Int → Int)  (bn : Nat) (hst : l.stackTraces = false) (hbb : 0 ≤ bc ∧ bc ≤ (bn : Int)) (hbn : bn ≤ 64) (hb7 : B7 bg) (hps : 0 ≤ ps ∧ ps ≤ bc) (sz : Nat) : vx_Met l yX4_touching (ws_ yX4_touching cX4_touching 4 (some (.object "ClockworkTailor$Change"))) { frames := 8, cells := 5, slots := 31, locals := 3075 } (va_Pc [.ref pr] (UX E (([(pr, .inr (4, [.ref bf, iv ps, .ref al]))] : va_W) ++ ([(bf, .inr (10, [.ref bv, iv 0, iv bm, iv bc]))] : va_W) ++ ([(bv, ia (E.2 3) bn bg)] : va_W)) sz)) (UQxy E (fun u : Nat => (kCh bg bc [(0, 20), (2, 2), (2, 1), (2, 1)] 1 (ps, kT0)).1 = true) (fun u : Nat => .ref u) (fun u : Nat => ([(pr, .inr (4, [.ref bf, iv ((kCh bg bc [(0, 20), (2, 2), (2, 1), (2, 1)] 1 (ps, kT0)).2.1), .ref al]))] : va_W) ++ ([(bf, .inr (10, [.ref bv, iv 0, iv bm, iv bc]))] : va_W) ++ ([(bv, ia (E.2 3) bn bg)] : va_W) ++ ([(u, .inl (E.2 (3000 + 22), 3, .inl (fun zk : Nat => iI (if zk = 0 then (kCh bg bc [(0, 20), (2, 2), (2, 1), (2, 1)] 1 (ps, kT0)).2.2 1 else if zk = 1 then (kCh bg bc [(0, 20), (2, 2), (2, 1), (2, 1)] 1 (ps, kT0)).2.2 2 else (kCh bg bc [(0, 20), (2, 2), (2, 1), (2, 1)] 1 (ps, kT0)).2.2 3))))] : va_W)) (va_A (([(pr, .inr (4, [.ref bf, iv ps, .ref al]))] : va_W) ++ ([(bf, .inr (10, [.ref bv, iv 0, iv bm, iv bc]))] : va_W) ++ ([(bv, ia (E.2 3) bn bg)] : va_W)) sz)) (UXx E (fun (En : String) (u : Unit) => En = "ClockworkTailor$SyntaxError" ∧ (kCh bg bc [(0, 20), (2, 2), (2, 1), (2, 1)] 1 (ps, kT0)).1 = false) (fun u : Unit => ([(pr, .inr (4, [.ref bf, iv ((kCh bg bc [(0, 20), (2, 2), (2, 1), (2, 1)] 1 (ps, kT0)).2.1), .ref al]))] : va_W) ++ ([(bf, .inr (10, [.ref bv, iv 0, iv bm, iv bc]))] : va_W) ++ ([(bv, ia (E.2 3) bn bg)] : va_W)) (fun u : Unit => some (8, [iv (kCh bg bc [(0, 20), (2, 2), (2, 1), (2, 1)] 1 (ps, kT0)).2.1])) (va_A (([(pr, .inr (4, [.ref bf, iv ps, .ref al]))] : va_W) ++ ([(bf, .inr (10, [.ref bv, iv 0, iv bm, iv bc]))] : va_W) ++ ([(bv, ia (E.2 3) bn bg)] : va_W)) sz)) 5 31 (va_A (([(pr, .inr (4, [.ref bf, iv ps, .ref al]))] : va_W) ++ ([(bf, .inr (10, [.ref bv, iv 0, iv bm, iv bc]))] : va_W) ++ ([(bv, ia (E.2 3) bn bg)] : va_W)) sz) := by
  refine vx_ofW (cc := cX4_touching) (maxL := 4) (ret := (some (.object "ClockworkTailor$Change"))) (by decide) rfl ?_
  intro p e s m args below meth c s₁ B hml htb hv
  obtain ⟨rfl, hsz, hP, hK, hD0, hE⟩ := hv
  have hx := B.exec
  have hb := B.bytes
  have hr := B.returns
  have hts := atoms_spec (ws := (ws_ yX4_touching cX4_touching 4 (some (.object "ClockworkTailor$Change")))) B.pre
  have hts : ∀ w ∈ lw_all, w.before _ s = true := fun w h => hts w (List.mem_cons_of_mem _ h)
  have hown : s.vm.findClass RX4 = some m.cls := findClass_of_methodNamed B.named
  have hlocks := B.notSynchronized
  subst hsz
  have hD := hD0.self (sz := s.heap.size)
  generalize hAe : va_A (([(pr, .inr (4, [.ref bf, iv ps, .ref al]))] : va_W) ++ ([(bf, .inr (10, [.ref bv, iv 0, iv bm, iv bc]))] : va_W) ++ ([(bv, ia (E.2 3) bn bg)] : va_W)) s.heap.size = A at hD hE ⊢
  have hA : ∀ q : Nat, s.heap.size ≤ q → A q := fun q h => by rw [← hAe]; exact Or.inr h
  have hS : va_S A s.heap s.heap [] := va_S.rf
  have hl := lv_entry ([.ref pr]) (n := 4) (Nat.le_of_ble_eq_true rfl)
  rw [lg_entry_eq]
  generalize (lg_sl ([.ref pr]) ++ List.replicate (4 - (lg_sl ([.ref pr])).length) Slot.unset).toArray = ls at hl ⊢
  have hl : lv_has ls 4 [(0, .ref pr)] := hl
  have hch0 : (kCh bg bc [(0, 20), (2, 2), (2, 1), (2, 1)] 1 (ps, kT0)) = kCh bg bc [(0, 20), (2, 2), (2, 1), (2, 1)] 1 (ps, kT0) := rfl
  refine lv_aload_n hx hb dX4_touching_0 rfl (lv_at hl 0 rfl) ?_
  refine va_ldcS hx hb (own := RX4) (tx := "touch") (index := 130) (q := EX E (2 * 20)) hown (hK.ks ("ClockworkTailor$Parser", 130, "touch", 20) (List.mem_of_getElem? (i := 20) rfl)) dX4_touching_1 ?_
  have hz_1 : s.heap.size ≤ s.heap.size := hS.1
  refine n_txvS (w2 := fun u_2 => ([(pr, .inr (4, [.ref bf, iv ((kWd 20 bg bc ps).2.1), .ref al]))] : va_W) ++ ([(bf, .inr (10, [.ref bv, iv 0, iv bm, iv bc]))] : va_W) ++ ([(bv, ia (E.2 3) bn bg)] : va_W)) (w3 := fun u_3 => ([(pr, .inr (4, [.ref bf, iv ((kWd 20 bg bc ps).2.1), .ref al]))] : va_W) ++ ([(bf, .inr (10, [.ref bv, iv 0, iv bm, iv bc]))] : va_W) ++ ([(bv, ia (E.2 3) bn bg)] : va_W)) (vx_runV (As := [.ref (EX E (2 * 20))]) (rest := []) ⟨hx, hb, hml, hown, hts⟩ (mt_X4_expectWord l E pr ps al bf bm bc bv bg 20 (bn) (by exact hst) (by omega) (by omega) (by assumption) (by omega) (by decide) _) (cwV 1 hts (lw_V q1776 q1778 qs28 q103 q1779) rfl rfl rfl (by decide +kernel) ⟨Nat.le_of_ble_eq_true rfl, Nat.le_of_ble_eq_true rfl⟩) (UX_V hP hK (hD) hE hS (va_A_in hD hS hA) (va_recv hK.1 hP (ci := 4) (q0 := 0) rfl rfl)) rfl rfl hl.1 rfl (lv_room (Nat.le_of_ble_eq_true rfl)) dX4_touching_3 ⟨Nat.le_of_ble_eq_true rfl, Nat.le_of_ble_eq_true rfl⟩) hP hD hS hA [0, 1, 2] [] [0, 1, 2] [0, 1, 2] rfl rfl rfl rfl rfl (fun _ => rfl) rfl (fun _ => rfl) ?_ ?_
  · intro En ce q9 u_3 H locs hCx hP hD hS hxf hq9 hce hcv hcl
    have hCx : En = "ClockworkTailor$SyntaxError" ∧ (kWd 20 bg bc ps).1 = false := hCx
    have hP : va_P E.1 CL (([(pr, .inr (4, [.ref bf, iv ((kWd 20 bg bc ps).2.1), .ref al]))] : va_W) ++ ([(bf, .inr (10, [.ref bv, iv 0, iv bm, iv bc]))] : va_W) ++ ([(bv, ia (E.2 3) bn bg)] : va_W)) H := hP
    have hD : va_D A (([(pr, .inr (4, [.ref bf, iv ((kWd 20 bg bc ps).2.1), .ref al]))] : va_W) ++ ([(bf, .inr (10, [.ref bv, iv 0, iv bm, iv bc]))] : va_W) ++ ([(bv, ia (E.2 3) bn bg)] : va_W)) := hD
    have hK9 : kFl (kCh bg bc [(0, 20), (2, 2), (2, 1), (2, 1)] 1 (ps, kT0)) ((kWd 20 bg bc ps).2.1) := by
      exact kCh_f hch0 hCx.2
    have hw9 : ((kWd 20 bg bc ps).2.1 : Int) = (kCh bg bc [(0, 20), (2, 2), (2, 1), (2, 1)] 1 (ps, kT0)).2.1 := hK9.2.symm
    have hxf : XF E q9 (some (8, [iv ((kWd 20 bg bc ps).2.1)])) H := hxf
    rw [hw9] at hP hD hxf
    exact n_out () (by exact ⟨hCx.1, hK9.1⟩) hP hD hS hxf (Nat.le_trans hz_1 hq9) hce hcv hcl (fun x hx9 => (htb x hx9).elim) hlocks (Nat.le_of_ble_eq_true rfl) (Nat.le_of_ble_eq_true rfl)
  · intro u_2 H locs hC hP hD hS
    have hu_2 : (kWd 20 bg bc ps).1 = true := hC
    have hP : va_P E.1 CL (([(pr, .inr (4, [.ref bf, iv ((kWd 20 bg bc ps).2.1), .ref al]))] : va_W) ++ ([(bf, .inr (10, [.ref bv, iv 0, iv bm, iv bc]))] : va_W) ++ ([(bv, ia (E.2 3) bn bg)] : va_W)) H := hP
    have hD : va_D A (([(pr, .inr (4, [.ref bf, iv ((kWd 20 bg bc ps).2.1), .ref al]))] : va_W) ++ ([(bf, .inr (10, [.ref bv, iv 0, iv bm, iv bc]))] : va_W) ++ ([(bv, ia (E.2 3) bn bg)] : va_W)) := hD
    have hch1 : (kCh bg bc [(0, 20), (2, 2), (2, 1), (2, 1)] 1 (ps, kT0)) = kCh bg bc [(2, 2), (2, 1), (2, 1)] 1 ((kWd 20 bg bc ps).2.1, kT0) := kCh_t hch0 hu_2
    have hkr1 : 0 ≤ (kWd 20 bg bc ps).2.1 ∧ (kWd 20 bg bc ps).2.1 ≤ bc ∧ ps ≤ (kWd 20 bg bc ps).2.1 := kIt_r hb7 (show 0 ≤ ps ∧ ps ≤ bc by omega) (0, 20)
    refine lv_aload_n hx hb dX4_touching_6 rfl (lv_at hl 0 rfl) ?_
    refine lv_iconst (v := iI 2) hx hb dX4_touching_7 rfl ?_
    have hz_4 : s.heap.size ≤ H.size := hS.1
    refine n_txS (x := fun u_5 => (kNm 2 bg bc ((kWd 20 bg bc ps).2.1)).2.2 1) (w2 := fun u_5 => ([(pr, .inr (4, [.ref bf, iv ((kNm 2 bg bc ((kWd 20 bg bc ps).2.1)).2.1), .ref al]))] : va_W) ++ ([(bf, .inr (10, [.ref bv, iv 0, iv bm, iv bc]))] : va_W) ++ ([(bv, ia (E.2 3) bn bg)] : va_W)) (w3 := fun u_6 => ([(pr, .inr (4, [.ref bf, iv ((kNm 2 bg bc ((kWd 20 bg bc ps).2.1)).2.1), .ref al]))] : va_W) ++ ([(bf, .inr (10, [.ref bv, iv 0, iv bm, iv bc]))] : va_W) ++ ([(bv, ia (E.2 3) bn bg)] : va_W)) (vx_runV (As := [iv 2]) (rest := []) ⟨hx, hb, hml, hown, hts⟩ (mt_X4_number l E pr ((kWd 20 bg bc ps).2.1) al bf bm bc bv bg 2 (bn) (by exact hst) (by omega) (by omega) (by assumption) (by omega) (by omega) _) (cwV 1 hts (lw_V q1829 q1831 qs32 q103 q1832) rfl rfl rfl (by decide +kernel) ⟨Nat.le_of_ble_eq_true rfl, Nat.le_of_ble_eq_true rfl⟩) (UX_V hP hK (hD) hE hS (va_A_in hD hS hA) (va_recv hK.1 hP (ci := 4) (q0 := 0) rfl rfl)) rfl rfl hl.1 rfl (lv_room (Nat.le_of_ble_eq_true rfl)) dX4_touching_8 ⟨Nat.le_of_ble_eq_true rfl, Nat.le_of_ble_eq_true rfl⟩) hP hD hS hA [0, 1, 2] [] [0, 1, 2] [0, 1, 2] rfl rfl rfl rfl rfl (fun _ => rfl) rfl (fun _ => rfl) ?_ ?_
    · intro En ce q9 u_6 H locs hCx hP hD hS hxf hq9 hce hcv hcl
      have hCx : En = "ClockworkTailor$SyntaxError" ∧ (kNm 2 bg bc ((kWd 20 bg bc ps).2.1)).1 = false := hCx
      have hP : va_P E.1 CL (([(pr, .inr (4, [.ref bf, iv ((kNm 2 bg bc ((kWd 20 bg bc ps).2.1)).2.1), .ref al]))] : va_W) ++ ([(bf, .inr (10, [.ref bv, iv 0, iv bm, iv bc]))] : va_W) ++ ([(bv, ia (E.2 3) bn bg)] : va_W)) H := hP
      have hD : va_D A (([(pr, .inr (4, [.ref bf, iv ((kNm 2 bg bc ((kWd 20 bg bc ps).2.1)).2.1), .ref al]))] : va_W) ++ ([(bf, .inr (10, [.ref bv, iv 0, iv bm, iv bc]))] : va_W) ++ ([(bv, ia (E.2 3) bn bg)] : va_W)) := hD
      have hK9 : kFl (kCh bg bc [(0, 20), (2, 2), (2, 1), (2, 1)] 1 (ps, kT0)) ((kNm 2 bg bc ((kWd 20 bg bc ps).2.1)).2.1) := by
        exact kCh_f hch1 hCx.2
      have hw9 : ((kNm 2 bg bc ((kWd 20 bg bc ps).2.1)).2.1 : Int) = (kCh bg bc [(0, 20), (2, 2), (2, 1), (2, 1)] 1 (ps, kT0)).2.1 := hK9.2.symm
      have hxf : XF E q9 (some (8, [iv ((kNm 2 bg bc ((kWd 20 bg bc ps).2.1)).2.1)])) H := hxf
      rw [hw9] at hP hD hxf
      exact n_out () (by exact ⟨hCx.1, hK9.1⟩) hP hD hS hxf (Nat.le_trans hz_4 hq9) hce hcv hcl (fun x hx9 => (htb x hx9).elim) hlocks (Nat.le_of_ble_eq_true rfl) (Nat.le_of_ble_eq_true rfl)
    · intro u_5 H locs hC hP hD hS
      have hu_5 : (kNm 2 bg bc ((kWd 20 bg bc ps).2.1)).1 = true := hC
      have hP : va_P E.1 CL (([(pr, .inr (4, [.ref bf, iv ((kNm 2 bg bc ((kWd 20 bg bc ps).2.1)).2.1), .ref al]))] : va_W) ++ ([(bf, .inr (10, [.ref bv, iv 0, iv bm, iv bc]))] : va_W) ++ ([(bv, ia (E.2 3) bn bg)] : va_W)) H := hP
      have hD : va_D A (([(pr, .inr (4, [.ref bf, iv ((kNm 2 bg bc ((kWd 20 bg bc ps).2.1)).2.1), .ref al]))] : va_W) ++ ([(bf, .inr (10, [.ref bv, iv 0, iv bm, iv bc]))] : va_W) ++ ([(bv, ia (E.2 3) bn bg)] : va_W)) := hD
      have hch2 : (kCh bg bc [(0, 20), (2, 2), (2, 1), (2, 1)] 1 (ps, kT0)) = kCh bg bc [(2, 1), (2, 1)] 2 ((kNm 2 bg bc ((kWd 20 bg bc ps).2.1)).2.1, (ui kT0 1 ((kNm 2 bg bc ((kWd 20 bg bc ps).2.1)).2.2 1))) := kCh_t hch1 hu_5
      have hkr2 : 0 ≤ (kNm 2 bg bc ((kWd 20 bg bc ps).2.1)).2.1 ∧ (kNm 2 bg bc ((kWd 20 bg bc ps).2.1)).2.1 ≤ bc ∧ (kWd 20 bg bc ps).2.1 ≤ (kNm 2 bg bc ((kWd 20 bg bc ps).2.1)).2.1 := kIt_r hb7 (show 0 ≤ (kWd 20 bg bc ps).2.1 ∧ (kWd 20 bg bc ps).2.1 ≤ bc by omega) (2, 2)
      have hkv2 := kNm_v hb7 (show 0 ≤ (kWd 20 bg bc ps).2.1 ∧ (kWd 20 bg bc ps).2.1 ≤ bc by omega) hu_5 (by omega)
      refine lv_istore_n (lv' := [(1, iv ((kNm 2 bg bc ((kWd 20 bg bc ps).2.1)).2.2 1)), (0, .ref pr)]) hx hb dX4_touching_11 rfl hl (by decide) rfl (fun ls hl => ?_)
      refine lv_aload_n hx hb dX4_touching_12 rfl (lv_at hl 1 rfl) ?_
      refine lv_iconst (v := iI 1) hx hb dX4_touching_13 rfl ?_
      have hz_7 : s.heap.size ≤ H.size := hS.1
      refine n_txS (x := fun u_8 => (kNm 1 bg bc ((kNm 2 bg bc ((kWd 20 bg bc ps).2.1)).2.1)).2.2 1) (w2 := fun u_8 => ([(pr, .inr (4, [.ref bf, iv ((kNm 1 bg bc ((kNm 2 bg bc ((kWd 20 bg bc ps).2.1)).2.1)).2.1), .ref al]))] : va_W) ++ ([(bf, .inr (10, [.ref bv, iv 0, iv bm, iv bc]))] : va_W) ++ ([(bv, ia (E.2 3) bn bg)] : va_W)) (w3 := fun u_9 => ([(pr, .inr (4, [.ref bf, iv ((kNm 1 bg bc ((kNm 2 bg bc ((kWd 20 bg bc ps).2.1)).2.1)).2.1), .ref al]))] : va_W) ++ ([(bf, .inr (10, [.ref bv, iv 0, iv bm, iv bc]))] : va_W) ++ ([(bv, ia (E.2 3) bn bg)] : va_W)) (vx_runV (As := [iv 1]) (rest := []) ⟨hx, hb, hml, hown, hts⟩ (mt_X4_number l E pr ((kNm 2 bg bc ((kWd 20 bg bc ps).2.1)).2.1) al bf bm bc bv bg 1 (bn) (by exact hst) (by omega) (by omega) (by assumption) (by omega) (by omega) _) (cwV 1 hts (lw_V q1829 q1831 qs32 q103 q1832) rfl rfl rfl (by decide +kernel) ⟨Nat.le_of_ble_eq_true rfl, Nat.le_of_ble_eq_true rfl⟩) (UX_V hP hK (hD) hE hS (va_A_in hD hS hA) (va_recv hK.1 hP (ci := 4) (q0 := 0) rfl rfl)) rfl rfl hl.1 rfl (lv_room (Nat.le_of_ble_eq_true rfl)) dX4_touching_14 ⟨Nat.le_of_ble_eq_true rfl, Nat.le_of_ble_eq_true rfl⟩) hP hD hS hA [0, 1, 2] [] [0, 1, 2] [0, 1, 2] rfl rfl rfl rfl rfl (fun _ => rfl) rfl (fun _ => rfl) ?_ ?_
      · intro En ce q9 u_9 H locs hCx hP hD hS hxf hq9 hce hcv hcl
        have hCx : En = "ClockworkTailor$SyntaxError" ∧ (kNm 1 bg bc ((kNm 2 bg bc ((kWd 20 bg bc ps).2.1)).2.1)).1 = false := hCx
        have hP : va_P E.1 CL (([(pr, .inr (4, [.ref bf, iv ((kNm 1 bg bc ((kNm 2 bg bc ((kWd 20 bg bc ps).2.1)).2.1)).2.1), .ref al]))] : va_W) ++ ([(bf, .inr (10, [.ref bv, iv 0, iv bm, iv bc]))] : va_W) ++ ([(bv, ia (E.2 3) bn bg)] : va_W)) H := hP
        have hD : va_D A (([(pr, .inr (4, [.ref bf, iv ((kNm 1 bg bc ((kNm 2 bg bc ((kWd 20 bg bc ps).2.1)).2.1)).2.1), .ref al]))] : va_W) ++ ([(bf, .inr (10, [.ref bv, iv 0, iv bm, iv bc]))] : va_W) ++ ([(bv, ia (E.2 3) bn bg)] : va_W)) := hD
        have hK9 : kFl (kCh bg bc [(0, 20), (2, 2), (2, 1), (2, 1)] 1 (ps, kT0)) ((kNm 1 bg bc ((kNm 2 bg bc ((kWd 20 bg bc ps).2.1)).2.1)).2.1) := by
          exact kCh_f hch2 hCx.2
        have hw9 : ((kNm 1 bg bc ((kNm 2 bg bc ((kWd 20 bg bc ps).2.1)).2.1)).2.1 : Int) = (kCh bg bc [(0, 20), (2, 2), (2, 1), (2, 1)] 1 (ps, kT0)).2.1 := hK9.2.symm
        have hxf : XF E q9 (some (8, [iv ((kNm 1 bg bc ((kNm 2 bg bc ((kWd 20 bg bc ps).2.1)).2.1)).2.1)])) H := hxf
        rw [hw9] at hP hD hxf
        exact n_out () (by exact ⟨hCx.1, hK9.1⟩) hP hD hS hxf (Nat.le_trans hz_7 hq9) hce hcv hcl (fun x hx9 => (htb x hx9).elim) hlocks (Nat.le_of_ble_eq_true rfl) (Nat.le_of_ble_eq_true rfl)
      · intro u_8 H locs hC hP hD hS
        have hu_8 : (kNm 1 bg bc ((kNm 2 bg bc ((kWd 20 bg bc ps).2.1)).2.1)).1 = true := hC
        have hP : va_P E.1 CL (([(pr, .inr (4, [.ref bf, iv ((kNm 1 bg bc ((kNm 2 bg bc ((kWd 20 bg bc ps).2.1)).2.1)).2.1), .ref al]))] : va_W) ++ ([(bf, .inr (10, [.ref bv, iv 0, iv bm, iv bc]))] : va_W) ++ ([(bv, ia (E.2 3) bn bg)] : va_W)) H := hP
        have hD : va_D A (([(pr, .inr (4, [.ref bf, iv ((kNm 1 bg bc ((kNm 2 bg bc ((kWd 20 bg bc ps).2.1)).2.1)).2.1), .ref al]))] : va_W) ++ ([(bf, .inr (10, [.ref bv, iv 0, iv bm, iv bc]))] : va_W) ++ ([(bv, ia (E.2 3) bn bg)] : va_W)) := hD
        have hch3 : (kCh bg bc [(0, 20), (2, 2), (2, 1), (2, 1)] 1 (ps, kT0)) = kCh bg bc [(2, 1)] 3 ((kNm 1 bg bc ((kNm 2 bg bc ((kWd 20 bg bc ps).2.1)).2.1)).2.1, (ui (ui kT0 1 ((kNm 2 bg bc ((kWd 20 bg bc ps).2.1)).2.2 1)) 2 ((kNm 1 bg bc ((kNm 2 bg bc ((kWd 20 bg bc ps).2.1)).2.1)).2.2 1))) := kCh_t hch2 hu_8
        have hkr3 : 0 ≤ (kNm 1 bg bc ((kNm 2 bg bc ((kWd 20 bg bc ps).2.1)).2.1)).2.1 ∧ (kNm 1 bg bc ((kNm 2 bg bc ((kWd 20 bg bc ps).2.1)).2.1)).2.1 ≤ bc ∧ (kNm 2 bg bc ((kWd 20 bg bc ps).2.1)).2.1 ≤ (kNm 1 bg bc ((kNm 2 bg bc ((kWd 20 bg bc ps).2.1)).2.1)).2.1 := kIt_r hb7 (show 0 ≤ (kNm 2 bg bc ((kWd 20 bg bc ps).2.1)).2.1 ∧ (kNm 2 bg bc ((kWd 20 bg bc ps).2.1)).2.1 ≤ bc by omega) (2, 1)
        have hkv3 := kNm_v hb7 (show 0 ≤ (kNm 2 bg bc ((kWd 20 bg bc ps).2.1)).2.1 ∧ (kNm 2 bg bc ((kWd 20 bg bc ps).2.1)).2.1 ≤ bc by omega) hu_8 (by omega)
        refine lv_istore_n (lv' := [(2, iv ((kNm 1 bg bc ((kNm 2 bg bc ((kWd 20 bg bc ps).2.1)).2.1)).2.2 1)), (1, iv ((kNm 2 bg bc ((kWd 20 bg bc ps).2.1)).2.2 1)), (0, .ref pr)]) hx hb dX4_touching_17 rfl hl (by decide) rfl (fun ls hl => ?_)
        refine lv_aload_n hx hb dX4_touching_18 rfl (lv_at hl 2 rfl) ?_
        refine lv_iconst (v := iI 1) hx hb dX4_touching_19 rfl ?_
        have hz_10 : s.heap.size ≤ H.size := hS.1
        refine n_txS (x := fun u_11 => (kNm 1 bg bc ((kNm 1 bg bc ((kNm 2 bg bc ((kWd 20 bg bc ps).2.1)).2.1)).2.1)).2.2 1) (w2 := fun u_11 => ([(pr, .inr (4, [.ref bf, iv ((kNm 1 bg bc ((kNm 1 bg bc ((kNm 2 bg bc ((kWd 20 bg bc ps).2.1)).2.1)).2.1)).2.1), .ref al]))] : va_W) ++ ([(bf, .inr (10, [.ref bv, iv 0, iv bm, iv bc]))] : va_W) ++ ([(bv, ia (E.2 3) bn bg)] : va_W)) (w3 := fun u_12 => ([(pr, .inr (4, [.ref bf, iv ((kNm 1 bg bc ((kNm 1 bg bc ((kNm 2 bg bc ((kWd 20 bg bc ps).2.1)).2.1)).2.1)).2.1), .ref al]))] : va_W) ++ ([(bf, .inr (10, [.ref bv, iv 0, iv bm, iv bc]))] : va_W) ++ ([(bv, ia (E.2 3) bn bg)] : va_W)) (vx_runV (As := [iv 1]) (rest := []) ⟨hx, hb, hml, hown, hts⟩ (mt_X4_number l E pr ((kNm 1 bg bc ((kNm 2 bg bc ((kWd 20 bg bc ps).2.1)).2.1)).2.1) al bf bm bc bv bg 1 (bn) (by exact hst) (by omega) (by omega) (by assumption) (by omega) (by omega) _) (cwV 1 hts (lw_V q1829 q1831 qs32 q103 q1832) rfl rfl rfl (by decide +kernel) ⟨Nat.le_of_ble_eq_true rfl, Nat.le_of_ble_eq_true rfl⟩) (UX_V hP hK (hD) hE hS (va_A_in hD hS hA) (va_recv hK.1 hP (ci := 4) (q0 := 0) rfl rfl)) rfl rfl hl.1 rfl (lv_room (Nat.le_of_ble_eq_true rfl)) dX4_touching_20 ⟨Nat.le_of_ble_eq_true rfl, Nat.le_of_ble_eq_true rfl⟩) hP hD hS hA [0, 1, 2] [] [0, 1, 2] [0, 1, 2] rfl rfl rfl rfl rfl (fun _ => rfl) rfl (fun _ => rfl) ?_ ?_
        · intro En ce q9 u_12 H locs hCx hP hD hS hxf hq9 hce hcv hcl
          have hCx : En = "ClockworkTailor$SyntaxError" ∧ (kNm 1 bg bc ((kNm 1 bg bc ((kNm 2 bg bc ((kWd 20 bg bc ps).2.1)).2.1)).2.1)).1 = false := hCx
          have hP : va_P E.1 CL (([(pr, .inr (4, [.ref bf, iv ((kNm 1 bg bc ((kNm 1 bg bc ((kNm 2 bg bc ((kWd 20 bg bc ps).2.1)).2.1)).2.1)).2.1), .ref al]))] : va_W) ++ ([(bf, .inr (10, [.ref bv, iv 0, iv bm, iv bc]))] : va_W) ++ ([(bv, ia (E.2 3) bn bg)] : va_W)) H := hP
          have hD : va_D A (([(pr, .inr (4, [.ref bf, iv ((kNm 1 bg bc ((kNm 1 bg bc ((kNm 2 bg bc ((kWd 20 bg bc ps).2.1)).2.1)).2.1)).2.1), .ref al]))] : va_W) ++ ([(bf, .inr (10, [.ref bv, iv 0, iv bm, iv bc]))] : va_W) ++ ([(bv, ia (E.2 3) bn bg)] : va_W)) := hD
          have hK9 : kFl (kCh bg bc [(0, 20), (2, 2), (2, 1), (2, 1)] 1 (ps, kT0)) ((kNm 1 bg bc ((kNm 1 bg bc ((kNm 2 bg bc ((kWd 20 bg bc ps).2.1)).2.1)).2.1)).2.1) := by
            exact kCh_f hch3 hCx.2
          have hw9 : ((kNm 1 bg bc ((kNm 1 bg bc ((kNm 2 bg bc ((kWd 20 bg bc ps).2.1)).2.1)).2.1)).2.1 : Int) = (kCh bg bc [(0, 20), (2, 2), (2, 1), (2, 1)] 1 (ps, kT0)).2.1 := hK9.2.symm
          have hxf : XF E q9 (some (8, [iv ((kNm 1 bg bc ((kNm 1 bg bc ((kNm 2 bg bc ((kWd 20 bg bc ps).2.1)).2.1)).2.1)).2.1)])) H := hxf
          rw [hw9] at hP hD hxf
          exact n_out () (by exact ⟨hCx.1, hK9.1⟩) hP hD hS hxf (Nat.le_trans hz_10 hq9) hce hcv hcl (fun x hx9 => (htb x hx9).elim) hlocks (Nat.le_of_ble_eq_true rfl) (Nat.le_of_ble_eq_true rfl)
        · intro u_11 H locs hC hP hD hS
          have hu_11 : (kNm 1 bg bc ((kNm 1 bg bc ((kNm 2 bg bc ((kWd 20 bg bc ps).2.1)).2.1)).2.1)).1 = true := hC
          have hP : va_P E.1 CL (([(pr, .inr (4, [.ref bf, iv ((kNm 1 bg bc ((kNm 1 bg bc ((kNm 2 bg bc ((kWd 20 bg bc ps).2.1)).2.1)).2.1)).2.1), .ref al]))] : va_W) ++ ([(bf, .inr (10, [.ref bv, iv 0, iv bm, iv bc]))] : va_W) ++ ([(bv, ia (E.2 3) bn bg)] : va_W)) H := hP
          have hD : va_D A (([(pr, .inr (4, [.ref bf, iv ((kNm 1 bg bc ((kNm 1 bg bc ((kNm 2 bg bc ((kWd 20 bg bc ps).2.1)).2.1)).2.1)).2.1), .ref al]))] : va_W) ++ ([(bf, .inr (10, [.ref bv, iv 0, iv bm, iv bc]))] : va_W) ++ ([(bv, ia (E.2 3) bn bg)] : va_W)) := hD
          have hch4 : (kCh bg bc [(0, 20), (2, 2), (2, 1), (2, 1)] 1 (ps, kT0)) = kCh bg bc [] 4 ((kNm 1 bg bc ((kNm 1 bg bc ((kNm 2 bg bc ((kWd 20 bg bc ps).2.1)).2.1)).2.1)).2.1, (ui (ui (ui kT0 1 ((kNm 2 bg bc ((kWd 20 bg bc ps).2.1)).2.2 1)) 2 ((kNm 1 bg bc ((kNm 2 bg bc ((kWd 20 bg bc ps).2.1)).2.1)).2.2 1)) 3 ((kNm 1 bg bc ((kNm 1 bg bc ((kNm 2 bg bc ((kWd 20 bg bc ps).2.1)).2.1)).2.1)).2.2 1))) := kCh_t hch3 hu_11
          have hkr4 : 0 ≤ (kNm 1 bg bc ((kNm 1 bg bc ((kNm 2 bg bc ((kWd 20 bg bc ps).2.1)).2.1)).2.1)).2.1 ∧ (kNm 1 bg bc ((kNm 1 bg bc ((kNm 2 bg bc ((kWd 20 bg bc ps).2.1)).2.1)).2.1)).2.1 ≤ bc ∧ (kNm 1 bg bc ((kNm 2 bg bc ((kWd 20 bg bc ps).2.1)).2.1)).2.1 ≤ (kNm 1 bg bc ((kNm 1 bg bc ((kNm 2 bg bc ((kWd 20 bg bc ps).2.1)).2.1)).2.1)).2.1 := kIt_r hb7 (show 0 ≤ (kNm 1 bg bc ((kNm 2 bg bc ((kWd 20 bg bc ps).2.1)).2.1)).2.1 ∧ (kNm 1 bg bc ((kNm 2 bg bc ((kWd 20 bg bc ps).2.1)).2.1)).2.1 ≤ bc by omega) (2, 1)
          have hkv4 := kNm_v hb7 (show 0 ≤ (kNm 1 bg bc ((kNm 2 bg bc ((kWd 20 bg bc ps).2.1)).2.1)).2.1 ∧ (kNm 1 bg bc ((kNm 2 bg bc ((kWd 20 bg bc ps).2.1)).2.1)).2.1 ≤ bc by omega) hu_11 (by omega)
          have hK8 : (kCh bg bc [(0, 20), (2, 2), (2, 1), (2, 1)] 1 (ps, kT0)).1 = true ∧ (kCh bg bc [(0, 20), (2, 2), (2, 1), (2, 1)] 1 (ps, kT0)).2.1 = (kNm 1 bg bc ((kNm 1 bg bc ((kNm 2 bg bc ((kWd 20 bg bc ps).2.1)).2.1)).2.1)).2.1 ∧ (kCh bg bc [(0, 20), (2, 2), (2, 1), (2, 1)] 1 (ps, kT0)).2.2 1 = (kNm 2 bg bc ((kWd 20 bg bc ps).2.1)).2.2 1 ∧ (kCh bg bc [(0, 20), (2, 2), (2, 1), (2, 1)] 1 (ps, kT0)).2.2 2 = (kNm 1 bg bc ((kNm 2 bg bc ((kWd 20 bg bc ps).2.1)).2.1)).2.2 1 ∧ (kCh bg bc [(0, 20), (2, 2), (2, 1), (2, 1)] 1 (ps, kT0)).2.2 3 = (kNm 1 bg bc ((kNm 1 bg bc ((kNm 2 bg bc ((kWd 20 bg bc ps).2.1)).2.1)).2.1)).2.2 1 := by rw [hch4]; exact ⟨rfl, rfl, rfl, rfl, rfl⟩
          refine lv_istore_n (lv' := [(3, iv ((kNm 1 bg bc ((kNm 1 bg bc ((kNm 2 bg bc ((kWd 20 bg bc ps).2.1)).2.1)).2.1)).2.2 1)), (2, iv ((kNm 1 bg bc ((kNm 2 bg bc ((kWd 20 bg bc ps).2.1)).2.1)).2.2 1)), (1, iv ((kNm 2 bg bc ((kWd 20 bg bc ps).2.1)).2.2 1)), (0, .ref pr)]) hx hb dX4_touching_23 rfl hl (by decide) rfl (fun ls hl => ?_)
          refine lv_iload_n hx hb dX4_touching_24 rfl (lv_at hl 2 rfl) ?_
          refine lv_iload_n hx hb dX4_touching_25 rfl (lv_at hl 1 rfl) ?_
          refine lv_iload_n hx hb dX4_touching_26 rfl (lv_at hl 0 rfl) ?_
          obtain ⟨_, -, -, hL_d_14, -, -⟩ := lam_fact hK (lam_words hts (State.WarmedH.refl s)) ls_22 rfl (by decide +kernel) lk_22
          refine n_indyM (x := ⟨"ClockworkTailor$Parser", "touching", "()LClockworkTailor$Change;"⟩) (index := 132) (vals := [iv ((kNm 2 bg bc ((kWd 20 bg bc ps).2.1)).2.2 1), iv ((kNm 1 bg bc ((kNm 2 bg bc ((kWd 20 bg bc ps).2.1)).2.1)).2.2 1), iv ((kNm 1 bg bc ((kNm 1 bg bc ((kNm 2 bg bc ((kWd 20 bg bc ps).2.1)).2.1)).2.1)).2.2 1)]) (a0 := (3, .inl (fun zk : Nat => iI (if zk = 0 then (kNm 2 bg bc ((kWd 20 bg bc ps).2.1)).2.2 1 else if zk = 1 then (kNm 1 bg bc ((kNm 2 bg bc ((kWd 20 bg bc ps).2.1)).2.1)).2.2 1 else (kNm 1 bg bc ((kNm 1 bg bc ((kNm 2 bg bc ((kWd 20 bg bc ps).2.1)).2.1)).2.1)).2.2 1)))) (rest := []) hx hb (hl.1.trans hml.symm) (show s.methodNamed? ⟨"ClockworkTailor$Parser", "touching", "()LClockworkTailor$Change;"⟩ = some m from B.named) ((hK.kx.1 _ ls_22).1 (by decide)) hL_d_14 (by rfl) rfl rfl rfl (n_fits rfl) hP hD hS hA rfl (Nat.le_of_ble_eq_true rfl) (Nat.le_of_ble_eq_true rfl) (Nat.le_of_ble_eq_true rfl) dX4_touching_27 (fun q_13 H hP hD hS => ?_)
          have hP : va_P E.1 CL (([(pr, .inr (4, [.ref bf, iv ((kNm 1 bg bc ((kNm 1 bg bc ((kNm 2 bg bc ((kWd 20 bg bc ps).2.1)).2.1)).2.1)).2.1), .ref al]))] : va_W) ++ ([(bf, .inr (10, [.ref bv, iv 0, iv bm, iv bc]))] : va_W) ++ ([(bv, ia (E.2 3) bn bg)] : va_W) ++ ([(q_13, .inl (E.2 (3000 + 22), 3, .inl (fun zk : Nat => iI (if zk = 0 then (kNm 2 bg bc ((kWd 20 bg bc ps).2.1)).2.2 1 else if zk = 1 then (kNm 1 bg bc ((kNm 2 bg bc ((kWd 20 bg bc ps).2.1)).2.1)).2.2 1 else (kNm 1 bg bc ((kNm 1 bg bc ((kNm 2 bg bc ((kWd 20 bg bc ps).2.1)).2.1)).2.1)).2.2 1))))] : va_W)) H := hP
          have hD : va_D A (([(pr, .inr (4, [.ref bf, iv ((kNm 1 bg bc ((kNm 1 bg bc ((kNm 2 bg bc ((kWd 20 bg bc ps).2.1)).2.1)).2.1)).2.1), .ref al]))] : va_W) ++ ([(bf, .inr (10, [.ref bv, iv 0, iv bm, iv bc]))] : va_W) ++ ([(bv, ia (E.2 3) bn bg)] : va_W) ++ ([(q_13, .inl (E.2 (3000 + 22), 3, .inl (fun zk : Nat => iI (if zk = 0 then (kNm 2 bg bc ((kWd 20 bg bc ps).2.1)).2.2 1 else if zk = 1 then (kNm 1 bg bc ((kNm 2 bg bc ((kWd 20 bg bc ps).2.1)).2.1)).2.2 1 else (kNm 1 bg bc ((kNm 1 bg bc ((kNm 2 bg bc ((kWd 20 bg bc ps).2.1)).2.1)).2.1)).2.2 1))))] : va_W)) := hD
          have w_15 : ((kNm 1 bg bc ((kNm 1 bg bc ((kNm 2 bg bc ((kWd 20 bg bc ps).2.1)).2.1)).2.1)).2.1 : Int) = (kCh bg bc [(0, 20), (2, 2), (2, 1), (2, 1)] 1 (ps, kT0)).2.1 := by exact hK8.2.1.symm
          rw [w_15] at hP hD
          have hP : va_P E.1 CL (([(pr, .inr (4, [.ref bf, iv ((kCh bg bc [(0, 20), (2, 2), (2, 1), (2, 1)] 1 (ps, kT0)).2.1), .ref al]))] : va_W) ++ ([(bf, .inr (10, [.ref bv, iv 0, iv bm, iv bc]))] : va_W) ++ ([(bv, ia (E.2 3) bn bg)] : va_W) ++ ([(q_13, .inl (E.2 (3000 + 22), 3, .inl (fun zk : Nat => iI (if zk = 0 then (kNm 2 bg bc ((kWd 20 bg bc ps).2.1)).2.2 1 else if zk = 1 then (kNm 1 bg bc ((kNm 2 bg bc ((kWd 20 bg bc ps).2.1)).2.1)).2.2 1 else (kNm 1 bg bc ((kNm 1 bg bc ((kNm 2 bg bc ((kWd 20 bg bc ps).2.1)).2.1)).2.1)).2.2 1))))] : va_W)) H := hP
          have hD : va_D A (([(pr, .inr (4, [.ref bf, iv ((kCh bg bc [(0, 20), (2, 2), (2, 1), (2, 1)] 1 (ps, kT0)).2.1), .ref al]))] : va_W) ++ ([(bf, .inr (10, [.ref bv, iv 0, iv bm, iv bc]))] : va_W) ++ ([(bv, ia (E.2 3) bn bg)] : va_W) ++ ([(q_13, .inl (E.2 (3000 + 22), 3, .inl (fun zk : Nat => iI (if zk = 0 then (kNm 2 bg bc ((kWd 20 bg bc ps).2.1)).2.2 1 else if zk = 1 then (kNm 1 bg bc ((kNm 2 bg bc ((kWd 20 bg bc ps).2.1)).2.1)).2.2 1 else (kNm 1 bg bc ((kNm 1 bg bc ((kNm 2 bg bc ((kWd 20 bg bc ps).2.1)).2.1)).2.1)).2.2 1))))] : va_W)) := hD
          have hv0 : (kNm 2 bg bc ((kWd 20 bg bc ps).2.1)).2.2 1 = (kCh bg bc [(0, 20), (2, 2), (2, 1), (2, 1)] 1 (ps, kT0)).2.2 1 := (hK8.2.2.1).symm
          have hv1 : (kNm 1 bg bc ((kNm 2 bg bc ((kWd 20 bg bc ps).2.1)).2.1)).2.2 1 = (kCh bg bc [(0, 20), (2, 2), (2, 1), (2, 1)] 1 (ps, kT0)).2.2 2 := (hK8.2.2.2.1).symm
          have hv2 : (kNm 1 bg bc ((kNm 1 bg bc ((kNm 2 bg bc ((kWd 20 bg bc ps).2.1)).2.1)).2.1)).2.2 1 = (kCh bg bc [(0, 20), (2, 2), (2, 1), (2, 1)] 1 (ps, kT0)).2.2 3 := (hK8.2.2.2.2).symm
          rw [hv0, hv1, hv2] at hP hD
          have hP : va_P E.1 CL (([(pr, .inr (4, [.ref bf, iv ((kCh bg bc [(0, 20), (2, 2), (2, 1), (2, 1)] 1 (ps, kT0)).2.1), .ref al]))] : va_W) ++ ([(bf, .inr (10, [.ref bv, iv 0, iv bm, iv bc]))] : va_W) ++ ([(bv, ia (E.2 3) bn bg)] : va_W) ++ ([(q_13, .inl (E.2 (3000 + 22), 3, .inl (fun zk : Nat => iI (if zk = 0 then (kCh bg bc [(0, 20), (2, 2), (2, 1), (2, 1)] 1 (ps, kT0)).2.2 1 else if zk = 1 then (kCh bg bc [(0, 20), (2, 2), (2, 1), (2, 1)] 1 (ps, kT0)).2.2 2 else (kCh bg bc [(0, 20), (2, 2), (2, 1), (2, 1)] 1 (ps, kT0)).2.2 3))))] : va_W)) H := hP
          have hD : va_D A (([(pr, .inr (4, [.ref bf, iv ((kCh bg bc [(0, 20), (2, 2), (2, 1), (2, 1)] 1 (ps, kT0)).2.1), .ref al]))] : va_W) ++ ([(bf, .inr (10, [.ref bv, iv 0, iv bm, iv bc]))] : va_W) ++ ([(bv, ia (E.2 3) bn bg)] : va_W) ++ ([(q_13, .inl (E.2 (3000 + 22), 3, .inl (fun zk : Nat => iI (if zk = 0 then (kCh bg bc [(0, 20), (2, 2), (2, 1), (2, 1)] 1 (ps, kT0)).2.2 1 else if zk = 1 then (kCh bg bc [(0, 20), (2, 2), (2, 1), (2, 1)] 1 (ps, kT0)).2.2 2 else (kCh bg bc [(0, 20), (2, 2), (2, 1), (2, 1)] 1 (ps, kT0)).2.2 3))))] : va_W)) := hD
          refine vx_ret ?_
          refine W.widen (k := 5) (n := 31) (Nat.le_of_ble_eq_true rfl) (Nat.le_of_ble_eq_true rfl) ?_
          exact W.aret hx hb hr (Or.inl ⟨_, rfl⟩) (Or.inr ⟨_, rfl⟩) (fun tt_ ht_ hW_ => ⟨⟨q_13, rfl, hK8.1, by rw [ht_]; exact hP, hD⟩, hS.F ht_⟩) hS.2.2 dX4_touching_32
set_option maxHeartbeats 4000000 in
set_option maxRecDepth 100000 in
theorem mt_X4_change (l : Launch) (E : EE) (pr : Nat) (ps : Int) (al : Nat) (bf : Nat) (bm : Int) (bc : Int) (bv : Nat) (bg : Int → Int)  (bn : Nat) (hst : l.stackTraces = false) (hbb : 0 ≤ bc ∧ bc ≤ (bn : Int)) (hbn : bn ≤ 64) (hb7 : B7 bg) (hps : 0 ≤ ps ∧ ps ≤ bc) (sz : Nat) : vx_Met l yX4_change (ws_ yX4_change cX4_change 1 (some (.object "ClockworkTailor$Change"))) { frames := 9, cells := 5, slots := 31, locals := 3098 } (va_Pc [.ref pr] (UX E (([(pr, .inr (4, [.ref bf, iv ps, .ref al]))] : va_W) ++ ([(bf, .inr (10, [.ref bv, iv 0, iv bm, iv bc]))] : va_W) ++ ([(bv, ia (E.2 3) bn bg)] : va_W)) sz)) (UQxy E (fun u : Nat => (kCm bg bc ps).1 = true ∧ (kKd bg bc ps = 7 → u = EX E 3020)) (fun u : Nat => .ref u) (fun u : Nat => ([(pr, .inr (4, [.ref bf, iv ((kCm bg bc ps).2.1), .ref al]))] : va_W) ++ ([(bf, .inr (10, [.ref bv, iv 0, iv bm, iv bc]))] : va_W) ++ ([(bv, ia (E.2 3) bn bg)] : va_W) ++ ((chg E u (kKd bg bc ps) ((kCm bg bc ps).2.2 1) ((kCm bg bc ps).2.2 2) ((kCm bg bc ps).2.2 3)))) (va_A (([(pr, .inr (4, [.ref bf, iv ps, .ref al]))] : va_W) ++ ([(bf, .inr (10, [.ref bv, iv 0, iv bm, iv bc]))] : va_W) ++ ([(bv, ia (E.2 3) bn bg)] : va_W)) sz)) (UXx E (fun (En : String) (u : Unit) => En = "ClockworkTailor$SyntaxError" ∧ (kCm bg bc ps).1 = false) (fun u : Unit => ([(pr, .inr (4, [.ref bf, iv ((kCm bg bc ps).2.1), .ref al]))] : va_W) ++ ([(bf, .inr (10, [.ref bv, iv 0, iv bm, iv bc]))] : va_W) ++ ([(bv, ia (E.2 3) bn bg)] : va_W)) (fun u : Unit => some (8, [iv (kCm bg bc ps).2.1])) (va_A (([(pr, .inr (4, [.ref bf, iv ps, .ref al]))] : va_W) ++ ([(bf, .inr (10, [.ref bv, iv 0, iv bm, iv bc]))] : va_W) ++ ([(bv, ia (E.2 3) bn bg)] : va_W)) sz)) 5 31 (va_A (([(pr, .inr (4, [.ref bf, iv ps, .ref al]))] : va_W) ++ ([(bf, .inr (10, [.ref bv, iv 0, iv bm, iv bc]))] : va_W) ++ ([(bv, ia (E.2 3) bn bg)] : va_W)) sz) := by
  refine vx_ofW (cc := cX4_change) (maxL := 1) (ret := (some (.object "ClockworkTailor$Change"))) (by decide) rfl ?_
  intro p e s m args below meth c s₁ B hml htb hv
  obtain ⟨rfl, hsz, hP, hK, hD0, hE⟩ := hv
  have hx := B.exec
  have hb := B.bytes
  have hr := B.returns
  have hts := atoms_spec (ws := (ws_ yX4_change cX4_change 1 (some (.object "ClockworkTailor$Change")))) B.pre
  have hts : ∀ w ∈ lw_all, w.before _ s = true := fun w h => hts w (List.mem_cons_of_mem _ h)
  have hown : s.vm.findClass RX4 = some m.cls := findClass_of_methodNamed B.named
  have hlocks := B.notSynchronized
  subst hsz
  have hD := hD0.self (sz := s.heap.size)
  generalize hAe : va_A (([(pr, .inr (4, [.ref bf, iv ps, .ref al]))] : va_W) ++ ([(bf, .inr (10, [.ref bv, iv 0, iv bm, iv bc]))] : va_W) ++ ([(bv, ia (E.2 3) bn bg)] : va_W)) s.heap.size = A at hD hE ⊢
  have hA : ∀ q : Nat, s.heap.size ≤ q → A q := fun q h => by rw [← hAe]; exact Or.inr h
  have hS : va_S A s.heap s.heap [] := va_S.rf
  have hl := lv_entry ([.ref pr]) (n := 1) (Nat.le_of_ble_eq_true rfl)
  rw [lg_entry_eq]
  generalize (lg_sl ([.ref pr]) ++ List.replicate (1 - (lg_sl ([.ref pr])).length) Slot.unset).toArray = ls at hl ⊢
  have hl : lv_has ls 1 [(0, .ref pr)] := hl
  refine lv_aload_n hx hb dX4_change_0 rfl (lv_at hl 0 rfl) ?_
  refine n_csi (x := p_here bg bc ps) (va_runV (As := []) (rest := []) ⟨hx, hb, hml, hown, hts⟩ (mt_X4_current l E pr ps al bf bm bc bv bg  (bn) (by omega) (by omega) (by assumption) (by omega)) (cwV 0 hts (lw_V q1761 q1763 qs25 q103 q1764) rfl rfl rfl (by decide +kernel) ⟨Nat.le_of_ble_eq_true rfl, Nat.le_of_ble_eq_true rfl⟩) (PX_V hP hK hE hS (va_recv hK.1 hP (ci := 4) (q0 := 0) rfl rfl)) rfl rfl hl.1 rfl (lv_room (Nat.le_of_ble_eq_true rfl)) dX4_change_1 ⟨Nat.le_of_ble_eq_true rfl, Nat.le_of_ble_eq_true rfl⟩) ?_
  have b_1 := p_here_7 hb7 bc ps
  by_cases c_2 : p_here bg bc ps = 98
  · refine n_tabIn (off := 142) (tgt := 146) hx hb dX4_change_4 c_2 (by decide) (by decide) (by decide) (by decide) ?_
    refine lv_aload_n hx hb dX4_change_146 rfl (lv_at hl 0 rfl) ?_
    have hkd : kKd bg bc ps = 6 := by unfold kKd; (repeat' split) <;> omega
    have hKC : kCm bg bc ps = (kCh bg bc [(0, 17), (1, 0)] 1 (ps, kT0)) := by unfold kCm; rw [hkd]; rfl
    have hg_3 : gpick [[(pr, .inr (4, [.ref bf, iv ps, .ref al]))], [(bf, .inr (10, [.ref bv, iv 0, iv bm, iv bc]))], [(bv, ia (E.2 3) bn bg)]] ([[(pr, .inr (4, [.ref bf, iv ps, .ref al]))], [(bf, .inr (10, [.ref bv, iv 0, iv bm, iv bc]))], [(bv, ia (E.2 3) bn bg)]] ++ []) [0, 1, 2] := ⟨rfl, (show List.Perm [0, 1, 2] (List.range 3) from by decide)⟩
    have hg_3P : va_P E.1 CL (([(pr, .inr (4, [.ref bf, iv ps, .ref al]))] : va_W) ++ ([(bf, .inr (10, [.ref bv, iv 0, iv bm, iv bc]))] : va_W) ++ ([(bv, ia (E.2 3) bn bg)] : va_W)) s.heap := (g_out hg_3 hP hD).1
    have hg_3D : va_D A (([(pr, .inr (4, [.ref bf, iv ps, .ref al]))] : va_W) ++ ([(bf, .inr (10, [.ref bv, iv 0, iv bm, iv bc]))] : va_W) ++ ([(bv, ia (E.2 3) bn bg)] : va_W)) := (g_out hg_3 hP hD).2
    have hg_3F : ∀ q, va_A (([(pr, .inr (4, [.ref bf, iv ps, .ref al]))] : va_W) ++ ([(bf, .inr (10, [.ref bv, iv 0, iv bm, iv bc]))] : va_W) ++ ([(bv, ia (E.2 3) bn bg)] : va_W)) s.heap.size q → A q := g_free hg_3 hP hD hS hA
    have hz_4 : s.heap.size ≤ s.heap.size := hS.1
    have hj_7 : ∀ u_5 : Nat, gpick ([[(pr, .inr (4, [.ref bf, iv ((kCh bg bc [(0, 17), (1, 0)] 1 (ps, kT0)).2.1), .ref al]))], [(bf, .inr (10, [.ref bv, iv 0, iv bm, iv bc]))], [(bv, ia (E.2 3) bn bg)], [(u_5, .inl (E.2 (3000 + 19), 1, .inl (fun zk : Nat => iI ( (kCh bg bc [(0, 17), (1, 0)] 1 (ps, kT0)).2.2 1))))]] ++ []) [[(pr, .inr (4, [.ref bf, iv ((kCh bg bc [(0, 17), (1, 0)] 1 (ps, kT0)).2.1), .ref al]))], [(bf, .inr (10, [.ref bv, iv 0, iv bm, iv bc]))], [(bv, ia (E.2 3) bn bg)], [(u_5, .inl (E.2 (3000 + 19), 1, .inl (fun zk : Nat => iI ( (kCh bg bc [(0, 17), (1, 0)] 1 (ps, kT0)).2.2 1))))]] [0, 1, 2, 3] := fun u_5 => ⟨rfl, (show List.Perm [0, 1, 2, 3] (List.range 4) from by decide)⟩
    have hj_8 : ∀ u_6 : Unit, gpick ([[(pr, .inr (4, [.ref bf, iv ((kCh bg bc [(0, 17), (1, 0)] 1 (ps, kT0)).2.1), .ref al]))], [(bf, .inr (10, [.ref bv, iv 0, iv bm, iv bc]))], [(bv, ia (E.2 3) bn bg)]] ++ []) [[(pr, .inr (4, [.ref bf, iv ((kCh bg bc [(0, 17), (1, 0)] 1 (ps, kT0)).2.1), .ref al]))], [(bf, .inr (10, [.ref bv, iv 0, iv bm, iv bc]))], [(bv, ia (E.2 3) bn bg)]] [0, 1, 2] := fun u_6 => ⟨rfl, (show List.Perm [0, 1, 2] (List.range 3) from by decide)⟩
    refine n_txyB (y := fun u_5 => .ref u_5) (w2 := fun u_5 => ([(pr, .inr (4, [.ref bf, iv ((kCh bg bc [(0, 17), (1, 0)] 1 (ps, kT0)).2.1), .ref al]))] : va_W) ++ ([(bf, .inr (10, [.ref bv, iv 0, iv bm, iv bc]))] : va_W) ++ ([(bv, ia (E.2 3) bn bg)] : va_W) ++ ([(u_5, .inl (E.2 (3000 + 19), 1, .inl (fun zk : Nat => iI ( (kCh bg bc [(0, 17), (1, 0)] 1 (ps, kT0)).2.2 1))))] : va_W)) (w3 := fun u_6 => ([(pr, .inr (4, [.ref bf, iv ((kCh bg bc [(0, 17), (1, 0)] 1 (ps, kT0)).2.1), .ref al]))] : va_W) ++ ([(bf, .inr (10, [.ref bv, iv 0, iv bm, iv bc]))] : va_W) ++ ([(bv, ia (E.2 3) bn bg)] : va_W)) (vx_runV (As := []) (rest := []) ⟨hx, hb, hml, hown, hts⟩ (mt_X4_puttingBack l E pr ps al bf bm bc bv bg  (bn) (by exact hst) (by omega) (by omega) (by assumption) (by omega) _) (cwV 0 hts (lw_V q1882 q1884 qs39 q103 q1885) rfl rfl rfl (by decide +kernel) ⟨Nat.le_of_ble_eq_true rfl, Nat.le_of_ble_eq_true rfl⟩) (UX_V hg_3P hK (hg_3D) hE hS hg_3F (va_recv hK.1 hP (ci := 4) (q0 := 0) rfl rfl)) rfl rfl hl.1 rfl (lv_room (Nat.le_of_ble_eq_true rfl)) dX4_change_147 ⟨Nat.le_of_ble_eq_true rfl, Nat.le_of_ble_eq_true rfl⟩) hS hg_3F ?_ ?_ ?_ ?_
    · exact (fun u_5 _ hk9 hp9 hd9 => g_back hg_3 (hj_7 u_5) hP hD hg_3F hk9 hp9 hd9)
    · exact (fun u_6 _ hk9 hp9 hd9 => g_back hg_3 (hj_8 u_6) hP hD hg_3F hk9 hp9 hd9)
    · intro En ce q9 u_6 H locs hCx hP hD hS hxf hq9 hce hcv hcl
      have hCx : En = "ClockworkTailor$SyntaxError" ∧ (kCh bg bc [(0, 17), (1, 0)] 1 (ps, kT0)).1 = false := hCx
      have hP : va_P E.1 CL (([(pr, .inr (4, [.ref bf, iv ((kCh bg bc [(0, 17), (1, 0)] 1 (ps, kT0)).2.1), .ref al]))] : va_W) ++ ([(bf, .inr (10, [.ref bv, iv 0, iv bm, iv bc]))] : va_W) ++ ([(bv, ia (E.2 3) bn bg)] : va_W)) H := hP
      have hD : va_D A (([(pr, .inr (4, [.ref bf, iv ((kCh bg bc [(0, 17), (1, 0)] 1 (ps, kT0)).2.1), .ref al]))] : va_W) ++ ([(bf, .inr (10, [.ref bv, iv 0, iv bm, iv bc]))] : va_W) ++ ([(bv, ia (E.2 3) bn bg)] : va_W)) := hD
      have hK9 : kFl (kCm bg bc ps) ((kCh bg bc [(0, 17), (1, 0)] 1 (ps, kT0)).2.1) := by
        rw [hKC]
        exact ⟨hCx.2, rfl⟩
      have hw9 : ((kCh bg bc [(0, 17), (1, 0)] 1 (ps, kT0)).2.1 : Int) = (kCm bg bc ps).2.1 := hK9.2.symm
      have hxf : XF E q9 (some (8, [iv ((kCh bg bc [(0, 17), (1, 0)] 1 (ps, kT0)).2.1)])) H := hxf
      rw [hw9] at hP hD hxf
      exact n_out () (by exact ⟨hCx.1, hK9.1⟩) hP hD hS hxf (Nat.le_trans hz_4 hq9) hce hcv hcl (fun x hx9 => (htb x hx9).elim) hlocks (Nat.le_of_ble_eq_true rfl) (Nat.le_of_ble_eq_true rfl)
    · intro u_5 H locs hC hP hD hS
      have hu_5 : (kCh bg bc [(0, 17), (1, 0)] 1 (ps, kT0)).1 = true := hC
      have hP : va_P E.1 CL (([(pr, .inr (4, [.ref bf, iv ((kCh bg bc [(0, 17), (1, 0)] 1 (ps, kT0)).2.1), .ref al]))] : va_W) ++ ([(bf, .inr (10, [.ref bv, iv 0, iv bm, iv bc]))] : va_W) ++ ([(bv, ia (E.2 3) bn bg)] : va_W) ++ ([(u_5, .inl (E.2 (3000 + 19), 1, .inl (fun zk : Nat => iI ( (kCh bg bc [(0, 17), (1, 0)] 1 (ps, kT0)).2.2 1))))] : va_W)) H := hP
      have hD : va_D A (([(pr, .inr (4, [.ref bf, iv ((kCh bg bc [(0, 17), (1, 0)] 1 (ps, kT0)).2.1), .ref al]))] : va_W) ++ ([(bf, .inr (10, [.ref bv, iv 0, iv bm, iv bc]))] : va_W) ++ ([(bv, ia (E.2 3) bn bg)] : va_W) ++ ([(u_5, .inl (E.2 (3000 + 19), 1, .inl (fun zk : Nat => iI ( (kCh bg bc [(0, 17), (1, 0)] 1 (ps, kT0)).2.2 1))))] : va_W)) := hD
      have hK8 : (kCm bg bc ps).1 = true ∧ (kCm bg bc ps).2.1 = (kCh bg bc [(0, 17), (1, 0)] 1 (ps, kT0)).2.1 := by rw [hKC]; exact ⟨hu_5, rfl⟩
      rw [← hKC] at hP hD
      have hP : va_P E.1 CL (([(pr, .inr (4, [.ref bf, iv ((kCm bg bc ps).2.1), .ref al]))] : va_W) ++ ([(bf, .inr (10, [.ref bv, iv 0, iv bm, iv bc]))] : va_W) ++ ([(bv, ia (E.2 3) bn bg)] : va_W) ++ ([(u_5, .inl (E.2 (3000 + 19), 1, .inl (fun zk : Nat => iI ( (kCm bg bc ps).2.2 1))))] : va_W)) H := hP
      have hD : va_D A (([(pr, .inr (4, [.ref bf, iv ((kCm bg bc ps).2.1), .ref al]))] : va_W) ++ ([(bf, .inr (10, [.ref bv, iv 0, iv bm, iv bc]))] : va_W) ++ ([(bv, ia (E.2 3) bn bg)] : va_W) ++ ([(u_5, .inl (E.2 (3000 + 19), 1, .inl (fun zk : Nat => iI ( (kCm bg bc ps).2.2 1))))] : va_W)) := hD
      rw [show ([(u_5, .inl (E.2 (3000 + 19), 1, .inl (fun zk : Nat => iI ( (kCm bg bc ps).2.2 1))))] : va_W) = (chg E u_5 (kKd bg bc ps) ((kCm bg bc ps).2.2 1) ((kCm bg bc ps).2.2 2) ((kCm bg bc ps).2.2 3)) from by rw [hkd]; rfl] at hP hD
      have hP : va_P E.1 CL (([(pr, .inr (4, [.ref bf, iv ((kCm bg bc ps).2.1), .ref al]))] : va_W) ++ ([(bf, .inr (10, [.ref bv, iv 0, iv bm, iv bc]))] : va_W) ++ ([(bv, ia (E.2 3) bn bg)] : va_W) ++ ((chg E u_5 (kKd bg bc ps) ((kCm bg bc ps).2.2 1) ((kCm bg bc ps).2.2 2) ((kCm bg bc ps).2.2 3)))) H := hP
      have hD : va_D A (([(pr, .inr (4, [.ref bf, iv ((kCm bg bc ps).2.1), .ref al]))] : va_W) ++ ([(bf, .inr (10, [.ref bv, iv 0, iv bm, iv bc]))] : va_W) ++ ([(bv, ia (E.2 3) bn bg)] : va_W) ++ ((chg E u_5 (kKd bg bc ps) ((kCm bg bc ps).2.2 1) ((kCm bg bc ps).2.2 2) ((kCm bg bc ps).2.2 3)))) := hD
      refine vx_ret ?_
      refine W.widen (k := 5) (n := 31) (Nat.le_of_ble_eq_true rfl) (Nat.le_of_ble_eq_true rfl) ?_
      exact W.aret hx hb hr (Or.inl ⟨_, rfl⟩) (Or.inr ⟨_, rfl⟩) (fun tt_ ht_ hW_ => ⟨⟨u_5, rfl, ⟨hK8.1, fun h9 => absurd (hkd.symm.trans h9) (by decide)⟩, by rw [ht_]; exact hP, hD⟩, hS.F ht_⟩) hS.2.2 dX4_change_150
  by_cases c_9 : p_here bg bc ps = 99
  · refine n_tabIn (off := 110) (tgt := 114) hx hb dX4_change_4 c_9 (by decide) (by decide) (by decide) (by decide) ?_
    refine lv_aload_n hx hb dX4_change_114 rfl (lv_at hl 0 rfl) ?_
    refine lv_aload_n hx hb dX4_change_115 rfl (lv_at hl 0 rfl) ?_
    refine va_get (D := E.1) (ci := 4) (v := iv ps) (C := RX4) (T := TX4) (N := 3) hx hb hts in_X4 hown hK.1 hP 0 rfl rfl 1 (by decide) (hts _ q329) (fun _ h9 => h9) rfl dX4_change_116 ?_
    refine lv_iconst (v := iI 1) hx hb dX4_change_119 rfl ?_
    refine n_iadd hx hb dX4_change_120 ?_
    refine n_csi (x := p_here bg bc (ps + 1)) (va_runV (As := [iv (ps + 1)]) (rest := []) ⟨hx, hb, hml, hown, hts⟩ (mt_X4_at l E pr ps al bf bm bc bv bg (ps + 1) (bn) (by omega) (by omega) (by assumption) (by omega)) (cwV 1 hts (lw_V q1765 q1767 qs26 q103 q1768) rfl rfl rfl (by decide +kernel) ⟨Nat.le_of_ble_eq_true rfl, Nat.le_of_ble_eq_true rfl⟩) (PX_V hP hK hE hS (va_recv hK.1 hP (ci := 4) (q0 := 0) rfl rfl)) rfl rfl hl.1 rfl (lv_room (Nat.le_of_ble_eq_true rfl)) dX4_change_121 ⟨Nat.le_of_ble_eq_true rfl, Nat.le_of_ble_eq_true rfl⟩) ?_
    refine lv_bipush (v := iI 108) hx hb dX4_change_124 (by decide) ?_
    have b_10 := p_here_7 hb7 bc (ps + 1)
    refine n_icmp_ne (tgt := 136) hx hb dX4_change_126 (by decide) (by omega) (by omega) (fun c_11 => ?_) (fun c_11 => ?_)
    · refine lv_aload_n hx hb dX4_change_136 rfl (lv_at hl 0 rfl) ?_
      have hkd : kKd bg bc ps = 4 := by unfold kKd; (repeat' split) <;> omega
      have hKC : kCm bg bc ps = (kCh bg bc [(0, 15), (1, 0), (1, 0)] 1 (ps, kT0)) := by unfold kCm; rw [hkd]; rfl
      have hg_12 : gpick [[(pr, .inr (4, [.ref bf, iv ps, .ref al]))], [(bf, .inr (10, [.ref bv, iv 0, iv bm, iv bc]))], [(bv, ia (E.2 3) bn bg)]] ([[(pr, .inr (4, [.ref bf, iv ps, .ref al]))], [(bf, .inr (10, [.ref bv, iv 0, iv bm, iv bc]))], [(bv, ia (E.2 3) bn bg)]] ++ []) [0, 1, 2] := ⟨rfl, (show List.Perm [0, 1, 2] (List.range 3) from by decide)⟩
      have hg_12P : va_P E.1 CL (([(pr, .inr (4, [.ref bf, iv ps, .ref al]))] : va_W) ++ ([(bf, .inr (10, [.ref bv, iv 0, iv bm, iv bc]))] : va_W) ++ ([(bv, ia (E.2 3) bn bg)] : va_W)) s.heap := (g_out hg_12 hP hD).1
      have hg_12D : va_D A (([(pr, .inr (4, [.ref bf, iv ps, .ref al]))] : va_W) ++ ([(bf, .inr (10, [.ref bv, iv 0, iv bm, iv bc]))] : va_W) ++ ([(bv, ia (E.2 3) bn bg)] : va_W)) := (g_out hg_12 hP hD).2
      have hg_12F : ∀ q, va_A (([(pr, .inr (4, [.ref bf, iv ps, .ref al]))] : va_W) ++ ([(bf, .inr (10, [.ref bv, iv 0, iv bm, iv bc]))] : va_W) ++ ([(bv, ia (E.2 3) bn bg)] : va_W)) s.heap.size q → A q := g_free hg_12 hP hD hS hA
      have hz_13 : s.heap.size ≤ s.heap.size := hS.1
      have hj_16 : ∀ u_14 : Nat, gpick ([[(pr, .inr (4, [.ref bf, iv ((kCh bg bc [(0, 15), (1, 0), (1, 0)] 1 (ps, kT0)).2.1), .ref al]))], [(bf, .inr (10, [.ref bv, iv 0, iv bm, iv bc]))], [(bv, ia (E.2 3) bn bg)], [(u_14, .inl (E.2 (3000 + 17), 2, .inl (fun zk : Nat => iI (if zk = 0 then (kCh bg bc [(0, 15), (1, 0), (1, 0)] 1 (ps, kT0)).2.2 1 else (kCh bg bc [(0, 15), (1, 0), (1, 0)] 1 (ps, kT0)).2.2 2))))]] ++ []) [[(pr, .inr (4, [.ref bf, iv ((kCh bg bc [(0, 15), (1, 0), (1, 0)] 1 (ps, kT0)).2.1), .ref al]))], [(bf, .inr (10, [.ref bv, iv 0, iv bm, iv bc]))], [(bv, ia (E.2 3) bn bg)], [(u_14, .inl (E.2 (3000 + 17), 2, .inl (fun zk : Nat => iI (if zk = 0 then (kCh bg bc [(0, 15), (1, 0), (1, 0)] 1 (ps, kT0)).2.2 1 else (kCh bg bc [(0, 15), (1, 0), (1, 0)] 1 (ps, kT0)).2.2 2))))]] [0, 1, 2, 3] := fun u_14 => ⟨rfl, (show List.Perm [0, 1, 2, 3] (List.range 4) from by decide)⟩
      have hj_17 : ∀ u_15 : Unit, gpick ([[(pr, .inr (4, [.ref bf, iv ((kCh bg bc [(0, 15), (1, 0), (1, 0)] 1 (ps, kT0)).2.1), .ref al]))], [(bf, .inr (10, [.ref bv, iv 0, iv bm, iv bc]))], [(bv, ia (E.2 3) bn bg)]] ++ []) [[(pr, .inr (4, [.ref bf, iv ((kCh bg bc [(0, 15), (1, 0), (1, 0)] 1 (ps, kT0)).2.1), .ref al]))], [(bf, .inr (10, [.ref bv, iv 0, iv bm, iv bc]))], [(bv, ia (E.2 3) bn bg)]] [0, 1, 2] := fun u_15 => ⟨rfl, (show List.Perm [0, 1, 2] (List.range 3) from by decide)⟩
      refine n_txyB (y := fun u_14 => .ref u_14) (w2 := fun u_14 => ([(pr, .inr (4, [.ref bf, iv ((kCh bg bc [(0, 15), (1, 0), (1, 0)] 1 (ps, kT0)).2.1), .ref al]))] : va_W) ++ ([(bf, .inr (10, [.ref bv, iv 0, iv bm, iv bc]))] : va_W) ++ ([(bv, ia (E.2 3) bn bg)] : va_W) ++ ([(u_14, .inl (E.2 (3000 + 17), 2, .inl (fun zk : Nat => iI (if zk = 0 then (kCh bg bc [(0, 15), (1, 0), (1, 0)] 1 (ps, kT0)).2.2 1 else (kCh bg bc [(0, 15), (1, 0), (1, 0)] 1 (ps, kT0)).2.2 2))))] : va_W)) (w3 := fun u_15 => ([(pr, .inr (4, [.ref bf, iv ((kCh bg bc [(0, 15), (1, 0), (1, 0)] 1 (ps, kT0)).2.1), .ref al]))] : va_W) ++ ([(bf, .inr (10, [.ref bv, iv 0, iv bm, iv bc]))] : va_W) ++ ([(bv, ia (E.2 3) bn bg)] : va_W)) (vx_runV (As := []) (rest := []) ⟨hx, hb, hml, hown, hts⟩ (mt_X4_cutting l E pr ps al bf bm bc bv bg  (bn) (by exact hst) (by omega) (by omega) (by assumption) (by omega) _) (cwV 0 hts (lw_V q1866 q1868 qs37 q103 q1869) rfl rfl rfl (by decide +kernel) ⟨Nat.le_of_ble_eq_true rfl, Nat.le_of_ble_eq_true rfl⟩) (UX_V hg_12P hK (hg_12D) hE hS hg_12F (va_recv hK.1 hP (ci := 4) (q0 := 0) rfl rfl)) rfl rfl hl.1 rfl (lv_room (Nat.le_of_ble_eq_true rfl)) dX4_change_137 ⟨Nat.le_of_ble_eq_true rfl, Nat.le_of_ble_eq_true rfl⟩) hS hg_12F ?_ ?_ ?_ ?_
      · exact (fun u_14 _ hk9 hp9 hd9 => g_back hg_12 (hj_16 u_14) hP hD hg_12F hk9 hp9 hd9)
      · exact (fun u_15 _ hk9 hp9 hd9 => g_back hg_12 (hj_17 u_15) hP hD hg_12F hk9 hp9 hd9)
      · intro En ce q9 u_15 H locs hCx hP hD hS hxf hq9 hce hcv hcl
        have hCx : En = "ClockworkTailor$SyntaxError" ∧ (kCh bg bc [(0, 15), (1, 0), (1, 0)] 1 (ps, kT0)).1 = false := hCx
        have hP : va_P E.1 CL (([(pr, .inr (4, [.ref bf, iv ((kCh bg bc [(0, 15), (1, 0), (1, 0)] 1 (ps, kT0)).2.1), .ref al]))] : va_W) ++ ([(bf, .inr (10, [.ref bv, iv 0, iv bm, iv bc]))] : va_W) ++ ([(bv, ia (E.2 3) bn bg)] : va_W)) H := hP
        have hD : va_D A (([(pr, .inr (4, [.ref bf, iv ((kCh bg bc [(0, 15), (1, 0), (1, 0)] 1 (ps, kT0)).2.1), .ref al]))] : va_W) ++ ([(bf, .inr (10, [.ref bv, iv 0, iv bm, iv bc]))] : va_W) ++ ([(bv, ia (E.2 3) bn bg)] : va_W)) := hD
        have hK9 : kFl (kCm bg bc ps) ((kCh bg bc [(0, 15), (1, 0), (1, 0)] 1 (ps, kT0)).2.1) := by
          rw [hKC]
          exact ⟨hCx.2, rfl⟩
        have hw9 : ((kCh bg bc [(0, 15), (1, 0), (1, 0)] 1 (ps, kT0)).2.1 : Int) = (kCm bg bc ps).2.1 := hK9.2.symm
        have hxf : XF E q9 (some (8, [iv ((kCh bg bc [(0, 15), (1, 0), (1, 0)] 1 (ps, kT0)).2.1)])) H := hxf
        rw [hw9] at hP hD hxf
        exact n_out () (by exact ⟨hCx.1, hK9.1⟩) hP hD hS hxf (Nat.le_trans hz_13 hq9) hce hcv hcl (fun x hx9 => (htb x hx9).elim) hlocks (Nat.le_of_ble_eq_true rfl) (Nat.le_of_ble_eq_true rfl)
      · intro u_14 H locs hC hP hD hS
        have hu_14 : (kCh bg bc [(0, 15), (1, 0), (1, 0)] 1 (ps, kT0)).1 = true := hC
        have hP : va_P E.1 CL (([(pr, .inr (4, [.ref bf, iv ((kCh bg bc [(0, 15), (1, 0), (1, 0)] 1 (ps, kT0)).2.1), .ref al]))] : va_W) ++ ([(bf, .inr (10, [.ref bv, iv 0, iv bm, iv bc]))] : va_W) ++ ([(bv, ia (E.2 3) bn bg)] : va_W) ++ ([(u_14, .inl (E.2 (3000 + 17), 2, .inl (fun zk : Nat => iI (if zk = 0 then (kCh bg bc [(0, 15), (1, 0), (1, 0)] 1 (ps, kT0)).2.2 1 else (kCh bg bc [(0, 15), (1, 0), (1, 0)] 1 (ps, kT0)).2.2 2))))] : va_W)) H := hP
        have hD : va_D A (([(pr, .inr (4, [.ref bf, iv ((kCh bg bc [(0, 15), (1, 0), (1, 0)] 1 (ps, kT0)).2.1), .ref al]))] : va_W) ++ ([(bf, .inr (10, [.ref bv, iv 0, iv bm, iv bc]))] : va_W) ++ ([(bv, ia (E.2 3) bn bg)] : va_W) ++ ([(u_14, .inl (E.2 (3000 + 17), 2, .inl (fun zk : Nat => iI (if zk = 0 then (kCh bg bc [(0, 15), (1, 0), (1, 0)] 1 (ps, kT0)).2.2 1 else (kCh bg bc [(0, 15), (1, 0), (1, 0)] 1 (ps, kT0)).2.2 2))))] : va_W)) := hD
        have hK8 : (kCm bg bc ps).1 = true ∧ (kCm bg bc ps).2.1 = (kCh bg bc [(0, 15), (1, 0), (1, 0)] 1 (ps, kT0)).2.1 := by rw [hKC]; exact ⟨hu_14, rfl⟩
        rw [← hKC] at hP hD
        have hP : va_P E.1 CL (([(pr, .inr (4, [.ref bf, iv ((kCm bg bc ps).2.1), .ref al]))] : va_W) ++ ([(bf, .inr (10, [.ref bv, iv 0, iv bm, iv bc]))] : va_W) ++ ([(bv, ia (E.2 3) bn bg)] : va_W) ++ ([(u_14, .inl (E.2 (3000 + 17), 2, .inl (fun zk : Nat => iI (if zk = 0 then (kCm bg bc ps).2.2 1 else (kCm bg bc ps).2.2 2))))] : va_W)) H := hP
        have hD : va_D A (([(pr, .inr (4, [.ref bf, iv ((kCm bg bc ps).2.1), .ref al]))] : va_W) ++ ([(bf, .inr (10, [.ref bv, iv 0, iv bm, iv bc]))] : va_W) ++ ([(bv, ia (E.2 3) bn bg)] : va_W) ++ ([(u_14, .inl (E.2 (3000 + 17), 2, .inl (fun zk : Nat => iI (if zk = 0 then (kCm bg bc ps).2.2 1 else (kCm bg bc ps).2.2 2))))] : va_W)) := hD
        rw [show ([(u_14, .inl (E.2 (3000 + 17), 2, .inl (fun zk : Nat => iI (if zk = 0 then (kCm bg bc ps).2.2 1 else (kCm bg bc ps).2.2 2))))] : va_W) = (chg E u_14 (kKd bg bc ps) ((kCm bg bc ps).2.2 1) ((kCm bg bc ps).2.2 2) ((kCm bg bc ps).2.2 3)) from by rw [hkd]; rfl] at hP hD
        have hP : va_P E.1 CL (([(pr, .inr (4, [.ref bf, iv ((kCm bg bc ps).2.1), .ref al]))] : va_W) ++ ([(bf, .inr (10, [.ref bv, iv 0, iv bm, iv bc]))] : va_W) ++ ([(bv, ia (E.2 3) bn bg)] : va_W) ++ ((chg E u_14 (kKd bg bc ps) ((kCm bg bc ps).2.2 1) ((kCm bg bc ps).2.2 2) ((kCm bg bc ps).2.2 3)))) H := hP
        have hD : va_D A (([(pr, .inr (4, [.ref bf, iv ((kCm bg bc ps).2.1), .ref al]))] : va_W) ++ ([(bf, .inr (10, [.ref bv, iv 0, iv bm, iv bc]))] : va_W) ++ ([(bv, ia (E.2 3) bn bg)] : va_W) ++ ((chg E u_14 (kKd bg bc ps) ((kCm bg bc ps).2.2 1) ((kCm bg bc ps).2.2 2) ((kCm bg bc ps).2.2 3)))) := hD
        refine vx_ret ?_
        refine W.widen (k := 5) (n := 31) (Nat.le_of_ble_eq_true rfl) (Nat.le_of_ble_eq_true rfl) ?_
        exact W.aret hx hb hr (Or.inl ⟨_, rfl⟩) (Or.inr ⟨_, rfl⟩) (fun tt_ ht_ hW_ => ⟨⟨u_14, rfl, ⟨hK8.1, fun h9 => absurd (hkd.symm.trans h9) (by decide)⟩, by rw [ht_]; exact hP, hD⟩, hS.F ht_⟩) hS.2.2 dX4_change_140
    · refine lv_aload_n hx hb dX4_change_129 rfl (lv_at hl 0 rfl) ?_
      have hkd : kKd bg bc ps = 8 := by unfold kKd; (repeat' split) <;> omega
      have hKC : kCm bg bc ps = (kCh bg bc [(0, 14), (2, 1)] 1 (ps, kT0)) := by unfold kCm; rw [hkd]; rfl
      have hg_18 : gpick [[(pr, .inr (4, [.ref bf, iv ps, .ref al]))], [(bf, .inr (10, [.ref bv, iv 0, iv bm, iv bc]))], [(bv, ia (E.2 3) bn bg)]] ([[(pr, .inr (4, [.ref bf, iv ps, .ref al]))], [(bf, .inr (10, [.ref bv, iv 0, iv bm, iv bc]))], [(bv, ia (E.2 3) bn bg)]] ++ []) [0, 1, 2] := ⟨rfl, (show List.Perm [0, 1, 2] (List.range 3) from by decide)⟩
      have hg_18P : va_P E.1 CL (([(pr, .inr (4, [.ref bf, iv ps, .ref al]))] : va_W) ++ ([(bf, .inr (10, [.ref bv, iv 0, iv bm, iv bc]))] : va_W) ++ ([(bv, ia (E.2 3) bn bg)] : va_W)) s.heap := (g_out hg_18 hP hD).1
      have hg_18D : va_D A (([(pr, .inr (4, [.ref bf, iv ps, .ref al]))] : va_W) ++ ([(bf, .inr (10, [.ref bv, iv 0, iv bm, iv bc]))] : va_W) ++ ([(bv, ia (E.2 3) bn bg)] : va_W)) := (g_out hg_18 hP hD).2
      have hg_18F : ∀ q, va_A (([(pr, .inr (4, [.ref bf, iv ps, .ref al]))] : va_W) ++ ([(bf, .inr (10, [.ref bv, iv 0, iv bm, iv bc]))] : va_W) ++ ([(bv, ia (E.2 3) bn bg)] : va_W)) s.heap.size q → A q := g_free hg_18 hP hD hS hA
      have hz_19 : s.heap.size ≤ s.heap.size := hS.1
      have hj_22 : ∀ u_20 : Nat, gpick ([[(pr, .inr (4, [.ref bf, iv ((kCh bg bc [(0, 14), (2, 1)] 1 (ps, kT0)).2.1), .ref al]))], [(bf, .inr (10, [.ref bv, iv 0, iv bm, iv bc]))], [(bv, ia (E.2 3) bn bg)], [(u_20, .inl (E.2 (3000 + 16), 1, .inl (fun zk : Nat => iI ( (kCh bg bc [(0, 14), (2, 1)] 1 (ps, kT0)).2.2 1))))]] ++ []) [[(pr, .inr (4, [.ref bf, iv ((kCh bg bc [(0, 14), (2, 1)] 1 (ps, kT0)).2.1), .ref al]))], [(bf, .inr (10, [.ref bv, iv 0, iv bm, iv bc]))], [(bv, ia (E.2 3) bn bg)], [(u_20, .inl (E.2 (3000 + 16), 1, .inl (fun zk : Nat => iI ( (kCh bg bc [(0, 14), (2, 1)] 1 (ps, kT0)).2.2 1))))]] [0, 1, 2, 3] := fun u_20 => ⟨rfl, (show List.Perm [0, 1, 2, 3] (List.range 4) from by decide)⟩
      have hj_23 : ∀ u_21 : Unit, gpick ([[(pr, .inr (4, [.ref bf, iv ((kCh bg bc [(0, 14), (2, 1)] 1 (ps, kT0)).2.1), .ref al]))], [(bf, .inr (10, [.ref bv, iv 0, iv bm, iv bc]))], [(bv, ia (E.2 3) bn bg)]] ++ []) [[(pr, .inr (4, [.ref bf, iv ((kCh bg bc [(0, 14), (2, 1)] 1 (ps, kT0)).2.1), .ref al]))], [(bf, .inr (10, [.ref bv, iv 0, iv bm, iv bc]))], [(bv, ia (E.2 3) bn bg)]] [0, 1, 2] := fun u_21 => ⟨rfl, (show List.Perm [0, 1, 2] (List.range 3) from by decide)⟩
      refine n_txyB (y := fun u_20 => .ref u_20) (w2 := fun u_20 => ([(pr, .inr (4, [.ref bf, iv ((kCh bg bc [(0, 14), (2, 1)] 1 (ps, kT0)).2.1), .ref al]))] : va_W) ++ ([(bf, .inr (10, [.ref bv, iv 0, iv bm, iv bc]))] : va_W) ++ ([(bv, ia (E.2 3) bn bg)] : va_W) ++ ([(u_20, .inl (E.2 (3000 + 16), 1, .inl (fun zk : Nat => iI ( (kCh bg bc [(0, 14), (2, 1)] 1 (ps, kT0)).2.2 1))))] : va_W)) (w3 := fun u_21 => ([(pr, .inr (4, [.ref bf, iv ((kCh bg bc [(0, 14), (2, 1)] 1 (ps, kT0)).2.1), .ref al]))] : va_W) ++ ([(bf, .inr (10, [.ref bv, iv 0, iv bm, iv bc]))] : va_W) ++ ([(bv, ia (E.2 3) bn bg)] : va_W)) (vx_runV (As := []) (rest := []) ⟨hx, hb, hml, hown, hts⟩ (mt_X4_closing l E pr ps al bf bm bc bv bg  (bn) (by exact hst) (by omega) (by omega) (by assumption) (by omega) _) (cwV 0 hts (lw_V q1858 q1860 qs36 q103 q1861) rfl rfl rfl (by decide +kernel) ⟨Nat.le_of_ble_eq_true rfl, Nat.le_of_ble_eq_true rfl⟩) (UX_V hg_18P hK (hg_18D) hE hS hg_18F (va_recv hK.1 hP (ci := 4) (q0 := 0) rfl rfl)) rfl rfl hl.1 rfl (lv_room (Nat.le_of_ble_eq_true rfl)) dX4_change_130 ⟨Nat.le_of_ble_eq_true rfl, Nat.le_of_ble_eq_true rfl⟩) hS hg_18F ?_ ?_ ?_ ?_
      · exact (fun u_20 _ hk9 hp9 hd9 => g_back hg_18 (hj_22 u_20) hP hD hg_18F hk9 hp9 hd9)
      · exact (fun u_21 _ hk9 hp9 hd9 => g_back hg_18 (hj_23 u_21) hP hD hg_18F hk9 hp9 hd9)
      · intro En ce q9 u_21 H locs hCx hP hD hS hxf hq9 hce hcv hcl
        have hCx : En = "ClockworkTailor$SyntaxError" ∧ (kCh bg bc [(0, 14), (2, 1)] 1 (ps, kT0)).1 = false := hCx
        have hP : va_P E.1 CL (([(pr, .inr (4, [.ref bf, iv ((kCh bg bc [(0, 14), (2, 1)] 1 (ps, kT0)).2.1), .ref al]))] : va_W) ++ ([(bf, .inr (10, [.ref bv, iv 0, iv bm, iv bc]))] : va_W) ++ ([(bv, ia (E.2 3) bn bg)] : va_W)) H := hP
        have hD : va_D A (([(pr, .inr (4, [.ref bf, iv ((kCh bg bc [(0, 14), (2, 1)] 1 (ps, kT0)).2.1), .ref al]))] : va_W) ++ ([(bf, .inr (10, [.ref bv, iv 0, iv bm, iv bc]))] : va_W) ++ ([(bv, ia (E.2 3) bn bg)] : va_W)) := hD
        have hK9 : kFl (kCm bg bc ps) ((kCh bg bc [(0, 14), (2, 1)] 1 (ps, kT0)).2.1) := by
          rw [hKC]
          exact ⟨hCx.2, rfl⟩
        have hw9 : ((kCh bg bc [(0, 14), (2, 1)] 1 (ps, kT0)).2.1 : Int) = (kCm bg bc ps).2.1 := hK9.2.symm
        have hxf : XF E q9 (some (8, [iv ((kCh bg bc [(0, 14), (2, 1)] 1 (ps, kT0)).2.1)])) H := hxf
        rw [hw9] at hP hD hxf
        exact n_out () (by exact ⟨hCx.1, hK9.1⟩) hP hD hS hxf (Nat.le_trans hz_19 hq9) hce hcv hcl (fun x hx9 => (htb x hx9).elim) hlocks (Nat.le_of_ble_eq_true rfl) (Nat.le_of_ble_eq_true rfl)
      · intro u_20 H locs hC hP hD hS
        have hu_20 : (kCh bg bc [(0, 14), (2, 1)] 1 (ps, kT0)).1 = true := hC
        have hP : va_P E.1 CL (([(pr, .inr (4, [.ref bf, iv ((kCh bg bc [(0, 14), (2, 1)] 1 (ps, kT0)).2.1), .ref al]))] : va_W) ++ ([(bf, .inr (10, [.ref bv, iv 0, iv bm, iv bc]))] : va_W) ++ ([(bv, ia (E.2 3) bn bg)] : va_W) ++ ([(u_20, .inl (E.2 (3000 + 16), 1, .inl (fun zk : Nat => iI ( (kCh bg bc [(0, 14), (2, 1)] 1 (ps, kT0)).2.2 1))))] : va_W)) H := hP
        have hD : va_D A (([(pr, .inr (4, [.ref bf, iv ((kCh bg bc [(0, 14), (2, 1)] 1 (ps, kT0)).2.1), .ref al]))] : va_W) ++ ([(bf, .inr (10, [.ref bv, iv 0, iv bm, iv bc]))] : va_W) ++ ([(bv, ia (E.2 3) bn bg)] : va_W) ++ ([(u_20, .inl (E.2 (3000 + 16), 1, .inl (fun zk : Nat => iI ( (kCh bg bc [(0, 14), (2, 1)] 1 (ps, kT0)).2.2 1))))] : va_W)) := hD
        have hK8 : (kCm bg bc ps).1 = true ∧ (kCm bg bc ps).2.1 = (kCh bg bc [(0, 14), (2, 1)] 1 (ps, kT0)).2.1 := by rw [hKC]; exact ⟨hu_20, rfl⟩
        rw [← hKC] at hP hD
        have hP : va_P E.1 CL (([(pr, .inr (4, [.ref bf, iv ((kCm bg bc ps).2.1), .ref al]))] : va_W) ++ ([(bf, .inr (10, [.ref bv, iv 0, iv bm, iv bc]))] : va_W) ++ ([(bv, ia (E.2 3) bn bg)] : va_W) ++ ([(u_20, .inl (E.2 (3000 + 16), 1, .inl (fun zk : Nat => iI ( (kCm bg bc ps).2.2 1))))] : va_W)) H := hP
        have hD : va_D A (([(pr, .inr (4, [.ref bf, iv ((kCm bg bc ps).2.1), .ref al]))] : va_W) ++ ([(bf, .inr (10, [.ref bv, iv 0, iv bm, iv bc]))] : va_W) ++ ([(bv, ia (E.2 3) bn bg)] : va_W) ++ ([(u_20, .inl (E.2 (3000 + 16), 1, .inl (fun zk : Nat => iI ( (kCm bg bc ps).2.2 1))))] : va_W)) := hD
        rw [show ([(u_20, .inl (E.2 (3000 + 16), 1, .inl (fun zk : Nat => iI ( (kCm bg bc ps).2.2 1))))] : va_W) = (chg E u_20 (kKd bg bc ps) ((kCm bg bc ps).2.2 1) ((kCm bg bc ps).2.2 2) ((kCm bg bc ps).2.2 3)) from by rw [hkd]; rfl] at hP hD
        have hP : va_P E.1 CL (([(pr, .inr (4, [.ref bf, iv ((kCm bg bc ps).2.1), .ref al]))] : va_W) ++ ([(bf, .inr (10, [.ref bv, iv 0, iv bm, iv bc]))] : va_W) ++ ([(bv, ia (E.2 3) bn bg)] : va_W) ++ ((chg E u_20 (kKd bg bc ps) ((kCm bg bc ps).2.2 1) ((kCm bg bc ps).2.2 2) ((kCm bg bc ps).2.2 3)))) H := hP
        have hD : va_D A (([(pr, .inr (4, [.ref bf, iv ((kCm bg bc ps).2.1), .ref al]))] : va_W) ++ ([(bf, .inr (10, [.ref bv, iv 0, iv bm, iv bc]))] : va_W) ++ ([(bv, ia (E.2 3) bn bg)] : va_W) ++ ((chg E u_20 (kKd bg bc ps) ((kCm bg bc ps).2.2 1) ((kCm bg bc ps).2.2 2) ((kCm bg bc ps).2.2 3)))) := hD
        refine lv_goto (tgt := 140) hx hb dX4_change_133 (by decide) ?_
        refine vx_ret ?_
        refine W.widen (k := 5) (n := 31) (Nat.le_of_ble_eq_true rfl) (Nat.le_of_ble_eq_true rfl) ?_
        exact W.aret hx hb hr (Or.inl ⟨_, rfl⟩) (Or.inr ⟨_, rfl⟩) (fun tt_ ht_ hW_ => ⟨⟨u_20, rfl, ⟨hK8.1, fun h9 => absurd (hkd.symm.trans h9) (by decide)⟩, by rw [ht_]; exact hP, hD⟩, hS.F ht_⟩) hS.2.2 dX4_change_140
  by_cases c_24 : p_here bg bc ps = 100
  · refine n_tabIn (off := 93) (tgt := 97) hx hb dX4_change_4 c_24 (by decide) (by decide) (by decide) (by decide) ?_
    refine lv_aload_n hx hb dX4_change_97 rfl (lv_at hl 0 rfl) ?_
    have hkd : kKd bg bc ps = 1 := by unfold kKd; (repeat' split) <;> omega
    have hKC : kCm bg bc ps = (kCh bg bc [(0, 11), (1, 0)] 1 (ps, kT0)) := by unfold kCm; rw [hkd]; rfl
    have hg_25 : gpick [[(pr, .inr (4, [.ref bf, iv ps, .ref al]))], [(bf, .inr (10, [.ref bv, iv 0, iv bm, iv bc]))], [(bv, ia (E.2 3) bn bg)]] ([[(pr, .inr (4, [.ref bf, iv ps, .ref al]))], [(bf, .inr (10, [.ref bv, iv 0, iv bm, iv bc]))], [(bv, ia (E.2 3) bn bg)]] ++ []) [0, 1, 2] := ⟨rfl, (show List.Perm [0, 1, 2] (List.range 3) from by decide)⟩
    have hg_25P : va_P E.1 CL (([(pr, .inr (4, [.ref bf, iv ps, .ref al]))] : va_W) ++ ([(bf, .inr (10, [.ref bv, iv 0, iv bm, iv bc]))] : va_W) ++ ([(bv, ia (E.2 3) bn bg)] : va_W)) s.heap := (g_out hg_25 hP hD).1
    have hg_25D : va_D A (([(pr, .inr (4, [.ref bf, iv ps, .ref al]))] : va_W) ++ ([(bf, .inr (10, [.ref bv, iv 0, iv bm, iv bc]))] : va_W) ++ ([(bv, ia (E.2 3) bn bg)] : va_W)) := (g_out hg_25 hP hD).2
    have hg_25F : ∀ q, va_A (([(pr, .inr (4, [.ref bf, iv ps, .ref al]))] : va_W) ++ ([(bf, .inr (10, [.ref bv, iv 0, iv bm, iv bc]))] : va_W) ++ ([(bv, ia (E.2 3) bn bg)] : va_W)) s.heap.size q → A q := g_free hg_25 hP hD hS hA
    have hz_26 : s.heap.size ≤ s.heap.size := hS.1
    have hj_29 : ∀ u_27 : Nat, gpick ([[(pr, .inr (4, [.ref bf, iv ((kCh bg bc [(0, 11), (1, 0)] 1 (ps, kT0)).2.1), .ref al]))], [(bf, .inr (10, [.ref bv, iv 0, iv bm, iv bc]))], [(bv, ia (E.2 3) bn bg)], [(u_27, .inl (E.2 (3000 + 14), 1, .inl (fun zk : Nat => iI ( (kCh bg bc [(0, 11), (1, 0)] 1 (ps, kT0)).2.2 1))))]] ++ []) [[(pr, .inr (4, [.ref bf, iv ((kCh bg bc [(0, 11), (1, 0)] 1 (ps, kT0)).2.1), .ref al]))], [(bf, .inr (10, [.ref bv, iv 0, iv bm, iv bc]))], [(bv, ia (E.2 3) bn bg)], [(u_27, .inl (E.2 (3000 + 14), 1, .inl (fun zk : Nat => iI ( (kCh bg bc [(0, 11), (1, 0)] 1 (ps, kT0)).2.2 1))))]] [0, 1, 2, 3] := fun u_27 => ⟨rfl, (show List.Perm [0, 1, 2, 3] (List.range 4) from by decide)⟩
    have hj_30 : ∀ u_28 : Unit, gpick ([[(pr, .inr (4, [.ref bf, iv ((kCh bg bc [(0, 11), (1, 0)] 1 (ps, kT0)).2.1), .ref al]))], [(bf, .inr (10, [.ref bv, iv 0, iv bm, iv bc]))], [(bv, ia (E.2 3) bn bg)]] ++ []) [[(pr, .inr (4, [.ref bf, iv ((kCh bg bc [(0, 11), (1, 0)] 1 (ps, kT0)).2.1), .ref al]))], [(bf, .inr (10, [.ref bv, iv 0, iv bm, iv bc]))], [(bv, ia (E.2 3) bn bg)]] [0, 1, 2] := fun u_28 => ⟨rfl, (show List.Perm [0, 1, 2] (List.range 3) from by decide)⟩
    refine n_txyB (y := fun u_27 => .ref u_27) (w2 := fun u_27 => ([(pr, .inr (4, [.ref bf, iv ((kCh bg bc [(0, 11), (1, 0)] 1 (ps, kT0)).2.1), .ref al]))] : va_W) ++ ([(bf, .inr (10, [.ref bv, iv 0, iv bm, iv bc]))] : va_W) ++ ([(bv, ia (E.2 3) bn bg)] : va_W) ++ ([(u_27, .inl (E.2 (3000 + 14), 1, .inl (fun zk : Nat => iI ( (kCh bg bc [(0, 11), (1, 0)] 1 (ps, kT0)).2.2 1))))] : va_W)) (w3 := fun u_28 => ([(pr, .inr (4, [.ref bf, iv ((kCh bg bc [(0, 11), (1, 0)] 1 (ps, kT0)).2.1), .ref al]))] : va_W) ++ ([(bf, .inr (10, [.ref bv, iv 0, iv bm, iv bc]))] : va_W) ++ ([(bv, ia (E.2 3) bn bg)] : va_W)) (vx_runV (As := []) (rest := []) ⟨hx, hb, hml, hown, hts⟩ (mt_X4_dropping l E pr ps al bf bm bc bv bg  (bn) (by exact hst) (by omega) (by omega) (by assumption) (by omega) _) (cwV 0 hts (lw_V q1841 q1843 qs34 q103 q1844) rfl rfl rfl (by decide +kernel) ⟨Nat.le_of_ble_eq_true rfl, Nat.le_of_ble_eq_true rfl⟩) (UX_V hg_25P hK (hg_25D) hE hS hg_25F (va_recv hK.1 hP (ci := 4) (q0 := 0) rfl rfl)) rfl rfl hl.1 rfl (lv_room (Nat.le_of_ble_eq_true rfl)) dX4_change_98 ⟨Nat.le_of_ble_eq_true rfl, Nat.le_of_ble_eq_true rfl⟩) hS hg_25F ?_ ?_ ?_ ?_
    · exact (fun u_27 _ hk9 hp9 hd9 => g_back hg_25 (hj_29 u_27) hP hD hg_25F hk9 hp9 hd9)
    · exact (fun u_28 _ hk9 hp9 hd9 => g_back hg_25 (hj_30 u_28) hP hD hg_25F hk9 hp9 hd9)
    · intro En ce q9 u_28 H locs hCx hP hD hS hxf hq9 hce hcv hcl
      have hCx : En = "ClockworkTailor$SyntaxError" ∧ (kCh bg bc [(0, 11), (1, 0)] 1 (ps, kT0)).1 = false := hCx
      have hP : va_P E.1 CL (([(pr, .inr (4, [.ref bf, iv ((kCh bg bc [(0, 11), (1, 0)] 1 (ps, kT0)).2.1), .ref al]))] : va_W) ++ ([(bf, .inr (10, [.ref bv, iv 0, iv bm, iv bc]))] : va_W) ++ ([(bv, ia (E.2 3) bn bg)] : va_W)) H := hP
      have hD : va_D A (([(pr, .inr (4, [.ref bf, iv ((kCh bg bc [(0, 11), (1, 0)] 1 (ps, kT0)).2.1), .ref al]))] : va_W) ++ ([(bf, .inr (10, [.ref bv, iv 0, iv bm, iv bc]))] : va_W) ++ ([(bv, ia (E.2 3) bn bg)] : va_W)) := hD
      have hK9 : kFl (kCm bg bc ps) ((kCh bg bc [(0, 11), (1, 0)] 1 (ps, kT0)).2.1) := by
        rw [hKC]
        exact ⟨hCx.2, rfl⟩
      have hw9 : ((kCh bg bc [(0, 11), (1, 0)] 1 (ps, kT0)).2.1 : Int) = (kCm bg bc ps).2.1 := hK9.2.symm
      have hxf : XF E q9 (some (8, [iv ((kCh bg bc [(0, 11), (1, 0)] 1 (ps, kT0)).2.1)])) H := hxf
      rw [hw9] at hP hD hxf
      exact n_out () (by exact ⟨hCx.1, hK9.1⟩) hP hD hS hxf (Nat.le_trans hz_26 hq9) hce hcv hcl (fun x hx9 => (htb x hx9).elim) hlocks (Nat.le_of_ble_eq_true rfl) (Nat.le_of_ble_eq_true rfl)
    · intro u_27 H locs hC hP hD hS
      have hu_27 : (kCh bg bc [(0, 11), (1, 0)] 1 (ps, kT0)).1 = true := hC
      have hP : va_P E.1 CL (([(pr, .inr (4, [.ref bf, iv ((kCh bg bc [(0, 11), (1, 0)] 1 (ps, kT0)).2.1), .ref al]))] : va_W) ++ ([(bf, .inr (10, [.ref bv, iv 0, iv bm, iv bc]))] : va_W) ++ ([(bv, ia (E.2 3) bn bg)] : va_W) ++ ([(u_27, .inl (E.2 (3000 + 14), 1, .inl (fun zk : Nat => iI ( (kCh bg bc [(0, 11), (1, 0)] 1 (ps, kT0)).2.2 1))))] : va_W)) H := hP
      have hD : va_D A (([(pr, .inr (4, [.ref bf, iv ((kCh bg bc [(0, 11), (1, 0)] 1 (ps, kT0)).2.1), .ref al]))] : va_W) ++ ([(bf, .inr (10, [.ref bv, iv 0, iv bm, iv bc]))] : va_W) ++ ([(bv, ia (E.2 3) bn bg)] : va_W) ++ ([(u_27, .inl (E.2 (3000 + 14), 1, .inl (fun zk : Nat => iI ( (kCh bg bc [(0, 11), (1, 0)] 1 (ps, kT0)).2.2 1))))] : va_W)) := hD
      have hK8 : (kCm bg bc ps).1 = true ∧ (kCm bg bc ps).2.1 = (kCh bg bc [(0, 11), (1, 0)] 1 (ps, kT0)).2.1 := by rw [hKC]; exact ⟨hu_27, rfl⟩
      rw [← hKC] at hP hD
      have hP : va_P E.1 CL (([(pr, .inr (4, [.ref bf, iv ((kCm bg bc ps).2.1), .ref al]))] : va_W) ++ ([(bf, .inr (10, [.ref bv, iv 0, iv bm, iv bc]))] : va_W) ++ ([(bv, ia (E.2 3) bn bg)] : va_W) ++ ([(u_27, .inl (E.2 (3000 + 14), 1, .inl (fun zk : Nat => iI ( (kCm bg bc ps).2.2 1))))] : va_W)) H := hP
      have hD : va_D A (([(pr, .inr (4, [.ref bf, iv ((kCm bg bc ps).2.1), .ref al]))] : va_W) ++ ([(bf, .inr (10, [.ref bv, iv 0, iv bm, iv bc]))] : va_W) ++ ([(bv, ia (E.2 3) bn bg)] : va_W) ++ ([(u_27, .inl (E.2 (3000 + 14), 1, .inl (fun zk : Nat => iI ( (kCm bg bc ps).2.2 1))))] : va_W)) := hD
      rw [show ([(u_27, .inl (E.2 (3000 + 14), 1, .inl (fun zk : Nat => iI ( (kCm bg bc ps).2.2 1))))] : va_W) = (chg E u_27 (kKd bg bc ps) ((kCm bg bc ps).2.2 1) ((kCm bg bc ps).2.2 2) ((kCm bg bc ps).2.2 3)) from by rw [hkd]; rfl] at hP hD
      have hP : va_P E.1 CL (([(pr, .inr (4, [.ref bf, iv ((kCm bg bc ps).2.1), .ref al]))] : va_W) ++ ([(bf, .inr (10, [.ref bv, iv 0, iv bm, iv bc]))] : va_W) ++ ([(bv, ia (E.2 3) bn bg)] : va_W) ++ ((chg E u_27 (kKd bg bc ps) ((kCm bg bc ps).2.2 1) ((kCm bg bc ps).2.2 2) ((kCm bg bc ps).2.2 3)))) H := hP
      have hD : va_D A (([(pr, .inr (4, [.ref bf, iv ((kCm bg bc ps).2.1), .ref al]))] : va_W) ++ ([(bf, .inr (10, [.ref bv, iv 0, iv bm, iv bc]))] : va_W) ++ ([(bv, ia (E.2 3) bn bg)] : va_W) ++ ((chg E u_27 (kKd bg bc ps) ((kCm bg bc ps).2.2 1) ((kCm bg bc ps).2.2 2) ((kCm bg bc ps).2.2 3)))) := hD
      refine vx_ret ?_
      refine W.widen (k := 5) (n := 31) (Nat.le_of_ble_eq_true rfl) (Nat.le_of_ble_eq_true rfl) ?_
      exact W.aret hx hb hr (Or.inl ⟨_, rfl⟩) (Or.inr ⟨_, rfl⟩) (fun tt_ ht_ hW_ => ⟨⟨u_27, rfl, ⟨hK8.1, fun h9 => absurd (hkd.symm.trans h9) (by decide)⟩, by rw [ht_]; exact hP, hD⟩, hS.F ht_⟩) hS.2.2 dX4_change_101
  by_cases c_31 : p_here bg bc ps = 108
  · refine n_tabIn (off := 104) (tgt := 108) hx hb dX4_change_4 c_31 (by decide) (by decide) (by decide) (by decide) ?_
    refine lv_aload_n hx hb dX4_change_108 rfl (lv_at hl 0 rfl) ?_
    refine lv_iconst (v := iI 1) hx hb dX4_change_109 rfl ?_
    have hkd : kKd bg bc ps = 3 := by unfold kKd; (repeat' split) <;> omega
    have hKC : kCm bg bc ps = (kCh bg bc [(0, 12), (1, 0), (1, 0)] 1 (ps, kT0)) := by unfold kCm; rw [hkd]; rfl
    have hg_32 : gpick [[(pr, .inr (4, [.ref bf, iv ps, .ref al]))], [(bf, .inr (10, [.ref bv, iv 0, iv bm, iv bc]))], [(bv, ia (E.2 3) bn bg)]] ([[(pr, .inr (4, [.ref bf, iv ps, .ref al]))], [(bf, .inr (10, [.ref bv, iv 0, iv bm, iv bc]))], [(bv, ia (E.2 3) bn bg)]] ++ []) [0, 1, 2] := ⟨rfl, (show List.Perm [0, 1, 2] (List.range 3) from by decide)⟩
    have hg_32P : va_P E.1 CL (([(pr, .inr (4, [.ref bf, iv ps, .ref al]))] : va_W) ++ ([(bf, .inr (10, [.ref bv, iv 0, iv bm, iv bc]))] : va_W) ++ ([(bv, ia (E.2 3) bn bg)] : va_W)) s.heap := (g_out hg_32 hP hD).1
    have hg_32D : va_D A (([(pr, .inr (4, [.ref bf, iv ps, .ref al]))] : va_W) ++ ([(bf, .inr (10, [.ref bv, iv 0, iv bm, iv bc]))] : va_W) ++ ([(bv, ia (E.2 3) bn bg)] : va_W)) := (g_out hg_32 hP hD).2
    have hg_32F : ∀ q, va_A (([(pr, .inr (4, [.ref bf, iv ps, .ref al]))] : va_W) ++ ([(bf, .inr (10, [.ref bv, iv 0, iv bm, iv bc]))] : va_W) ++ ([(bv, ia (E.2 3) bn bg)] : va_W)) s.heap.size q → A q := g_free hg_32 hP hD hS hA
    have hz_33 : s.heap.size ≤ s.heap.size := hS.1
    have hj_36 : ∀ u_34 : Nat, gpick ([[(pr, .inr (4, [.ref bf, iv ((kCh bg bc [(0, 12), (1, 0), (1, 0)] 1 (ps, kT0)).2.1), .ref al]))], [(bf, .inr (10, [.ref bv, iv 0, iv bm, iv bc]))], [(bv, ia (E.2 3) bn bg)], [(u_34, .inl (E.2 (3000 + 15), 3, .inl (fun zk : Nat => iI (if zk = 0 then (kCh bg bc [(0, 12), (1, 0), (1, 0)] 1 (ps, kT0)).2.2 1 else if zk = 1 then (kCh bg bc [(0, 12), (1, 0), (1, 0)] 1 (ps, kT0)).2.2 2 else 1))))]] ++ []) [[(pr, .inr (4, [.ref bf, iv ((kCh bg bc [(0, 12), (1, 0), (1, 0)] 1 (ps, kT0)).2.1), .ref al]))], [(bf, .inr (10, [.ref bv, iv 0, iv bm, iv bc]))], [(bv, ia (E.2 3) bn bg)], [(u_34, .inl (E.2 (3000 + 15), 3, .inl (fun zk : Nat => iI (if zk = 0 then (kCh bg bc [(0, 12), (1, 0), (1, 0)] 1 (ps, kT0)).2.2 1 else if zk = 1 then (kCh bg bc [(0, 12), (1, 0), (1, 0)] 1 (ps, kT0)).2.2 2 else 1))))]] [0, 1, 2, 3] := fun u_34 => ⟨rfl, (show List.Perm [0, 1, 2, 3] (List.range 4) from by decide)⟩
    have hj_37 : ∀ u_35 : Unit, gpick ([[(pr, .inr (4, [.ref bf, iv ((kCh bg bc [(0, 12), (1, 0), (1, 0)] 1 (ps, kT0)).2.1), .ref al]))], [(bf, .inr (10, [.ref bv, iv 0, iv bm, iv bc]))], [(bv, ia (E.2 3) bn bg)]] ++ []) [[(pr, .inr (4, [.ref bf, iv ((kCh bg bc [(0, 12), (1, 0), (1, 0)] 1 (ps, kT0)).2.1), .ref al]))], [(bf, .inr (10, [.ref bv, iv 0, iv bm, iv bc]))], [(bv, ia (E.2 3) bn bg)]] [0, 1, 2] := fun u_35 => ⟨rfl, (show List.Perm [0, 1, 2] (List.range 3) from by decide)⟩
    refine n_txyB (y := fun u_34 => .ref u_34) (w2 := fun u_34 => ([(pr, .inr (4, [.ref bf, iv ((kCh bg bc [(0, 12), (1, 0), (1, 0)] 1 (ps, kT0)).2.1), .ref al]))] : va_W) ++ ([(bf, .inr (10, [.ref bv, iv 0, iv bm, iv bc]))] : va_W) ++ ([(bv, ia (E.2 3) bn bg)] : va_W) ++ ([(u_34, .inl (E.2 (3000 + 15), 3, .inl (fun zk : Nat => iI (if zk = 0 then (kCh bg bc [(0, 12), (1, 0), (1, 0)] 1 (ps, kT0)).2.2 1 else if zk = 1 then (kCh bg bc [(0, 12), (1, 0), (1, 0)] 1 (ps, kT0)).2.2 2 else 1))))] : va_W)) (w3 := fun u_35 => ([(pr, .inr (4, [.ref bf, iv ((kCh bg bc [(0, 12), (1, 0), (1, 0)] 1 (ps, kT0)).2.1), .ref al]))] : va_W) ++ ([(bf, .inr (10, [.ref bv, iv 0, iv bm, iv bc]))] : va_W) ++ ([(bv, ia (E.2 3) bn bg)] : va_W)) (vx_runV (As := [iv 1]) (rest := []) ⟨hx, hb, hml, hown, hts⟩ (mt_X4_needing_1 l E pr ps al bf bm bc bv bg  (bn) (by exact hst) (by omega) (by omega) (by assumption) (by omega) _) (cwV 1 hts (lw_V q1849 q1851 qs35 q103 q1852) rfl rfl rfl (by decide +kernel) ⟨Nat.le_of_ble_eq_true rfl, Nat.le_of_ble_eq_true rfl⟩) (UX_V hg_32P hK (hg_32D) hE hS hg_32F (va_recv hK.1 hP (ci := 4) (q0 := 0) rfl rfl)) rfl rfl hl.1 rfl (lv_room (Nat.le_of_ble_eq_true rfl)) dX4_change_110 ⟨Nat.le_of_ble_eq_true rfl, Nat.le_of_ble_eq_true rfl⟩) hS hg_32F ?_ ?_ ?_ ?_
    · exact (fun u_34 _ hk9 hp9 hd9 => g_back hg_32 (hj_36 u_34) hP hD hg_32F hk9 hp9 hd9)
    · exact (fun u_35 _ hk9 hp9 hd9 => g_back hg_32 (hj_37 u_35) hP hD hg_32F hk9 hp9 hd9)
    · intro En ce q9 u_35 H locs hCx hP hD hS hxf hq9 hce hcv hcl
      have hCx : En = "ClockworkTailor$SyntaxError" ∧ (kCh bg bc [(0, 12), (1, 0), (1, 0)] 1 (ps, kT0)).1 = false := hCx
      have hP : va_P E.1 CL (([(pr, .inr (4, [.ref bf, iv ((kCh bg bc [(0, 12), (1, 0), (1, 0)] 1 (ps, kT0)).2.1), .ref al]))] : va_W) ++ ([(bf, .inr (10, [.ref bv, iv 0, iv bm, iv bc]))] : va_W) ++ ([(bv, ia (E.2 3) bn bg)] : va_W)) H := hP
      have hD : va_D A (([(pr, .inr (4, [.ref bf, iv ((kCh bg bc [(0, 12), (1, 0), (1, 0)] 1 (ps, kT0)).2.1), .ref al]))] : va_W) ++ ([(bf, .inr (10, [.ref bv, iv 0, iv bm, iv bc]))] : va_W) ++ ([(bv, ia (E.2 3) bn bg)] : va_W)) := hD
      have hK9 : kFl (kCm bg bc ps) ((kCh bg bc [(0, 12), (1, 0), (1, 0)] 1 (ps, kT0)).2.1) := by
        rw [hKC]
        exact ⟨hCx.2, rfl⟩
      have hw9 : ((kCh bg bc [(0, 12), (1, 0), (1, 0)] 1 (ps, kT0)).2.1 : Int) = (kCm bg bc ps).2.1 := hK9.2.symm
      have hxf : XF E q9 (some (8, [iv ((kCh bg bc [(0, 12), (1, 0), (1, 0)] 1 (ps, kT0)).2.1)])) H := hxf
      rw [hw9] at hP hD hxf
      exact n_out () (by exact ⟨hCx.1, hK9.1⟩) hP hD hS hxf (Nat.le_trans hz_33 hq9) hce hcv hcl (fun x hx9 => (htb x hx9).elim) hlocks (Nat.le_of_ble_eq_true rfl) (Nat.le_of_ble_eq_true rfl)
    · intro u_34 H locs hC hP hD hS
      have hu_34 : (kCh bg bc [(0, 12), (1, 0), (1, 0)] 1 (ps, kT0)).1 = true := hC
      have hP : va_P E.1 CL (([(pr, .inr (4, [.ref bf, iv ((kCh bg bc [(0, 12), (1, 0), (1, 0)] 1 (ps, kT0)).2.1), .ref al]))] : va_W) ++ ([(bf, .inr (10, [.ref bv, iv 0, iv bm, iv bc]))] : va_W) ++ ([(bv, ia (E.2 3) bn bg)] : va_W) ++ ([(u_34, .inl (E.2 (3000 + 15), 3, .inl (fun zk : Nat => iI (if zk = 0 then (kCh bg bc [(0, 12), (1, 0), (1, 0)] 1 (ps, kT0)).2.2 1 else if zk = 1 then (kCh bg bc [(0, 12), (1, 0), (1, 0)] 1 (ps, kT0)).2.2 2 else 1))))] : va_W)) H := hP
      have hD : va_D A (([(pr, .inr (4, [.ref bf, iv ((kCh bg bc [(0, 12), (1, 0), (1, 0)] 1 (ps, kT0)).2.1), .ref al]))] : va_W) ++ ([(bf, .inr (10, [.ref bv, iv 0, iv bm, iv bc]))] : va_W) ++ ([(bv, ia (E.2 3) bn bg)] : va_W) ++ ([(u_34, .inl (E.2 (3000 + 15), 3, .inl (fun zk : Nat => iI (if zk = 0 then (kCh bg bc [(0, 12), (1, 0), (1, 0)] 1 (ps, kT0)).2.2 1 else if zk = 1 then (kCh bg bc [(0, 12), (1, 0), (1, 0)] 1 (ps, kT0)).2.2 2 else 1))))] : va_W)) := hD
      have hK8 : (kCm bg bc ps).1 = true ∧ (kCm bg bc ps).2.1 = (kCh bg bc [(0, 12), (1, 0), (1, 0)] 1 (ps, kT0)).2.1 := by rw [hKC]; exact ⟨hu_34, rfl⟩
      rw [← hKC] at hP hD
      have hP : va_P E.1 CL (([(pr, .inr (4, [.ref bf, iv ((kCm bg bc ps).2.1), .ref al]))] : va_W) ++ ([(bf, .inr (10, [.ref bv, iv 0, iv bm, iv bc]))] : va_W) ++ ([(bv, ia (E.2 3) bn bg)] : va_W) ++ ([(u_34, .inl (E.2 (3000 + 15), 3, .inl (fun zk : Nat => iI (if zk = 0 then (kCm bg bc ps).2.2 1 else if zk = 1 then (kCm bg bc ps).2.2 2 else 1))))] : va_W)) H := hP
      have hD : va_D A (([(pr, .inr (4, [.ref bf, iv ((kCm bg bc ps).2.1), .ref al]))] : va_W) ++ ([(bf, .inr (10, [.ref bv, iv 0, iv bm, iv bc]))] : va_W) ++ ([(bv, ia (E.2 3) bn bg)] : va_W) ++ ([(u_34, .inl (E.2 (3000 + 15), 3, .inl (fun zk : Nat => iI (if zk = 0 then (kCm bg bc ps).2.2 1 else if zk = 1 then (kCm bg bc ps).2.2 2 else 1))))] : va_W)) := hD
      rw [show ([(u_34, .inl (E.2 (3000 + 15), 3, .inl (fun zk : Nat => iI (if zk = 0 then (kCm bg bc ps).2.2 1 else if zk = 1 then (kCm bg bc ps).2.2 2 else 1))))] : va_W) = (chg E u_34 (kKd bg bc ps) ((kCm bg bc ps).2.2 1) ((kCm bg bc ps).2.2 2) ((kCm bg bc ps).2.2 3)) from by rw [hkd]; rfl] at hP hD
      have hP : va_P E.1 CL (([(pr, .inr (4, [.ref bf, iv ((kCm bg bc ps).2.1), .ref al]))] : va_W) ++ ([(bf, .inr (10, [.ref bv, iv 0, iv bm, iv bc]))] : va_W) ++ ([(bv, ia (E.2 3) bn bg)] : va_W) ++ ((chg E u_34 (kKd bg bc ps) ((kCm bg bc ps).2.2 1) ((kCm bg bc ps).2.2 2) ((kCm bg bc ps).2.2 3)))) H := hP
      have hD : va_D A (([(pr, .inr (4, [.ref bf, iv ((kCm bg bc ps).2.1), .ref al]))] : va_W) ++ ([(bf, .inr (10, [.ref bv, iv 0, iv bm, iv bc]))] : va_W) ++ ([(bv, ia (E.2 3) bn bg)] : va_W) ++ ((chg E u_34 (kKd bg bc ps) ((kCm bg bc ps).2.2 1) ((kCm bg bc ps).2.2 2) ((kCm bg bc ps).2.2 3)))) := hD
      refine vx_ret ?_
      refine W.widen (k := 5) (n := 31) (Nat.le_of_ble_eq_true rfl) (Nat.le_of_ble_eq_true rfl) ?_
      exact W.aret hx hb hr (Or.inl ⟨_, rfl⟩) (Or.inr ⟨_, rfl⟩) (fun tt_ ht_ hW_ => ⟨⟨u_34, rfl, ⟨hK8.1, fun h9 => absurd (hkd.symm.trans h9) (by decide)⟩, by rw [ht_]; exact hP, hD⟩, hS.F ht_⟩) hS.2.2 dX4_change_113
  by_cases c_38 : p_here bg bc ps = 109
  · refine n_tabIn (off := 152) (tgt := 156) hx hb dX4_change_4 c_38 (by decide) (by decide) (by decide) (by decide) ?_
    refine lv_aload_n hx hb dX4_change_156 rfl (lv_at hl 0 rfl) ?_
    have hkd : kKd bg bc ps = 9 := by unfold kKd; (repeat' split) <;> omega
    have hKC : kCm bg bc ps = (kCh bg bc [(0, 19), (1, 0), (2, 1)] 1 (ps, kT0)) := by unfold kCm; rw [hkd]; rfl
    have hg_39 : gpick [[(pr, .inr (4, [.ref bf, iv ps, .ref al]))], [(bf, .inr (10, [.ref bv, iv 0, iv bm, iv bc]))], [(bv, ia (E.2 3) bn bg)]] ([[(pr, .inr (4, [.ref bf, iv ps, .ref al]))], [(bf, .inr (10, [.ref bv, iv 0, iv bm, iv bc]))], [(bv, ia (E.2 3) bn bg)]] ++ []) [0, 1, 2] := ⟨rfl, (show List.Perm [0, 1, 2] (List.range 3) from by decide)⟩
    have hg_39P : va_P E.1 CL (([(pr, .inr (4, [.ref bf, iv ps, .ref al]))] : va_W) ++ ([(bf, .inr (10, [.ref bv, iv 0, iv bm, iv bc]))] : va_W) ++ ([(bv, ia (E.2 3) bn bg)] : va_W)) s.heap := (g_out hg_39 hP hD).1
    have hg_39D : va_D A (([(pr, .inr (4, [.ref bf, iv ps, .ref al]))] : va_W) ++ ([(bf, .inr (10, [.ref bv, iv 0, iv bm, iv bc]))] : va_W) ++ ([(bv, ia (E.2 3) bn bg)] : va_W)) := (g_out hg_39 hP hD).2
    have hg_39F : ∀ q, va_A (([(pr, .inr (4, [.ref bf, iv ps, .ref al]))] : va_W) ++ ([(bf, .inr (10, [.ref bv, iv 0, iv bm, iv bc]))] : va_W) ++ ([(bv, ia (E.2 3) bn bg)] : va_W)) s.heap.size q → A q := g_free hg_39 hP hD hS hA
    have hz_40 : s.heap.size ≤ s.heap.size := hS.1
    have hj_43 : ∀ u_41 : Nat, gpick ([[(pr, .inr (4, [.ref bf, iv ((kCh bg bc [(0, 19), (1, 0), (2, 1)] 1 (ps, kT0)).2.1), .ref al]))], [(bf, .inr (10, [.ref bv, iv 0, iv bm, iv bc]))], [(bv, ia (E.2 3) bn bg)], [(u_41, .inl (E.2 (3000 + 21), 2, .inl (fun zk : Nat => iI (if zk = 0 then (kCh bg bc [(0, 19), (1, 0), (2, 1)] 1 (ps, kT0)).2.2 1 else (kCh bg bc [(0, 19), (1, 0), (2, 1)] 1 (ps, kT0)).2.2 2))))]] ++ []) [[(pr, .inr (4, [.ref bf, iv ((kCh bg bc [(0, 19), (1, 0), (2, 1)] 1 (ps, kT0)).2.1), .ref al]))], [(bf, .inr (10, [.ref bv, iv 0, iv bm, iv bc]))], [(bv, ia (E.2 3) bn bg)], [(u_41, .inl (E.2 (3000 + 21), 2, .inl (fun zk : Nat => iI (if zk = 0 then (kCh bg bc [(0, 19), (1, 0), (2, 1)] 1 (ps, kT0)).2.2 1 else (kCh bg bc [(0, 19), (1, 0), (2, 1)] 1 (ps, kT0)).2.2 2))))]] [0, 1, 2, 3] := fun u_41 => ⟨rfl, (show List.Perm [0, 1, 2, 3] (List.range 4) from by decide)⟩
    have hj_44 : ∀ u_42 : Unit, gpick ([[(pr, .inr (4, [.ref bf, iv ((kCh bg bc [(0, 19), (1, 0), (2, 1)] 1 (ps, kT0)).2.1), .ref al]))], [(bf, .inr (10, [.ref bv, iv 0, iv bm, iv bc]))], [(bv, ia (E.2 3) bn bg)]] ++ []) [[(pr, .inr (4, [.ref bf, iv ((kCh bg bc [(0, 19), (1, 0), (2, 1)] 1 (ps, kT0)).2.1), .ref al]))], [(bf, .inr (10, [.ref bv, iv 0, iv bm, iv bc]))], [(bv, ia (E.2 3) bn bg)]] [0, 1, 2] := fun u_42 => ⟨rfl, (show List.Perm [0, 1, 2] (List.range 3) from by decide)⟩
    refine n_txyB (y := fun u_41 => .ref u_41) (w2 := fun u_41 => ([(pr, .inr (4, [.ref bf, iv ((kCh bg bc [(0, 19), (1, 0), (2, 1)] 1 (ps, kT0)).2.1), .ref al]))] : va_W) ++ ([(bf, .inr (10, [.ref bv, iv 0, iv bm, iv bc]))] : va_W) ++ ([(bv, ia (E.2 3) bn bg)] : va_W) ++ ([(u_41, .inl (E.2 (3000 + 21), 2, .inl (fun zk : Nat => iI (if zk = 0 then (kCh bg bc [(0, 19), (1, 0), (2, 1)] 1 (ps, kT0)).2.2 1 else (kCh bg bc [(0, 19), (1, 0), (2, 1)] 1 (ps, kT0)).2.2 2))))] : va_W)) (w3 := fun u_42 => ([(pr, .inr (4, [.ref bf, iv ((kCh bg bc [(0, 19), (1, 0), (2, 1)] 1 (ps, kT0)).2.1), .ref al]))] : va_W) ++ ([(bf, .inr (10, [.ref bv, iv 0, iv bm, iv bc]))] : va_W) ++ ([(bv, ia (E.2 3) bn bg)] : va_W)) (vx_runV (As := []) (rest := []) ⟨hx, hb, hml, hown, hts⟩ (mt_X4_making l E pr ps al bf bm bc bv bg  (bn) (by exact hst) (by omega) (by omega) (by assumption) (by omega) _) (cwV 0 hts (lw_V q1898 q1900 qs41 q103 q1901) rfl rfl rfl (by decide +kernel) ⟨Nat.le_of_ble_eq_true rfl, Nat.le_of_ble_eq_true rfl⟩) (UX_V hg_39P hK (hg_39D) hE hS hg_39F (va_recv hK.1 hP (ci := 4) (q0 := 0) rfl rfl)) rfl rfl hl.1 rfl (lv_room (Nat.le_of_ble_eq_true rfl)) dX4_change_157 ⟨Nat.le_of_ble_eq_true rfl, Nat.le_of_ble_eq_true rfl⟩) hS hg_39F ?_ ?_ ?_ ?_
    · exact (fun u_41 _ hk9 hp9 hd9 => g_back hg_39 (hj_43 u_41) hP hD hg_39F hk9 hp9 hd9)
    · exact (fun u_42 _ hk9 hp9 hd9 => g_back hg_39 (hj_44 u_42) hP hD hg_39F hk9 hp9 hd9)
    · intro En ce q9 u_42 H locs hCx hP hD hS hxf hq9 hce hcv hcl
      have hCx : En = "ClockworkTailor$SyntaxError" ∧ (kCh bg bc [(0, 19), (1, 0), (2, 1)] 1 (ps, kT0)).1 = false := hCx
      have hP : va_P E.1 CL (([(pr, .inr (4, [.ref bf, iv ((kCh bg bc [(0, 19), (1, 0), (2, 1)] 1 (ps, kT0)).2.1), .ref al]))] : va_W) ++ ([(bf, .inr (10, [.ref bv, iv 0, iv bm, iv bc]))] : va_W) ++ ([(bv, ia (E.2 3) bn bg)] : va_W)) H := hP
      have hD : va_D A (([(pr, .inr (4, [.ref bf, iv ((kCh bg bc [(0, 19), (1, 0), (2, 1)] 1 (ps, kT0)).2.1), .ref al]))] : va_W) ++ ([(bf, .inr (10, [.ref bv, iv 0, iv bm, iv bc]))] : va_W) ++ ([(bv, ia (E.2 3) bn bg)] : va_W)) := hD
      have hK9 : kFl (kCm bg bc ps) ((kCh bg bc [(0, 19), (1, 0), (2, 1)] 1 (ps, kT0)).2.1) := by
        rw [hKC]
        exact ⟨hCx.2, rfl⟩
      have hw9 : ((kCh bg bc [(0, 19), (1, 0), (2, 1)] 1 (ps, kT0)).2.1 : Int) = (kCm bg bc ps).2.1 := hK9.2.symm
      have hxf : XF E q9 (some (8, [iv ((kCh bg bc [(0, 19), (1, 0), (2, 1)] 1 (ps, kT0)).2.1)])) H := hxf
      rw [hw9] at hP hD hxf
      exact n_out () (by exact ⟨hCx.1, hK9.1⟩) hP hD hS hxf (Nat.le_trans hz_40 hq9) hce hcv hcl (fun x hx9 => (htb x hx9).elim) hlocks (Nat.le_of_ble_eq_true rfl) (Nat.le_of_ble_eq_true rfl)
    · intro u_41 H locs hC hP hD hS
      have hu_41 : (kCh bg bc [(0, 19), (1, 0), (2, 1)] 1 (ps, kT0)).1 = true := hC
      have hP : va_P E.1 CL (([(pr, .inr (4, [.ref bf, iv ((kCh bg bc [(0, 19), (1, 0), (2, 1)] 1 (ps, kT0)).2.1), .ref al]))] : va_W) ++ ([(bf, .inr (10, [.ref bv, iv 0, iv bm, iv bc]))] : va_W) ++ ([(bv, ia (E.2 3) bn bg)] : va_W) ++ ([(u_41, .inl (E.2 (3000 + 21), 2, .inl (fun zk : Nat => iI (if zk = 0 then (kCh bg bc [(0, 19), (1, 0), (2, 1)] 1 (ps, kT0)).2.2 1 else (kCh bg bc [(0, 19), (1, 0), (2, 1)] 1 (ps, kT0)).2.2 2))))] : va_W)) H := hP
      have hD : va_D A (([(pr, .inr (4, [.ref bf, iv ((kCh bg bc [(0, 19), (1, 0), (2, 1)] 1 (ps, kT0)).2.1), .ref al]))] : va_W) ++ ([(bf, .inr (10, [.ref bv, iv 0, iv bm, iv bc]))] : va_W) ++ ([(bv, ia (E.2 3) bn bg)] : va_W) ++ ([(u_41, .inl (E.2 (3000 + 21), 2, .inl (fun zk : Nat => iI (if zk = 0 then (kCh bg bc [(0, 19), (1, 0), (2, 1)] 1 (ps, kT0)).2.2 1 else (kCh bg bc [(0, 19), (1, 0), (2, 1)] 1 (ps, kT0)).2.2 2))))] : va_W)) := hD
      have hK8 : (kCm bg bc ps).1 = true ∧ (kCm bg bc ps).2.1 = (kCh bg bc [(0, 19), (1, 0), (2, 1)] 1 (ps, kT0)).2.1 := by rw [hKC]; exact ⟨hu_41, rfl⟩
      rw [← hKC] at hP hD
      have hP : va_P E.1 CL (([(pr, .inr (4, [.ref bf, iv ((kCm bg bc ps).2.1), .ref al]))] : va_W) ++ ([(bf, .inr (10, [.ref bv, iv 0, iv bm, iv bc]))] : va_W) ++ ([(bv, ia (E.2 3) bn bg)] : va_W) ++ ([(u_41, .inl (E.2 (3000 + 21), 2, .inl (fun zk : Nat => iI (if zk = 0 then (kCm bg bc ps).2.2 1 else (kCm bg bc ps).2.2 2))))] : va_W)) H := hP
      have hD : va_D A (([(pr, .inr (4, [.ref bf, iv ((kCm bg bc ps).2.1), .ref al]))] : va_W) ++ ([(bf, .inr (10, [.ref bv, iv 0, iv bm, iv bc]))] : va_W) ++ ([(bv, ia (E.2 3) bn bg)] : va_W) ++ ([(u_41, .inl (E.2 (3000 + 21), 2, .inl (fun zk : Nat => iI (if zk = 0 then (kCm bg bc ps).2.2 1 else (kCm bg bc ps).2.2 2))))] : va_W)) := hD
      rw [show ([(u_41, .inl (E.2 (3000 + 21), 2, .inl (fun zk : Nat => iI (if zk = 0 then (kCm bg bc ps).2.2 1 else (kCm bg bc ps).2.2 2))))] : va_W) = (chg E u_41 (kKd bg bc ps) ((kCm bg bc ps).2.2 1) ((kCm bg bc ps).2.2 2) ((kCm bg bc ps).2.2 3)) from by rw [hkd]; rfl] at hP hD
      have hP : va_P E.1 CL (([(pr, .inr (4, [.ref bf, iv ((kCm bg bc ps).2.1), .ref al]))] : va_W) ++ ([(bf, .inr (10, [.ref bv, iv 0, iv bm, iv bc]))] : va_W) ++ ([(bv, ia (E.2 3) bn bg)] : va_W) ++ ((chg E u_41 (kKd bg bc ps) ((kCm bg bc ps).2.2 1) ((kCm bg bc ps).2.2 2) ((kCm bg bc ps).2.2 3)))) H := hP
      have hD : va_D A (([(pr, .inr (4, [.ref bf, iv ((kCm bg bc ps).2.1), .ref al]))] : va_W) ++ ([(bf, .inr (10, [.ref bv, iv 0, iv bm, iv bc]))] : va_W) ++ ([(bv, ia (E.2 3) bn bg)] : va_W) ++ ((chg E u_41 (kKd bg bc ps) ((kCm bg bc ps).2.2 1) ((kCm bg bc ps).2.2 2) ((kCm bg bc ps).2.2 3)))) := hD
      refine vx_ret ?_
      refine W.widen (k := 5) (n := 31) (Nat.le_of_ble_eq_true rfl) (Nat.le_of_ble_eq_true rfl) ?_
      exact W.aret hx hb hr (Or.inl ⟨_, rfl⟩) (Or.inr ⟨_, rfl⟩) (fun tt_ ht_ hW_ => ⟨⟨u_41, rfl, ⟨hK8.1, fun h9 => absurd (hkd.symm.trans h9) (by decide)⟩, by rw [ht_]; exact hP, hD⟩, hS.F ht_⟩) hS.2.2 dX4_change_160
  by_cases c_45 : p_here bg bc ps = 110
  · refine n_tabIn (off := 98) (tgt := 102) hx hb dX4_change_4 c_45 (by decide) (by decide) (by decide) (by decide) ?_
    refine lv_aload_n hx hb dX4_change_102 rfl (lv_at hl 0 rfl) ?_
    refine lv_iconst (v := iI 0) hx hb dX4_change_103 rfl ?_
    have hkd : kKd bg bc ps = 2 := by unfold kKd; (repeat' split) <;> omega
    have hKC : kCm bg bc ps = (kCh bg bc [(0, 13), (1, 0), (1, 0)] 1 (ps, kT0)) := by unfold kCm; rw [hkd]; rfl
    have hg_46 : gpick [[(pr, .inr (4, [.ref bf, iv ps, .ref al]))], [(bf, .inr (10, [.ref bv, iv 0, iv bm, iv bc]))], [(bv, ia (E.2 3) bn bg)]] ([[(pr, .inr (4, [.ref bf, iv ps, .ref al]))], [(bf, .inr (10, [.ref bv, iv 0, iv bm, iv bc]))], [(bv, ia (E.2 3) bn bg)]] ++ []) [0, 1, 2] := ⟨rfl, (show List.Perm [0, 1, 2] (List.range 3) from by decide)⟩
    have hg_46P : va_P E.1 CL (([(pr, .inr (4, [.ref bf, iv ps, .ref al]))] : va_W) ++ ([(bf, .inr (10, [.ref bv, iv 0, iv bm, iv bc]))] : va_W) ++ ([(bv, ia (E.2 3) bn bg)] : va_W)) s.heap := (g_out hg_46 hP hD).1
    have hg_46D : va_D A (([(pr, .inr (4, [.ref bf, iv ps, .ref al]))] : va_W) ++ ([(bf, .inr (10, [.ref bv, iv 0, iv bm, iv bc]))] : va_W) ++ ([(bv, ia (E.2 3) bn bg)] : va_W)) := (g_out hg_46 hP hD).2
    have hg_46F : ∀ q, va_A (([(pr, .inr (4, [.ref bf, iv ps, .ref al]))] : va_W) ++ ([(bf, .inr (10, [.ref bv, iv 0, iv bm, iv bc]))] : va_W) ++ ([(bv, ia (E.2 3) bn bg)] : va_W)) s.heap.size q → A q := g_free hg_46 hP hD hS hA
    have hz_47 : s.heap.size ≤ s.heap.size := hS.1
    have hj_50 : ∀ u_48 : Nat, gpick ([[(pr, .inr (4, [.ref bf, iv ((kCh bg bc [(0, 13), (1, 0), (1, 0)] 1 (ps, kT0)).2.1), .ref al]))], [(bf, .inr (10, [.ref bv, iv 0, iv bm, iv bc]))], [(bv, ia (E.2 3) bn bg)], [(u_48, .inl (E.2 (3000 + 15), 3, .inl (fun zk : Nat => iI (if zk = 0 then (kCh bg bc [(0, 13), (1, 0), (1, 0)] 1 (ps, kT0)).2.2 1 else if zk = 1 then (kCh bg bc [(0, 13), (1, 0), (1, 0)] 1 (ps, kT0)).2.2 2 else 0))))]] ++ []) [[(pr, .inr (4, [.ref bf, iv ((kCh bg bc [(0, 13), (1, 0), (1, 0)] 1 (ps, kT0)).2.1), .ref al]))], [(bf, .inr (10, [.ref bv, iv 0, iv bm, iv bc]))], [(bv, ia (E.2 3) bn bg)], [(u_48, .inl (E.2 (3000 + 15), 3, .inl (fun zk : Nat => iI (if zk = 0 then (kCh bg bc [(0, 13), (1, 0), (1, 0)] 1 (ps, kT0)).2.2 1 else if zk = 1 then (kCh bg bc [(0, 13), (1, 0), (1, 0)] 1 (ps, kT0)).2.2 2 else 0))))]] [0, 1, 2, 3] := fun u_48 => ⟨rfl, (show List.Perm [0, 1, 2, 3] (List.range 4) from by decide)⟩
    have hj_51 : ∀ u_49 : Unit, gpick ([[(pr, .inr (4, [.ref bf, iv ((kCh bg bc [(0, 13), (1, 0), (1, 0)] 1 (ps, kT0)).2.1), .ref al]))], [(bf, .inr (10, [.ref bv, iv 0, iv bm, iv bc]))], [(bv, ia (E.2 3) bn bg)]] ++ []) [[(pr, .inr (4, [.ref bf, iv ((kCh bg bc [(0, 13), (1, 0), (1, 0)] 1 (ps, kT0)).2.1), .ref al]))], [(bf, .inr (10, [.ref bv, iv 0, iv bm, iv bc]))], [(bv, ia (E.2 3) bn bg)]] [0, 1, 2] := fun u_49 => ⟨rfl, (show List.Perm [0, 1, 2] (List.range 3) from by decide)⟩
    refine n_txyB (y := fun u_48 => .ref u_48) (w2 := fun u_48 => ([(pr, .inr (4, [.ref bf, iv ((kCh bg bc [(0, 13), (1, 0), (1, 0)] 1 (ps, kT0)).2.1), .ref al]))] : va_W) ++ ([(bf, .inr (10, [.ref bv, iv 0, iv bm, iv bc]))] : va_W) ++ ([(bv, ia (E.2 3) bn bg)] : va_W) ++ ([(u_48, .inl (E.2 (3000 + 15), 3, .inl (fun zk : Nat => iI (if zk = 0 then (kCh bg bc [(0, 13), (1, 0), (1, 0)] 1 (ps, kT0)).2.2 1 else if zk = 1 then (kCh bg bc [(0, 13), (1, 0), (1, 0)] 1 (ps, kT0)).2.2 2 else 0))))] : va_W)) (w3 := fun u_49 => ([(pr, .inr (4, [.ref bf, iv ((kCh bg bc [(0, 13), (1, 0), (1, 0)] 1 (ps, kT0)).2.1), .ref al]))] : va_W) ++ ([(bf, .inr (10, [.ref bv, iv 0, iv bm, iv bc]))] : va_W) ++ ([(bv, ia (E.2 3) bn bg)] : va_W)) (vx_runV (As := [iv 0]) (rest := []) ⟨hx, hb, hml, hown, hts⟩ (mt_X4_needing_0 l E pr ps al bf bm bc bv bg  (bn) (by exact hst) (by omega) (by omega) (by assumption) (by omega) _) (cwV 1 hts (lw_V q1849 q1851 qs35 q103 q1852) rfl rfl rfl (by decide +kernel) ⟨Nat.le_of_ble_eq_true rfl, Nat.le_of_ble_eq_true rfl⟩) (UX_V hg_46P hK (hg_46D) hE hS hg_46F (va_recv hK.1 hP (ci := 4) (q0 := 0) rfl rfl)) rfl rfl hl.1 rfl (lv_room (Nat.le_of_ble_eq_true rfl)) dX4_change_104 ⟨Nat.le_of_ble_eq_true rfl, Nat.le_of_ble_eq_true rfl⟩) hS hg_46F ?_ ?_ ?_ ?_
    · exact (fun u_48 _ hk9 hp9 hd9 => g_back hg_46 (hj_50 u_48) hP hD hg_46F hk9 hp9 hd9)
    · exact (fun u_49 _ hk9 hp9 hd9 => g_back hg_46 (hj_51 u_49) hP hD hg_46F hk9 hp9 hd9)
    · intro En ce q9 u_49 H locs hCx hP hD hS hxf hq9 hce hcv hcl
      have hCx : En = "ClockworkTailor$SyntaxError" ∧ (kCh bg bc [(0, 13), (1, 0), (1, 0)] 1 (ps, kT0)).1 = false := hCx
      have hP : va_P E.1 CL (([(pr, .inr (4, [.ref bf, iv ((kCh bg bc [(0, 13), (1, 0), (1, 0)] 1 (ps, kT0)).2.1), .ref al]))] : va_W) ++ ([(bf, .inr (10, [.ref bv, iv 0, iv bm, iv bc]))] : va_W) ++ ([(bv, ia (E.2 3) bn bg)] : va_W)) H := hP
      have hD : va_D A (([(pr, .inr (4, [.ref bf, iv ((kCh bg bc [(0, 13), (1, 0), (1, 0)] 1 (ps, kT0)).2.1), .ref al]))] : va_W) ++ ([(bf, .inr (10, [.ref bv, iv 0, iv bm, iv bc]))] : va_W) ++ ([(bv, ia (E.2 3) bn bg)] : va_W)) := hD
      have hK9 : kFl (kCm bg bc ps) ((kCh bg bc [(0, 13), (1, 0), (1, 0)] 1 (ps, kT0)).2.1) := by
        rw [hKC]
        exact ⟨hCx.2, rfl⟩
      have hw9 : ((kCh bg bc [(0, 13), (1, 0), (1, 0)] 1 (ps, kT0)).2.1 : Int) = (kCm bg bc ps).2.1 := hK9.2.symm
      have hxf : XF E q9 (some (8, [iv ((kCh bg bc [(0, 13), (1, 0), (1, 0)] 1 (ps, kT0)).2.1)])) H := hxf
      rw [hw9] at hP hD hxf
      exact n_out () (by exact ⟨hCx.1, hK9.1⟩) hP hD hS hxf (Nat.le_trans hz_47 hq9) hce hcv hcl (fun x hx9 => (htb x hx9).elim) hlocks (Nat.le_of_ble_eq_true rfl) (Nat.le_of_ble_eq_true rfl)
    · intro u_48 H locs hC hP hD hS
      have hu_48 : (kCh bg bc [(0, 13), (1, 0), (1, 0)] 1 (ps, kT0)).1 = true := hC
      have hP : va_P E.1 CL (([(pr, .inr (4, [.ref bf, iv ((kCh bg bc [(0, 13), (1, 0), (1, 0)] 1 (ps, kT0)).2.1), .ref al]))] : va_W) ++ ([(bf, .inr (10, [.ref bv, iv 0, iv bm, iv bc]))] : va_W) ++ ([(bv, ia (E.2 3) bn bg)] : va_W) ++ ([(u_48, .inl (E.2 (3000 + 15), 3, .inl (fun zk : Nat => iI (if zk = 0 then (kCh bg bc [(0, 13), (1, 0), (1, 0)] 1 (ps, kT0)).2.2 1 else if zk = 1 then (kCh bg bc [(0, 13), (1, 0), (1, 0)] 1 (ps, kT0)).2.2 2 else 0))))] : va_W)) H := hP
      have hD : va_D A (([(pr, .inr (4, [.ref bf, iv ((kCh bg bc [(0, 13), (1, 0), (1, 0)] 1 (ps, kT0)).2.1), .ref al]))] : va_W) ++ ([(bf, .inr (10, [.ref bv, iv 0, iv bm, iv bc]))] : va_W) ++ ([(bv, ia (E.2 3) bn bg)] : va_W) ++ ([(u_48, .inl (E.2 (3000 + 15), 3, .inl (fun zk : Nat => iI (if zk = 0 then (kCh bg bc [(0, 13), (1, 0), (1, 0)] 1 (ps, kT0)).2.2 1 else if zk = 1 then (kCh bg bc [(0, 13), (1, 0), (1, 0)] 1 (ps, kT0)).2.2 2 else 0))))] : va_W)) := hD
      have hK8 : (kCm bg bc ps).1 = true ∧ (kCm bg bc ps).2.1 = (kCh bg bc [(0, 13), (1, 0), (1, 0)] 1 (ps, kT0)).2.1 := by rw [hKC]; exact ⟨hu_48, rfl⟩
      rw [← hKC] at hP hD
      have hP : va_P E.1 CL (([(pr, .inr (4, [.ref bf, iv ((kCm bg bc ps).2.1), .ref al]))] : va_W) ++ ([(bf, .inr (10, [.ref bv, iv 0, iv bm, iv bc]))] : va_W) ++ ([(bv, ia (E.2 3) bn bg)] : va_W) ++ ([(u_48, .inl (E.2 (3000 + 15), 3, .inl (fun zk : Nat => iI (if zk = 0 then (kCm bg bc ps).2.2 1 else if zk = 1 then (kCm bg bc ps).2.2 2 else 0))))] : va_W)) H := hP
      have hD : va_D A (([(pr, .inr (4, [.ref bf, iv ((kCm bg bc ps).2.1), .ref al]))] : va_W) ++ ([(bf, .inr (10, [.ref bv, iv 0, iv bm, iv bc]))] : va_W) ++ ([(bv, ia (E.2 3) bn bg)] : va_W) ++ ([(u_48, .inl (E.2 (3000 + 15), 3, .inl (fun zk : Nat => iI (if zk = 0 then (kCm bg bc ps).2.2 1 else if zk = 1 then (kCm bg bc ps).2.2 2 else 0))))] : va_W)) := hD
      rw [show ([(u_48, .inl (E.2 (3000 + 15), 3, .inl (fun zk : Nat => iI (if zk = 0 then (kCm bg bc ps).2.2 1 else if zk = 1 then (kCm bg bc ps).2.2 2 else 0))))] : va_W) = (chg E u_48 (kKd bg bc ps) ((kCm bg bc ps).2.2 1) ((kCm bg bc ps).2.2 2) ((kCm bg bc ps).2.2 3)) from by rw [hkd]; rfl] at hP hD
      have hP : va_P E.1 CL (([(pr, .inr (4, [.ref bf, iv ((kCm bg bc ps).2.1), .ref al]))] : va_W) ++ ([(bf, .inr (10, [.ref bv, iv 0, iv bm, iv bc]))] : va_W) ++ ([(bv, ia (E.2 3) bn bg)] : va_W) ++ ((chg E u_48 (kKd bg bc ps) ((kCm bg bc ps).2.2 1) ((kCm bg bc ps).2.2 2) ((kCm bg bc ps).2.2 3)))) H := hP
      have hD : va_D A (([(pr, .inr (4, [.ref bf, iv ((kCm bg bc ps).2.1), .ref al]))] : va_W) ++ ([(bf, .inr (10, [.ref bv, iv 0, iv bm, iv bc]))] : va_W) ++ ([(bv, ia (E.2 3) bn bg)] : va_W) ++ ((chg E u_48 (kKd bg bc ps) ((kCm bg bc ps).2.2 1) ((kCm bg bc ps).2.2 2) ((kCm bg bc ps).2.2 3)))) := hD
      refine vx_ret ?_
      refine W.widen (k := 5) (n := 31) (Nat.le_of_ble_eq_true rfl) (Nat.le_of_ble_eq_true rfl) ?_
      exact W.aret hx hb hr (Or.inl ⟨_, rfl⟩) (Or.inr ⟨_, rfl⟩) (fun tt_ ht_ hW_ => ⟨⟨u_48, rfl, ⟨hK8.1, fun h9 => absurd (hkd.symm.trans h9) (by decide)⟩, by rw [ht_]; exact hP, hD⟩, hS.F ht_⟩) hS.2.2 dX4_change_107
  by_cases c_52 : p_here bg bc ps = 111
  · refine n_tabIn (off := 147) (tgt := 151) hx hb dX4_change_4 c_52 (by decide) (by decide) (by decide) (by decide) ?_
    refine lv_aload_n hx hb dX4_change_151 rfl (lv_at hl 0 rfl) ?_
    have hkd : kKd bg bc ps = 7 := by unfold kKd; (repeat' split) <;> omega
    have hKC : kCm bg bc ps = (kCh bg bc [(0, 18)] 1 (ps, kT0)) := by unfold kCm; rw [hkd]; rfl
    have hg_53 : gpick [[(pr, .inr (4, [.ref bf, iv ps, .ref al]))], [(bf, .inr (10, [.ref bv, iv 0, iv bm, iv bc]))], [(bv, ia (E.2 3) bn bg)]] ([[(pr, .inr (4, [.ref bf, iv ps, .ref al]))], [(bf, .inr (10, [.ref bv, iv 0, iv bm, iv bc]))], [(bv, ia (E.2 3) bn bg)]] ++ []) [0, 1, 2] := ⟨rfl, (show List.Perm [0, 1, 2] (List.range 3) from by decide)⟩
    have hg_53P : va_P E.1 CL (([(pr, .inr (4, [.ref bf, iv ps, .ref al]))] : va_W) ++ ([(bf, .inr (10, [.ref bv, iv 0, iv bm, iv bc]))] : va_W) ++ ([(bv, ia (E.2 3) bn bg)] : va_W)) s.heap := (g_out hg_53 hP hD).1
    have hg_53D : va_D A (([(pr, .inr (4, [.ref bf, iv ps, .ref al]))] : va_W) ++ ([(bf, .inr (10, [.ref bv, iv 0, iv bm, iv bc]))] : va_W) ++ ([(bv, ia (E.2 3) bn bg)] : va_W)) := (g_out hg_53 hP hD).2
    have hg_53F : ∀ q, va_A (([(pr, .inr (4, [.ref bf, iv ps, .ref al]))] : va_W) ++ ([(bf, .inr (10, [.ref bv, iv 0, iv bm, iv bc]))] : va_W) ++ ([(bv, ia (E.2 3) bn bg)] : va_W)) s.heap.size q → A q := g_free hg_53 hP hD hS hA
    have hz_54 : s.heap.size ≤ s.heap.size := hS.1
    have hj_57 : ∀ u_55 : Unit, gpick ([[(pr, .inr (4, [.ref bf, iv ((kCh bg bc [(0, 18)] 1 (ps, kT0)).2.1), .ref al]))], [(bf, .inr (10, [.ref bv, iv 0, iv bm, iv bc]))], [(bv, ia (E.2 3) bn bg)]] ++ []) [[(pr, .inr (4, [.ref bf, iv ((kCh bg bc [(0, 18)] 1 (ps, kT0)).2.1), .ref al]))], [(bf, .inr (10, [.ref bv, iv 0, iv bm, iv bc]))], [(bv, ia (E.2 3) bn bg)]] [0, 1, 2] := fun u_55 => ⟨rfl, (show List.Perm [0, 1, 2] (List.range 3) from by decide)⟩
    have hj_58 : ∀ u_56 : Unit, gpick ([[(pr, .inr (4, [.ref bf, iv ((kCh bg bc [(0, 18)] 1 (ps, kT0)).2.1), .ref al]))], [(bf, .inr (10, [.ref bv, iv 0, iv bm, iv bc]))], [(bv, ia (E.2 3) bn bg)]] ++ []) [[(pr, .inr (4, [.ref bf, iv ((kCh bg bc [(0, 18)] 1 (ps, kT0)).2.1), .ref al]))], [(bf, .inr (10, [.ref bv, iv 0, iv bm, iv bc]))], [(bv, ia (E.2 3) bn bg)]] [0, 1, 2] := fun u_56 => ⟨rfl, (show List.Perm [0, 1, 2] (List.range 3) from by decide)⟩
    refine n_txyB (y := fun u_55 => .ref (EX E 3020)) (w2 := fun u_55 => ([(pr, .inr (4, [.ref bf, iv ((kCh bg bc [(0, 18)] 1 (ps, kT0)).2.1), .ref al]))] : va_W) ++ ([(bf, .inr (10, [.ref bv, iv 0, iv bm, iv bc]))] : va_W) ++ ([(bv, ia (E.2 3) bn bg)] : va_W)) (w3 := fun u_56 => ([(pr, .inr (4, [.ref bf, iv ((kCh bg bc [(0, 18)] 1 (ps, kT0)).2.1), .ref al]))] : va_W) ++ ([(bf, .inr (10, [.ref bv, iv 0, iv bm, iv bc]))] : va_W) ++ ([(bv, ia (E.2 3) bn bg)] : va_W)) (vx_runV (As := []) (rest := []) ⟨hx, hb, hml, hown, hts⟩ (mt_X4_opening l E pr ps al bf bm bc bv bg  (bn) (by exact hst) (by omega) (by omega) (by assumption) (by omega) _) (cwV 0 hts (lw_V q1890 q1892 qs40 q103 q1893) rfl rfl rfl (by decide +kernel) ⟨Nat.le_of_ble_eq_true rfl, Nat.le_of_ble_eq_true rfl⟩) (UX_V hg_53P hK (hg_53D) hE hS hg_53F (va_recv hK.1 hP (ci := 4) (q0 := 0) rfl rfl)) rfl rfl hl.1 rfl (lv_room (Nat.le_of_ble_eq_true rfl)) dX4_change_152 ⟨Nat.le_of_ble_eq_true rfl, Nat.le_of_ble_eq_true rfl⟩) hS hg_53F ?_ ?_ ?_ ?_
    · exact (fun u_55 _ hk9 hp9 hd9 => g_back hg_53 (hj_57 u_55) hP hD hg_53F hk9 hp9 hd9)
    · exact (fun u_56 _ hk9 hp9 hd9 => g_back hg_53 (hj_58 u_56) hP hD hg_53F hk9 hp9 hd9)
    · intro En ce q9 u_56 H locs hCx hP hD hS hxf hq9 hce hcv hcl
      have hCx : En = "ClockworkTailor$SyntaxError" ∧ (kCh bg bc [(0, 18)] 1 (ps, kT0)).1 = false := hCx
      have hP : va_P E.1 CL (([(pr, .inr (4, [.ref bf, iv ((kCh bg bc [(0, 18)] 1 (ps, kT0)).2.1), .ref al]))] : va_W) ++ ([(bf, .inr (10, [.ref bv, iv 0, iv bm, iv bc]))] : va_W) ++ ([(bv, ia (E.2 3) bn bg)] : va_W)) H := hP
      have hD : va_D A (([(pr, .inr (4, [.ref bf, iv ((kCh bg bc [(0, 18)] 1 (ps, kT0)).2.1), .ref al]))] : va_W) ++ ([(bf, .inr (10, [.ref bv, iv 0, iv bm, iv bc]))] : va_W) ++ ([(bv, ia (E.2 3) bn bg)] : va_W)) := hD
      have hK9 : kFl (kCm bg bc ps) ((kCh bg bc [(0, 18)] 1 (ps, kT0)).2.1) := by
        rw [hKC]
        exact ⟨hCx.2, rfl⟩
      have hw9 : ((kCh bg bc [(0, 18)] 1 (ps, kT0)).2.1 : Int) = (kCm bg bc ps).2.1 := hK9.2.symm
      have hxf : XF E q9 (some (8, [iv ((kCh bg bc [(0, 18)] 1 (ps, kT0)).2.1)])) H := hxf
      rw [hw9] at hP hD hxf
      exact n_out () (by exact ⟨hCx.1, hK9.1⟩) hP hD hS hxf (Nat.le_trans hz_54 hq9) hce hcv hcl (fun x hx9 => (htb x hx9).elim) hlocks (Nat.le_of_ble_eq_true rfl) (Nat.le_of_ble_eq_true rfl)
    · intro u_55 H locs hC hP hD hS
      have hu_55 : (kCh bg bc [(0, 18)] 1 (ps, kT0)).1 = true := hC
      have hP : va_P E.1 CL (([(pr, .inr (4, [.ref bf, iv ((kCh bg bc [(0, 18)] 1 (ps, kT0)).2.1), .ref al]))] : va_W) ++ ([(bf, .inr (10, [.ref bv, iv 0, iv bm, iv bc]))] : va_W) ++ ([(bv, ia (E.2 3) bn bg)] : va_W)) H := hP
      have hD : va_D A (([(pr, .inr (4, [.ref bf, iv ((kCh bg bc [(0, 18)] 1 (ps, kT0)).2.1), .ref al]))] : va_W) ++ ([(bf, .inr (10, [.ref bv, iv 0, iv bm, iv bc]))] : va_W) ++ ([(bv, ia (E.2 3) bn bg)] : va_W)) := hD
      have hK8 : (kCm bg bc ps).1 = true ∧ (kCm bg bc ps).2.1 = (kCh bg bc [(0, 18)] 1 (ps, kT0)).2.1 := by rw [hKC]; exact ⟨hu_55, rfl⟩
      rw [← hKC] at hP hD
      have hP : va_P E.1 CL (([(pr, .inr (4, [.ref bf, iv ((kCm bg bc ps).2.1), .ref al]))] : va_W) ++ ([(bf, .inr (10, [.ref bv, iv 0, iv bm, iv bc]))] : va_W) ++ ([(bv, ia (E.2 3) bn bg)] : va_W) ++ ((chg E (EX E 3020) (kKd bg bc ps) ((kCm bg bc ps).2.2 1) ((kCm bg bc ps).2.2 2) ((kCm bg bc ps).2.2 3)))) H := by rw [hkd, chg_7, List.append_nil]; exact hP
      have hD : va_D A (([(pr, .inr (4, [.ref bf, iv ((kCm bg bc ps).2.1), .ref al]))] : va_W) ++ ([(bf, .inr (10, [.ref bv, iv 0, iv bm, iv bc]))] : va_W) ++ ([(bv, ia (E.2 3) bn bg)] : va_W) ++ ((chg E (EX E 3020) (kKd bg bc ps) ((kCm bg bc ps).2.2 1) ((kCm bg bc ps).2.2 2) ((kCm bg bc ps).2.2 3)))) := by rw [hkd, chg_7, List.append_nil]; exact hD
      have hP : va_P E.1 CL (([(pr, .inr (4, [.ref bf, iv ((kCm bg bc ps).2.1), .ref al]))] : va_W) ++ ([(bf, .inr (10, [.ref bv, iv 0, iv bm, iv bc]))] : va_W) ++ ([(bv, ia (E.2 3) bn bg)] : va_W) ++ ((chg E (EX E 3020) (kKd bg bc ps) ((kCm bg bc ps).2.2 1) ((kCm bg bc ps).2.2 2) ((kCm bg bc ps).2.2 3)))) H := hP
      have hD : va_D A (([(pr, .inr (4, [.ref bf, iv ((kCm bg bc ps).2.1), .ref al]))] : va_W) ++ ([(bf, .inr (10, [.ref bv, iv 0, iv bm, iv bc]))] : va_W) ++ ([(bv, ia (E.2 3) bn bg)] : va_W) ++ ((chg E (EX E 3020) (kKd bg bc ps) ((kCm bg bc ps).2.2 1) ((kCm bg bc ps).2.2 2) ((kCm bg bc ps).2.2 3)))) := hD
      refine vx_ret ?_
      refine W.widen (k := 5) (n := 31) (Nat.le_of_ble_eq_true rfl) (Nat.le_of_ble_eq_true rfl) ?_
      exact W.aret hx hb hr (Or.inl ⟨_, rfl⟩) (Or.inr ⟨_, rfl⟩) (fun tt_ ht_ hW_ => ⟨⟨EX E 3020, rfl, ⟨hK8.1, fun _ => rfl⟩, by rw [ht_]; exact hP, hD⟩, hS.F ht_⟩) hS.2.2 dX4_change_155
  by_cases c_59 : p_here bg bc ps = 114
  · refine n_tabIn (off := 88) (tgt := 92) hx hb dX4_change_4 c_59 (by decide) (by decide) (by decide) (by decide) ?_
    refine lv_aload_n hx hb dX4_change_92 rfl (lv_at hl 0 rfl) ?_
    have hkd : kKd bg bc ps = 0 := by unfold kKd; (repeat' split) <;> omega
    have hKC : kCm bg bc ps = (kCh bg bc [(0, 10), (1, 0), (1, 1), (2, 2)] 1 (ps, kT0)) := by unfold kCm; rw [hkd]; rfl
    have hg_60 : gpick [[(pr, .inr (4, [.ref bf, iv ps, .ref al]))], [(bf, .inr (10, [.ref bv, iv 0, iv bm, iv bc]))], [(bv, ia (E.2 3) bn bg)]] ([[(pr, .inr (4, [.ref bf, iv ps, .ref al]))], [(bf, .inr (10, [.ref bv, iv 0, iv bm, iv bc]))], [(bv, ia (E.2 3) bn bg)]] ++ []) [0, 1, 2] := ⟨rfl, (show List.Perm [0, 1, 2] (List.range 3) from by decide)⟩
    have hg_60P : va_P E.1 CL (([(pr, .inr (4, [.ref bf, iv ps, .ref al]))] : va_W) ++ ([(bf, .inr (10, [.ref bv, iv 0, iv bm, iv bc]))] : va_W) ++ ([(bv, ia (E.2 3) bn bg)] : va_W)) s.heap := (g_out hg_60 hP hD).1
    have hg_60D : va_D A (([(pr, .inr (4, [.ref bf, iv ps, .ref al]))] : va_W) ++ ([(bf, .inr (10, [.ref bv, iv 0, iv bm, iv bc]))] : va_W) ++ ([(bv, ia (E.2 3) bn bg)] : va_W)) := (g_out hg_60 hP hD).2
    have hg_60F : ∀ q, va_A (([(pr, .inr (4, [.ref bf, iv ps, .ref al]))] : va_W) ++ ([(bf, .inr (10, [.ref bv, iv 0, iv bm, iv bc]))] : va_W) ++ ([(bv, ia (E.2 3) bn bg)] : va_W)) s.heap.size q → A q := g_free hg_60 hP hD hS hA
    have hz_61 : s.heap.size ≤ s.heap.size := hS.1
    have hj_64 : ∀ u_62 : Nat, gpick ([[(pr, .inr (4, [.ref bf, iv ((kCh bg bc [(0, 10), (1, 0), (1, 1), (2, 2)] 1 (ps, kT0)).2.1), .ref al]))], [(bf, .inr (10, [.ref bv, iv 0, iv bm, iv bc]))], [(bv, ia (E.2 3) bn bg)], [(u_62, .inl (E.2 (3000 + 13), 3, .inl (fun zk : Nat => iI (if zk = 0 then (kCh bg bc [(0, 10), (1, 0), (1, 1), (2, 2)] 1 (ps, kT0)).2.2 1 else if zk = 1 then (kCh bg bc [(0, 10), (1, 0), (1, 1), (2, 2)] 1 (ps, kT0)).2.2 2 else (kCh bg bc [(0, 10), (1, 0), (1, 1), (2, 2)] 1 (ps, kT0)).2.2 3))))]] ++ []) [[(pr, .inr (4, [.ref bf, iv ((kCh bg bc [(0, 10), (1, 0), (1, 1), (2, 2)] 1 (ps, kT0)).2.1), .ref al]))], [(bf, .inr (10, [.ref bv, iv 0, iv bm, iv bc]))], [(bv, ia (E.2 3) bn bg)], [(u_62, .inl (E.2 (3000 + 13), 3, .inl (fun zk : Nat => iI (if zk = 0 then (kCh bg bc [(0, 10), (1, 0), (1, 1), (2, 2)] 1 (ps, kT0)).2.2 1 else if zk = 1 then (kCh bg bc [(0, 10), (1, 0), (1, 1), (2, 2)] 1 (ps, kT0)).2.2 2 else (kCh bg bc [(0, 10), (1, 0), (1, 1), (2, 2)] 1 (ps, kT0)).2.2 3))))]] [0, 1, 2, 3] := fun u_62 => ⟨rfl, (show List.Perm [0, 1, 2, 3] (List.range 4) from by decide)⟩
    have hj_65 : ∀ u_63 : Unit, gpick ([[(pr, .inr (4, [.ref bf, iv ((kCh bg bc [(0, 10), (1, 0), (1, 1), (2, 2)] 1 (ps, kT0)).2.1), .ref al]))], [(bf, .inr (10, [.ref bv, iv 0, iv bm, iv bc]))], [(bv, ia (E.2 3) bn bg)]] ++ []) [[(pr, .inr (4, [.ref bf, iv ((kCh bg bc [(0, 10), (1, 0), (1, 1), (2, 2)] 1 (ps, kT0)).2.1), .ref al]))], [(bf, .inr (10, [.ref bv, iv 0, iv bm, iv bc]))], [(bv, ia (E.2 3) bn bg)]] [0, 1, 2] := fun u_63 => ⟨rfl, (show List.Perm [0, 1, 2] (List.range 3) from by decide)⟩
    refine n_txyB (y := fun u_62 => .ref u_62) (w2 := fun u_62 => ([(pr, .inr (4, [.ref bf, iv ((kCh bg bc [(0, 10), (1, 0), (1, 1), (2, 2)] 1 (ps, kT0)).2.1), .ref al]))] : va_W) ++ ([(bf, .inr (10, [.ref bv, iv 0, iv bm, iv bc]))] : va_W) ++ ([(bv, ia (E.2 3) bn bg)] : va_W) ++ ([(u_62, .inl (E.2 (3000 + 13), 3, .inl (fun zk : Nat => iI (if zk = 0 then (kCh bg bc [(0, 10), (1, 0), (1, 1), (2, 2)] 1 (ps, kT0)).2.2 1 else if zk = 1 then (kCh bg bc [(0, 10), (1, 0), (1, 1), (2, 2)] 1 (ps, kT0)).2.2 2 else (kCh bg bc [(0, 10), (1, 0), (1, 1), (2, 2)] 1 (ps, kT0)).2.2 3))))] : va_W)) (w3 := fun u_63 => ([(pr, .inr (4, [.ref bf, iv ((kCh bg bc [(0, 10), (1, 0), (1, 1), (2, 2)] 1 (ps, kT0)).2.1), .ref al]))] : va_W) ++ ([(bf, .inr (10, [.ref bv, iv 0, iv bm, iv bc]))] : va_W) ++ ([(bv, ia (E.2 3) bn bg)] : va_W)) (vx_runV (As := []) (rest := []) ⟨hx, hb, hml, hown, hts⟩ (mt_X4_recipe l E pr ps al bf bm bc bv bg  (bn) (by exact hst) (by omega) (by omega) (by assumption) (by omega) _) (cwV 0 hts (lw_V q1771 q1773 qs27 q103 q1774) rfl rfl rfl (by decide +kernel) ⟨Nat.le_of_ble_eq_true rfl, Nat.le_of_ble_eq_true rfl⟩) (UX_V hg_60P hK (hg_60D) hE hS hg_60F (va_recv hK.1 hP (ci := 4) (q0 := 0) rfl rfl)) rfl rfl hl.1 rfl (lv_room (Nat.le_of_ble_eq_true rfl)) dX4_change_93 ⟨Nat.le_of_ble_eq_true rfl, Nat.le_of_ble_eq_true rfl⟩) hS hg_60F ?_ ?_ ?_ ?_
    · exact (fun u_62 _ hk9 hp9 hd9 => g_back hg_60 (hj_64 u_62) hP hD hg_60F hk9 hp9 hd9)
    · exact (fun u_63 _ hk9 hp9 hd9 => g_back hg_60 (hj_65 u_63) hP hD hg_60F hk9 hp9 hd9)
    · intro En ce q9 u_63 H locs hCx hP hD hS hxf hq9 hce hcv hcl
      have hCx : En = "ClockworkTailor$SyntaxError" ∧ (kCh bg bc [(0, 10), (1, 0), (1, 1), (2, 2)] 1 (ps, kT0)).1 = false := hCx
      have hP : va_P E.1 CL (([(pr, .inr (4, [.ref bf, iv ((kCh bg bc [(0, 10), (1, 0), (1, 1), (2, 2)] 1 (ps, kT0)).2.1), .ref al]))] : va_W) ++ ([(bf, .inr (10, [.ref bv, iv 0, iv bm, iv bc]))] : va_W) ++ ([(bv, ia (E.2 3) bn bg)] : va_W)) H := hP
      have hD : va_D A (([(pr, .inr (4, [.ref bf, iv ((kCh bg bc [(0, 10), (1, 0), (1, 1), (2, 2)] 1 (ps, kT0)).2.1), .ref al]))] : va_W) ++ ([(bf, .inr (10, [.ref bv, iv 0, iv bm, iv bc]))] : va_W) ++ ([(bv, ia (E.2 3) bn bg)] : va_W)) := hD
      have hK9 : kFl (kCm bg bc ps) ((kCh bg bc [(0, 10), (1, 0), (1, 1), (2, 2)] 1 (ps, kT0)).2.1) := by
        rw [hKC]
        exact ⟨hCx.2, rfl⟩
      have hw9 : ((kCh bg bc [(0, 10), (1, 0), (1, 1), (2, 2)] 1 (ps, kT0)).2.1 : Int) = (kCm bg bc ps).2.1 := hK9.2.symm
      have hxf : XF E q9 (some (8, [iv ((kCh bg bc [(0, 10), (1, 0), (1, 1), (2, 2)] 1 (ps, kT0)).2.1)])) H := hxf
      rw [hw9] at hP hD hxf
      exact n_out () (by exact ⟨hCx.1, hK9.1⟩) hP hD hS hxf (Nat.le_trans hz_61 hq9) hce hcv hcl (fun x hx9 => (htb x hx9).elim) hlocks (Nat.le_of_ble_eq_true rfl) (Nat.le_of_ble_eq_true rfl)
    · intro u_62 H locs hC hP hD hS
      have hu_62 : (kCh bg bc [(0, 10), (1, 0), (1, 1), (2, 2)] 1 (ps, kT0)).1 = true := hC
      have hP : va_P E.1 CL (([(pr, .inr (4, [.ref bf, iv ((kCh bg bc [(0, 10), (1, 0), (1, 1), (2, 2)] 1 (ps, kT0)).2.1), .ref al]))] : va_W) ++ ([(bf, .inr (10, [.ref bv, iv 0, iv bm, iv bc]))] : va_W) ++ ([(bv, ia (E.2 3) bn bg)] : va_W) ++ ([(u_62, .inl (E.2 (3000 + 13), 3, .inl (fun zk : Nat => iI (if zk = 0 then (kCh bg bc [(0, 10), (1, 0), (1, 1), (2, 2)] 1 (ps, kT0)).2.2 1 else if zk = 1 then (kCh bg bc [(0, 10), (1, 0), (1, 1), (2, 2)] 1 (ps, kT0)).2.2 2 else (kCh bg bc [(0, 10), (1, 0), (1, 1), (2, 2)] 1 (ps, kT0)).2.2 3))))] : va_W)) H := hP
      have hD : va_D A (([(pr, .inr (4, [.ref bf, iv ((kCh bg bc [(0, 10), (1, 0), (1, 1), (2, 2)] 1 (ps, kT0)).2.1), .ref al]))] : va_W) ++ ([(bf, .inr (10, [.ref bv, iv 0, iv bm, iv bc]))] : va_W) ++ ([(bv, ia (E.2 3) bn bg)] : va_W) ++ ([(u_62, .inl (E.2 (3000 + 13), 3, .inl (fun zk : Nat => iI (if zk = 0 then (kCh bg bc [(0, 10), (1, 0), (1, 1), (2, 2)] 1 (ps, kT0)).2.2 1 else if zk = 1 then (kCh bg bc [(0, 10), (1, 0), (1, 1), (2, 2)] 1 (ps, kT0)).2.2 2 else (kCh bg bc [(0, 10), (1, 0), (1, 1), (2, 2)] 1 (ps, kT0)).2.2 3))))] : va_W)) := hD
      have hK8 : (kCm bg bc ps).1 = true ∧ (kCm bg bc ps).2.1 = (kCh bg bc [(0, 10), (1, 0), (1, 1), (2, 2)] 1 (ps, kT0)).2.1 := by rw [hKC]; exact ⟨hu_62, rfl⟩
      rw [← hKC] at hP hD
      have hP : va_P E.1 CL (([(pr, .inr (4, [.ref bf, iv ((kCm bg bc ps).2.1), .ref al]))] : va_W) ++ ([(bf, .inr (10, [.ref bv, iv 0, iv bm, iv bc]))] : va_W) ++ ([(bv, ia (E.2 3) bn bg)] : va_W) ++ ([(u_62, .inl (E.2 (3000 + 13), 3, .inl (fun zk : Nat => iI (if zk = 0 then (kCm bg bc ps).2.2 1 else if zk = 1 then (kCm bg bc ps).2.2 2 else (kCm bg bc ps).2.2 3))))] : va_W)) H := hP
      have hD : va_D A (([(pr, .inr (4, [.ref bf, iv ((kCm bg bc ps).2.1), .ref al]))] : va_W) ++ ([(bf, .inr (10, [.ref bv, iv 0, iv bm, iv bc]))] : va_W) ++ ([(bv, ia (E.2 3) bn bg)] : va_W) ++ ([(u_62, .inl (E.2 (3000 + 13), 3, .inl (fun zk : Nat => iI (if zk = 0 then (kCm bg bc ps).2.2 1 else if zk = 1 then (kCm bg bc ps).2.2 2 else (kCm bg bc ps).2.2 3))))] : va_W)) := hD
      rw [show ([(u_62, .inl (E.2 (3000 + 13), 3, .inl (fun zk : Nat => iI (if zk = 0 then (kCm bg bc ps).2.2 1 else if zk = 1 then (kCm bg bc ps).2.2 2 else (kCm bg bc ps).2.2 3))))] : va_W) = (chg E u_62 (kKd bg bc ps) ((kCm bg bc ps).2.2 1) ((kCm bg bc ps).2.2 2) ((kCm bg bc ps).2.2 3)) from by rw [hkd]; rfl] at hP hD
      have hP : va_P E.1 CL (([(pr, .inr (4, [.ref bf, iv ((kCm bg bc ps).2.1), .ref al]))] : va_W) ++ ([(bf, .inr (10, [.ref bv, iv 0, iv bm, iv bc]))] : va_W) ++ ([(bv, ia (E.2 3) bn bg)] : va_W) ++ ((chg E u_62 (kKd bg bc ps) ((kCm bg bc ps).2.2 1) ((kCm bg bc ps).2.2 2) ((kCm bg bc ps).2.2 3)))) H := hP
      have hD : va_D A (([(pr, .inr (4, [.ref bf, iv ((kCm bg bc ps).2.1), .ref al]))] : va_W) ++ ([(bf, .inr (10, [.ref bv, iv 0, iv bm, iv bc]))] : va_W) ++ ([(bv, ia (E.2 3) bn bg)] : va_W) ++ ((chg E u_62 (kKd bg bc ps) ((kCm bg bc ps).2.2 1) ((kCm bg bc ps).2.2 2) ((kCm bg bc ps).2.2 3)))) := hD
      refine vx_ret ?_
      refine W.widen (k := 5) (n := 31) (Nat.le_of_ble_eq_true rfl) (Nat.le_of_ble_eq_true rfl) ?_
      exact W.aret hx hb hr (Or.inl ⟨_, rfl⟩) (Or.inr ⟨_, rfl⟩) (fun tt_ ht_ hW_ => ⟨⟨u_62, rfl, ⟨hK8.1, fun h9 => absurd (hkd.symm.trans h9) (by decide)⟩, by rw [ht_]; exact hP, hD⟩, hS.F ht_⟩) hS.2.2 dX4_change_96
  by_cases c_66 : p_here bg bc ps = 115
  · refine n_tabIn (off := 137) (tgt := 141) hx hb dX4_change_4 c_66 (by decide) (by decide) (by decide) (by decide) ?_
    refine lv_aload_n hx hb dX4_change_141 rfl (lv_at hl 0 rfl) ?_
    have hkd : kKd bg bc ps = 5 := by unfold kKd; (repeat' split) <;> omega
    have hKC : kCm bg bc ps = (kCh bg bc [(0, 16), (1, 0), (1, 0)] 1 (ps, kT0)) := by unfold kCm; rw [hkd]; rfl
    have hg_67 : gpick [[(pr, .inr (4, [.ref bf, iv ps, .ref al]))], [(bf, .inr (10, [.ref bv, iv 0, iv bm, iv bc]))], [(bv, ia (E.2 3) bn bg)]] ([[(pr, .inr (4, [.ref bf, iv ps, .ref al]))], [(bf, .inr (10, [.ref bv, iv 0, iv bm, iv bc]))], [(bv, ia (E.2 3) bn bg)]] ++ []) [0, 1, 2] := ⟨rfl, (show List.Perm [0, 1, 2] (List.range 3) from by decide)⟩
    have hg_67P : va_P E.1 CL (([(pr, .inr (4, [.ref bf, iv ps, .ref al]))] : va_W) ++ ([(bf, .inr (10, [.ref bv, iv 0, iv bm, iv bc]))] : va_W) ++ ([(bv, ia (E.2 3) bn bg)] : va_W)) s.heap := (g_out hg_67 hP hD).1
    have hg_67D : va_D A (([(pr, .inr (4, [.ref bf, iv ps, .ref al]))] : va_W) ++ ([(bf, .inr (10, [.ref bv, iv 0, iv bm, iv bc]))] : va_W) ++ ([(bv, ia (E.2 3) bn bg)] : va_W)) := (g_out hg_67 hP hD).2
    have hg_67F : ∀ q, va_A (([(pr, .inr (4, [.ref bf, iv ps, .ref al]))] : va_W) ++ ([(bf, .inr (10, [.ref bv, iv 0, iv bm, iv bc]))] : va_W) ++ ([(bv, ia (E.2 3) bn bg)] : va_W)) s.heap.size q → A q := g_free hg_67 hP hD hS hA
    have hz_68 : s.heap.size ≤ s.heap.size := hS.1
    have hj_71 : ∀ u_69 : Nat, gpick ([[(pr, .inr (4, [.ref bf, iv ((kCh bg bc [(0, 16), (1, 0), (1, 0)] 1 (ps, kT0)).2.1), .ref al]))], [(bf, .inr (10, [.ref bv, iv 0, iv bm, iv bc]))], [(bv, ia (E.2 3) bn bg)], [(u_69, .inl (E.2 (3000 + 18), 2, .inl (fun zk : Nat => iI (if zk = 0 then (kCh bg bc [(0, 16), (1, 0), (1, 0)] 1 (ps, kT0)).2.2 1 else (kCh bg bc [(0, 16), (1, 0), (1, 0)] 1 (ps, kT0)).2.2 2))))]] ++ []) [[(pr, .inr (4, [.ref bf, iv ((kCh bg bc [(0, 16), (1, 0), (1, 0)] 1 (ps, kT0)).2.1), .ref al]))], [(bf, .inr (10, [.ref bv, iv 0, iv bm, iv bc]))], [(bv, ia (E.2 3) bn bg)], [(u_69, .inl (E.2 (3000 + 18), 2, .inl (fun zk : Nat => iI (if zk = 0 then (kCh bg bc [(0, 16), (1, 0), (1, 0)] 1 (ps, kT0)).2.2 1 else (kCh bg bc [(0, 16), (1, 0), (1, 0)] 1 (ps, kT0)).2.2 2))))]] [0, 1, 2, 3] := fun u_69 => ⟨rfl, (show List.Perm [0, 1, 2, 3] (List.range 4) from by decide)⟩
    have hj_72 : ∀ u_70 : Unit, gpick ([[(pr, .inr (4, [.ref bf, iv ((kCh bg bc [(0, 16), (1, 0), (1, 0)] 1 (ps, kT0)).2.1), .ref al]))], [(bf, .inr (10, [.ref bv, iv 0, iv bm, iv bc]))], [(bv, ia (E.2 3) bn bg)]] ++ []) [[(pr, .inr (4, [.ref bf, iv ((kCh bg bc [(0, 16), (1, 0), (1, 0)] 1 (ps, kT0)).2.1), .ref al]))], [(bf, .inr (10, [.ref bv, iv 0, iv bm, iv bc]))], [(bv, ia (E.2 3) bn bg)]] [0, 1, 2] := fun u_70 => ⟨rfl, (show List.Perm [0, 1, 2] (List.range 3) from by decide)⟩
    refine n_txyB (y := fun u_69 => .ref u_69) (w2 := fun u_69 => ([(pr, .inr (4, [.ref bf, iv ((kCh bg bc [(0, 16), (1, 0), (1, 0)] 1 (ps, kT0)).2.1), .ref al]))] : va_W) ++ ([(bf, .inr (10, [.ref bv, iv 0, iv bm, iv bc]))] : va_W) ++ ([(bv, ia (E.2 3) bn bg)] : va_W) ++ ([(u_69, .inl (E.2 (3000 + 18), 2, .inl (fun zk : Nat => iI (if zk = 0 then (kCh bg bc [(0, 16), (1, 0), (1, 0)] 1 (ps, kT0)).2.2 1 else (kCh bg bc [(0, 16), (1, 0), (1, 0)] 1 (ps, kT0)).2.2 2))))] : va_W)) (w3 := fun u_70 => ([(pr, .inr (4, [.ref bf, iv ((kCh bg bc [(0, 16), (1, 0), (1, 0)] 1 (ps, kT0)).2.1), .ref al]))] : va_W) ++ ([(bf, .inr (10, [.ref bv, iv 0, iv bm, iv bc]))] : va_W) ++ ([(bv, ia (E.2 3) bn bg)] : va_W)) (vx_runV (As := []) (rest := []) ⟨hx, hb, hml, hown, hts⟩ (mt_X4_swapping l E pr ps al bf bm bc bv bg  (bn) (by exact hst) (by omega) (by omega) (by assumption) (by omega) _) (cwV 0 hts (lw_V q1874 q1876 qs38 q103 q1877) rfl rfl rfl (by decide +kernel) ⟨Nat.le_of_ble_eq_true rfl, Nat.le_of_ble_eq_true rfl⟩) (UX_V hg_67P hK (hg_67D) hE hS hg_67F (va_recv hK.1 hP (ci := 4) (q0 := 0) rfl rfl)) rfl rfl hl.1 rfl (lv_room (Nat.le_of_ble_eq_true rfl)) dX4_change_142 ⟨Nat.le_of_ble_eq_true rfl, Nat.le_of_ble_eq_true rfl⟩) hS hg_67F ?_ ?_ ?_ ?_
    · exact (fun u_69 _ hk9 hp9 hd9 => g_back hg_67 (hj_71 u_69) hP hD hg_67F hk9 hp9 hd9)
    · exact (fun u_70 _ hk9 hp9 hd9 => g_back hg_67 (hj_72 u_70) hP hD hg_67F hk9 hp9 hd9)
    · intro En ce q9 u_70 H locs hCx hP hD hS hxf hq9 hce hcv hcl
      have hCx : En = "ClockworkTailor$SyntaxError" ∧ (kCh bg bc [(0, 16), (1, 0), (1, 0)] 1 (ps, kT0)).1 = false := hCx
      have hP : va_P E.1 CL (([(pr, .inr (4, [.ref bf, iv ((kCh bg bc [(0, 16), (1, 0), (1, 0)] 1 (ps, kT0)).2.1), .ref al]))] : va_W) ++ ([(bf, .inr (10, [.ref bv, iv 0, iv bm, iv bc]))] : va_W) ++ ([(bv, ia (E.2 3) bn bg)] : va_W)) H := hP
      have hD : va_D A (([(pr, .inr (4, [.ref bf, iv ((kCh bg bc [(0, 16), (1, 0), (1, 0)] 1 (ps, kT0)).2.1), .ref al]))] : va_W) ++ ([(bf, .inr (10, [.ref bv, iv 0, iv bm, iv bc]))] : va_W) ++ ([(bv, ia (E.2 3) bn bg)] : va_W)) := hD
      have hK9 : kFl (kCm bg bc ps) ((kCh bg bc [(0, 16), (1, 0), (1, 0)] 1 (ps, kT0)).2.1) := by
        rw [hKC]
        exact ⟨hCx.2, rfl⟩
      have hw9 : ((kCh bg bc [(0, 16), (1, 0), (1, 0)] 1 (ps, kT0)).2.1 : Int) = (kCm bg bc ps).2.1 := hK9.2.symm
      have hxf : XF E q9 (some (8, [iv ((kCh bg bc [(0, 16), (1, 0), (1, 0)] 1 (ps, kT0)).2.1)])) H := hxf
      rw [hw9] at hP hD hxf
      exact n_out () (by exact ⟨hCx.1, hK9.1⟩) hP hD hS hxf (Nat.le_trans hz_68 hq9) hce hcv hcl (fun x hx9 => (htb x hx9).elim) hlocks (Nat.le_of_ble_eq_true rfl) (Nat.le_of_ble_eq_true rfl)
    · intro u_69 H locs hC hP hD hS
      have hu_69 : (kCh bg bc [(0, 16), (1, 0), (1, 0)] 1 (ps, kT0)).1 = true := hC
      have hP : va_P E.1 CL (([(pr, .inr (4, [.ref bf, iv ((kCh bg bc [(0, 16), (1, 0), (1, 0)] 1 (ps, kT0)).2.1), .ref al]))] : va_W) ++ ([(bf, .inr (10, [.ref bv, iv 0, iv bm, iv bc]))] : va_W) ++ ([(bv, ia (E.2 3) bn bg)] : va_W) ++ ([(u_69, .inl (E.2 (3000 + 18), 2, .inl (fun zk : Nat => iI (if zk = 0 then (kCh bg bc [(0, 16), (1, 0), (1, 0)] 1 (ps, kT0)).2.2 1 else (kCh bg bc [(0, 16), (1, 0), (1, 0)] 1 (ps, kT0)).2.2 2))))] : va_W)) H := hP
      have hD : va_D A (([(pr, .inr (4, [.ref bf, iv ((kCh bg bc [(0, 16), (1, 0), (1, 0)] 1 (ps, kT0)).2.1), .ref al]))] : va_W) ++ ([(bf, .inr (10, [.ref bv, iv 0, iv bm, iv bc]))] : va_W) ++ ([(bv, ia (E.2 3) bn bg)] : va_W) ++ ([(u_69, .inl (E.2 (3000 + 18), 2, .inl (fun zk : Nat => iI (if zk = 0 then (kCh bg bc [(0, 16), (1, 0), (1, 0)] 1 (ps, kT0)).2.2 1 else (kCh bg bc [(0, 16), (1, 0), (1, 0)] 1 (ps, kT0)).2.2 2))))] : va_W)) := hD
      have hK8 : (kCm bg bc ps).1 = true ∧ (kCm bg bc ps).2.1 = (kCh bg bc [(0, 16), (1, 0), (1, 0)] 1 (ps, kT0)).2.1 := by rw [hKC]; exact ⟨hu_69, rfl⟩
      rw [← hKC] at hP hD
      have hP : va_P E.1 CL (([(pr, .inr (4, [.ref bf, iv ((kCm bg bc ps).2.1), .ref al]))] : va_W) ++ ([(bf, .inr (10, [.ref bv, iv 0, iv bm, iv bc]))] : va_W) ++ ([(bv, ia (E.2 3) bn bg)] : va_W) ++ ([(u_69, .inl (E.2 (3000 + 18), 2, .inl (fun zk : Nat => iI (if zk = 0 then (kCm bg bc ps).2.2 1 else (kCm bg bc ps).2.2 2))))] : va_W)) H := hP
      have hD : va_D A (([(pr, .inr (4, [.ref bf, iv ((kCm bg bc ps).2.1), .ref al]))] : va_W) ++ ([(bf, .inr (10, [.ref bv, iv 0, iv bm, iv bc]))] : va_W) ++ ([(bv, ia (E.2 3) bn bg)] : va_W) ++ ([(u_69, .inl (E.2 (3000 + 18), 2, .inl (fun zk : Nat => iI (if zk = 0 then (kCm bg bc ps).2.2 1 else (kCm bg bc ps).2.2 2))))] : va_W)) := hD
      rw [show ([(u_69, .inl (E.2 (3000 + 18), 2, .inl (fun zk : Nat => iI (if zk = 0 then (kCm bg bc ps).2.2 1 else (kCm bg bc ps).2.2 2))))] : va_W) = (chg E u_69 (kKd bg bc ps) ((kCm bg bc ps).2.2 1) ((kCm bg bc ps).2.2 2) ((kCm bg bc ps).2.2 3)) from by rw [hkd]; rfl] at hP hD
      have hP : va_P E.1 CL (([(pr, .inr (4, [.ref bf, iv ((kCm bg bc ps).2.1), .ref al]))] : va_W) ++ ([(bf, .inr (10, [.ref bv, iv 0, iv bm, iv bc]))] : va_W) ++ ([(bv, ia (E.2 3) bn bg)] : va_W) ++ ((chg E u_69 (kKd bg bc ps) ((kCm bg bc ps).2.2 1) ((kCm bg bc ps).2.2 2) ((kCm bg bc ps).2.2 3)))) H := hP
      have hD : va_D A (([(pr, .inr (4, [.ref bf, iv ((kCm bg bc ps).2.1), .ref al]))] : va_W) ++ ([(bf, .inr (10, [.ref bv, iv 0, iv bm, iv bc]))] : va_W) ++ ([(bv, ia (E.2 3) bn bg)] : va_W) ++ ((chg E u_69 (kKd bg bc ps) ((kCm bg bc ps).2.2 1) ((kCm bg bc ps).2.2 2) ((kCm bg bc ps).2.2 3)))) := hD
      refine vx_ret ?_
      refine W.widen (k := 5) (n := 31) (Nat.le_of_ble_eq_true rfl) (Nat.le_of_ble_eq_true rfl) ?_
      exact W.aret hx hb hr (Or.inl ⟨_, rfl⟩) (Or.inr ⟨_, rfl⟩) (fun tt_ ht_ hW_ => ⟨⟨u_69, rfl, ⟨hK8.1, fun h9 => absurd (hkd.symm.trans h9) (by decide)⟩, by rw [ht_]; exact hP, hD⟩, hS.F ht_⟩) hS.2.2 dX4_change_145
  have j_73 : W p l e (headSpec (ws_ yX4_change cX4_change 1 (some (.object "ClockworkTailor$Change"))) { frames := 9, cells := 5, slots := 31, locals := 3098 }).room s m ([.ref pr] : List Value).toArray below meth c s.heap [] 0 0 (vx_MQ below (UQxy E (fun u : Nat => (kCm bg bc ps).1 = true ∧ (kKd bg bc ps = 7 → u = EX E 3020)) (fun u : Nat => .ref u) (fun u : Nat => ([(pr, .inr (4, [.ref bf, iv ((kCm bg bc ps).2.1), .ref al]))] : va_W) ++ ([(bf, .inr (10, [.ref bv, iv 0, iv bm, iv bc]))] : va_W) ++ ([(bv, ia (E.2 3) bn bg)] : va_W) ++ ((chg E u (kKd bg bc ps) ((kCm bg bc ps).2.2 1) ((kCm bg bc ps).2.2 2) ((kCm bg bc ps).2.2 3)))) A) (UXx E (fun (En : String) (u : Unit) => En = "ClockworkTailor$SyntaxError" ∧ (kCm bg bc ps).1 = false) (fun u : Unit => ([(pr, .inr (4, [.ref bf, iv ((kCm bg bc ps).2.1), .ref al]))] : va_W) ++ ([(bf, .inr (10, [.ref bv, iv 0, iv bm, iv bc]))] : va_W) ++ ([(bv, ia (E.2 3) bn bg)] : va_W)) (fun u : Unit => some (8, [iv (kCm bg bc ps).2.1])) A) ([.ref pr] : List Value).toArray s 5 31 A) (F0 m 161 ls []) := by
    refine lv_aload_n hx hb dX4_change_161 rfl (lv_at hl 0 rfl) ?_
    have hkd : kKd bg bc ps = 10 := by unfold kKd; (repeat' split) <;> omega
    have hKC : kCm bg bc ps = (kCh bg bc [(0, 20), (2, 2), (2, 1), (2, 1)] 1 (ps, kT0)) := by unfold kCm; rw [hkd]; rfl
    have hg_74 : gpick [[(pr, .inr (4, [.ref bf, iv ps, .ref al]))], [(bf, .inr (10, [.ref bv, iv 0, iv bm, iv bc]))], [(bv, ia (E.2 3) bn bg)]] ([[(pr, .inr (4, [.ref bf, iv ps, .ref al]))], [(bf, .inr (10, [.ref bv, iv 0, iv bm, iv bc]))], [(bv, ia (E.2 3) bn bg)]] ++ []) [0, 1, 2] := ⟨rfl, (show List.Perm [0, 1, 2] (List.range 3) from by decide)⟩
    have hg_74P : va_P E.1 CL (([(pr, .inr (4, [.ref bf, iv ps, .ref al]))] : va_W) ++ ([(bf, .inr (10, [.ref bv, iv 0, iv bm, iv bc]))] : va_W) ++ ([(bv, ia (E.2 3) bn bg)] : va_W)) s.heap := (g_out hg_74 hP hD).1
    have hg_74D : va_D A (([(pr, .inr (4, [.ref bf, iv ps, .ref al]))] : va_W) ++ ([(bf, .inr (10, [.ref bv, iv 0, iv bm, iv bc]))] : va_W) ++ ([(bv, ia (E.2 3) bn bg)] : va_W)) := (g_out hg_74 hP hD).2
    have hg_74F : ∀ q, va_A (([(pr, .inr (4, [.ref bf, iv ps, .ref al]))] : va_W) ++ ([(bf, .inr (10, [.ref bv, iv 0, iv bm, iv bc]))] : va_W) ++ ([(bv, ia (E.2 3) bn bg)] : va_W)) s.heap.size q → A q := g_free hg_74 hP hD hS hA
    have hz_75 : s.heap.size ≤ s.heap.size := hS.1
    have hj_78 : ∀ u_76 : Nat, gpick ([[(pr, .inr (4, [.ref bf, iv ((kCh bg bc [(0, 20), (2, 2), (2, 1), (2, 1)] 1 (ps, kT0)).2.1), .ref al]))], [(bf, .inr (10, [.ref bv, iv 0, iv bm, iv bc]))], [(bv, ia (E.2 3) bn bg)], [(u_76, .inl (E.2 (3000 + 22), 3, .inl (fun zk : Nat => iI (if zk = 0 then (kCh bg bc [(0, 20), (2, 2), (2, 1), (2, 1)] 1 (ps, kT0)).2.2 1 else if zk = 1 then (kCh bg bc [(0, 20), (2, 2), (2, 1), (2, 1)] 1 (ps, kT0)).2.2 2 else (kCh bg bc [(0, 20), (2, 2), (2, 1), (2, 1)] 1 (ps, kT0)).2.2 3))))]] ++ []) [[(pr, .inr (4, [.ref bf, iv ((kCh bg bc [(0, 20), (2, 2), (2, 1), (2, 1)] 1 (ps, kT0)).2.1), .ref al]))], [(bf, .inr (10, [.ref bv, iv 0, iv bm, iv bc]))], [(bv, ia (E.2 3) bn bg)], [(u_76, .inl (E.2 (3000 + 22), 3, .inl (fun zk : Nat => iI (if zk = 0 then (kCh bg bc [(0, 20), (2, 2), (2, 1), (2, 1)] 1 (ps, kT0)).2.2 1 else if zk = 1 then (kCh bg bc [(0, 20), (2, 2), (2, 1), (2, 1)] 1 (ps, kT0)).2.2 2 else (kCh bg bc [(0, 20), (2, 2), (2, 1), (2, 1)] 1 (ps, kT0)).2.2 3))))]] [0, 1, 2, 3] := fun u_76 => ⟨rfl, (show List.Perm [0, 1, 2, 3] (List.range 4) from by decide)⟩
    have hj_79 : ∀ u_77 : Unit, gpick ([[(pr, .inr (4, [.ref bf, iv ((kCh bg bc [(0, 20), (2, 2), (2, 1), (2, 1)] 1 (ps, kT0)).2.1), .ref al]))], [(bf, .inr (10, [.ref bv, iv 0, iv bm, iv bc]))], [(bv, ia (E.2 3) bn bg)]] ++ []) [[(pr, .inr (4, [.ref bf, iv ((kCh bg bc [(0, 20), (2, 2), (2, 1), (2, 1)] 1 (ps, kT0)).2.1), .ref al]))], [(bf, .inr (10, [.ref bv, iv 0, iv bm, iv bc]))], [(bv, ia (E.2 3) bn bg)]] [0, 1, 2] := fun u_77 => ⟨rfl, (show List.Perm [0, 1, 2] (List.range 3) from by decide)⟩
    refine n_txyB (y := fun u_76 => .ref u_76) (w2 := fun u_76 => ([(pr, .inr (4, [.ref bf, iv ((kCh bg bc [(0, 20), (2, 2), (2, 1), (2, 1)] 1 (ps, kT0)).2.1), .ref al]))] : va_W) ++ ([(bf, .inr (10, [.ref bv, iv 0, iv bm, iv bc]))] : va_W) ++ ([(bv, ia (E.2 3) bn bg)] : va_W) ++ ([(u_76, .inl (E.2 (3000 + 22), 3, .inl (fun zk : Nat => iI (if zk = 0 then (kCh bg bc [(0, 20), (2, 2), (2, 1), (2, 1)] 1 (ps, kT0)).2.2 1 else if zk = 1 then (kCh bg bc [(0, 20), (2, 2), (2, 1), (2, 1)] 1 (ps, kT0)).2.2 2 else (kCh bg bc [(0, 20), (2, 2), (2, 1), (2, 1)] 1 (ps, kT0)).2.2 3))))] : va_W)) (w3 := fun u_77 => ([(pr, .inr (4, [.ref bf, iv ((kCh bg bc [(0, 20), (2, 2), (2, 1), (2, 1)] 1 (ps, kT0)).2.1), .ref al]))] : va_W) ++ ([(bf, .inr (10, [.ref bv, iv 0, iv bm, iv bc]))] : va_W) ++ ([(bv, ia (E.2 3) bn bg)] : va_W)) (vx_runV (As := []) (rest := []) ⟨hx, hb, hml, hown, hts⟩ (mt_X4_touching l E pr ps al bf bm bc bv bg  (bn) (by exact hst) (by omega) (by omega) (by assumption) (by omega) _) (cwV 0 hts (lw_V q1906 q1908 qs42 q103 q1909) rfl rfl rfl (by decide +kernel) ⟨Nat.le_of_ble_eq_true rfl, Nat.le_of_ble_eq_true rfl⟩) (UX_V hg_74P hK (hg_74D) hE hS hg_74F (va_recv hK.1 hP (ci := 4) (q0 := 0) rfl rfl)) rfl rfl hl.1 rfl (lv_room (Nat.le_of_ble_eq_true rfl)) dX4_change_162 ⟨Nat.le_of_ble_eq_true rfl, Nat.le_of_ble_eq_true rfl⟩) hS hg_74F ?_ ?_ ?_ ?_
    · exact (fun u_76 _ hk9 hp9 hd9 => g_back hg_74 (hj_78 u_76) hP hD hg_74F hk9 hp9 hd9)
    · exact (fun u_77 _ hk9 hp9 hd9 => g_back hg_74 (hj_79 u_77) hP hD hg_74F hk9 hp9 hd9)
    · intro En ce q9 u_77 H locs hCx hP hD hS hxf hq9 hce hcv hcl
      have hCx : En = "ClockworkTailor$SyntaxError" ∧ (kCh bg bc [(0, 20), (2, 2), (2, 1), (2, 1)] 1 (ps, kT0)).1 = false := hCx
      have hP : va_P E.1 CL (([(pr, .inr (4, [.ref bf, iv ((kCh bg bc [(0, 20), (2, 2), (2, 1), (2, 1)] 1 (ps, kT0)).2.1), .ref al]))] : va_W) ++ ([(bf, .inr (10, [.ref bv, iv 0, iv bm, iv bc]))] : va_W) ++ ([(bv, ia (E.2 3) bn bg)] : va_W)) H := hP
      have hD : va_D A (([(pr, .inr (4, [.ref bf, iv ((kCh bg bc [(0, 20), (2, 2), (2, 1), (2, 1)] 1 (ps, kT0)).2.1), .ref al]))] : va_W) ++ ([(bf, .inr (10, [.ref bv, iv 0, iv bm, iv bc]))] : va_W) ++ ([(bv, ia (E.2 3) bn bg)] : va_W)) := hD
      have hK9 : kFl (kCm bg bc ps) ((kCh bg bc [(0, 20), (2, 2), (2, 1), (2, 1)] 1 (ps, kT0)).2.1) := by
        rw [hKC]
        exact ⟨hCx.2, rfl⟩
      have hw9 : ((kCh bg bc [(0, 20), (2, 2), (2, 1), (2, 1)] 1 (ps, kT0)).2.1 : Int) = (kCm bg bc ps).2.1 := hK9.2.symm
      have hxf : XF E q9 (some (8, [iv ((kCh bg bc [(0, 20), (2, 2), (2, 1), (2, 1)] 1 (ps, kT0)).2.1)])) H := hxf
      rw [hw9] at hP hD hxf
      exact n_out () (by exact ⟨hCx.1, hK9.1⟩) hP hD hS hxf (Nat.le_trans hz_75 hq9) hce hcv hcl (fun x hx9 => (htb x hx9).elim) hlocks (Nat.le_of_ble_eq_true rfl) (Nat.le_of_ble_eq_true rfl)
    · intro u_76 H locs hC hP hD hS
      have hu_76 : (kCh bg bc [(0, 20), (2, 2), (2, 1), (2, 1)] 1 (ps, kT0)).1 = true := hC
      have hP : va_P E.1 CL (([(pr, .inr (4, [.ref bf, iv ((kCh bg bc [(0, 20), (2, 2), (2, 1), (2, 1)] 1 (ps, kT0)).2.1), .ref al]))] : va_W) ++ ([(bf, .inr (10, [.ref bv, iv 0, iv bm, iv bc]))] : va_W) ++ ([(bv, ia (E.2 3) bn bg)] : va_W) ++ ([(u_76, .inl (E.2 (3000 + 22), 3, .inl (fun zk : Nat => iI (if zk = 0 then (kCh bg bc [(0, 20), (2, 2), (2, 1), (2, 1)] 1 (ps, kT0)).2.2 1 else if zk = 1 then (kCh bg bc [(0, 20), (2, 2), (2, 1), (2, 1)] 1 (ps, kT0)).2.2 2 else (kCh bg bc [(0, 20), (2, 2), (2, 1), (2, 1)] 1 (ps, kT0)).2.2 3))))] : va_W)) H := hP
      have hD : va_D A (([(pr, .inr (4, [.ref bf, iv ((kCh bg bc [(0, 20), (2, 2), (2, 1), (2, 1)] 1 (ps, kT0)).2.1), .ref al]))] : va_W) ++ ([(bf, .inr (10, [.ref bv, iv 0, iv bm, iv bc]))] : va_W) ++ ([(bv, ia (E.2 3) bn bg)] : va_W) ++ ([(u_76, .inl (E.2 (3000 + 22), 3, .inl (fun zk : Nat => iI (if zk = 0 then (kCh bg bc [(0, 20), (2, 2), (2, 1), (2, 1)] 1 (ps, kT0)).2.2 1 else if zk = 1 then (kCh bg bc [(0, 20), (2, 2), (2, 1), (2, 1)] 1 (ps, kT0)).2.2 2 else (kCh bg bc [(0, 20), (2, 2), (2, 1), (2, 1)] 1 (ps, kT0)).2.2 3))))] : va_W)) := hD
      have hK8 : (kCm bg bc ps).1 = true ∧ (kCm bg bc ps).2.1 = (kCh bg bc [(0, 20), (2, 2), (2, 1), (2, 1)] 1 (ps, kT0)).2.1 := by rw [hKC]; exact ⟨hu_76, rfl⟩
      rw [← hKC] at hP hD
      have hP : va_P E.1 CL (([(pr, .inr (4, [.ref bf, iv ((kCm bg bc ps).2.1), .ref al]))] : va_W) ++ ([(bf, .inr (10, [.ref bv, iv 0, iv bm, iv bc]))] : va_W) ++ ([(bv, ia (E.2 3) bn bg)] : va_W) ++ ([(u_76, .inl (E.2 (3000 + 22), 3, .inl (fun zk : Nat => iI (if zk = 0 then (kCm bg bc ps).2.2 1 else if zk = 1 then (kCm bg bc ps).2.2 2 else (kCm bg bc ps).2.2 3))))] : va_W)) H := hP
      have hD : va_D A (([(pr, .inr (4, [.ref bf, iv ((kCm bg bc ps).2.1), .ref al]))] : va_W) ++ ([(bf, .inr (10, [.ref bv, iv 0, iv bm, iv bc]))] : va_W) ++ ([(bv, ia (E.2 3) bn bg)] : va_W) ++ ([(u_76, .inl (E.2 (3000 + 22), 3, .inl (fun zk : Nat => iI (if zk = 0 then (kCm bg bc ps).2.2 1 else if zk = 1 then (kCm bg bc ps).2.2 2 else (kCm bg bc ps).2.2 3))))] : va_W)) := hD
      rw [show ([(u_76, .inl (E.2 (3000 + 22), 3, .inl (fun zk : Nat => iI (if zk = 0 then (kCm bg bc ps).2.2 1 else if zk = 1 then (kCm bg bc ps).2.2 2 else (kCm bg bc ps).2.2 3))))] : va_W) = (chg E u_76 (kKd bg bc ps) ((kCm bg bc ps).2.2 1) ((kCm bg bc ps).2.2 2) ((kCm bg bc ps).2.2 3)) from by rw [hkd]; rfl] at hP hD
      have hP : va_P E.1 CL (([(pr, .inr (4, [.ref bf, iv ((kCm bg bc ps).2.1), .ref al]))] : va_W) ++ ([(bf, .inr (10, [.ref bv, iv 0, iv bm, iv bc]))] : va_W) ++ ([(bv, ia (E.2 3) bn bg)] : va_W) ++ ((chg E u_76 (kKd bg bc ps) ((kCm bg bc ps).2.2 1) ((kCm bg bc ps).2.2 2) ((kCm bg bc ps).2.2 3)))) H := hP
      have hD : va_D A (([(pr, .inr (4, [.ref bf, iv ((kCm bg bc ps).2.1), .ref al]))] : va_W) ++ ([(bf, .inr (10, [.ref bv, iv 0, iv bm, iv bc]))] : va_W) ++ ([(bv, ia (E.2 3) bn bg)] : va_W) ++ ((chg E u_76 (kKd bg bc ps) ((kCm bg bc ps).2.2 1) ((kCm bg bc ps).2.2 2) ((kCm bg bc ps).2.2 3)))) := hD
      refine vx_ret ?_
      refine W.widen (k := 5) (n := 31) (Nat.le_of_ble_eq_true rfl) (Nat.le_of_ble_eq_true rfl) ?_
      exact W.aret hx hb hr (Or.inl ⟨_, rfl⟩) (Or.inr ⟨_, rfl⟩) (fun tt_ ht_ hW_ => ⟨⟨u_76, rfl, ⟨hK8.1, fun h9 => absurd (hkd.symm.trans h9) (by decide)⟩, by rw [ht_]; exact hP, hD⟩, hS.F ht_⟩) hS.2.2 dX4_change_165
  by_cases c_80 : p_here bg bc ps = 101
  · exact n_tabIn (off := 157) (tgt := 161) hx hb dX4_change_4 c_80 (by decide) (by decide) (by decide) (by decide) j_73
  by_cases c_81 : p_here bg bc ps = 102
  · exact n_tabIn (off := 157) (tgt := 161) hx hb dX4_change_4 c_81 (by decide) (by decide) (by decide) (by decide) j_73
  by_cases c_82 : p_here bg bc ps = 103
  · exact n_tabIn (off := 157) (tgt := 161) hx hb dX4_change_4 c_82 (by decide) (by decide) (by decide) (by decide) j_73
  by_cases c_83 : p_here bg bc ps = 104
  · exact n_tabIn (off := 157) (tgt := 161) hx hb dX4_change_4 c_83 (by decide) (by decide) (by decide) (by decide) j_73
  by_cases c_84 : p_here bg bc ps = 105
  · exact n_tabIn (off := 157) (tgt := 161) hx hb dX4_change_4 c_84 (by decide) (by decide) (by decide) (by decide) j_73
  by_cases c_85 : p_here bg bc ps = 106
  · exact n_tabIn (off := 157) (tgt := 161) hx hb dX4_change_4 c_85 (by decide) (by decide) (by decide) (by decide) j_73
  by_cases c_86 : p_here bg bc ps = 107
  · exact n_tabIn (off := 157) (tgt := 161) hx hb dX4_change_4 c_86 (by decide) (by decide) (by decide) (by decide) j_73
  by_cases c_87 : p_here bg bc ps = 112
  · exact n_tabIn (off := 157) (tgt := 161) hx hb dX4_change_4 c_87 (by decide) (by decide) (by decide) (by decide) j_73
  by_cases c_88 : p_here bg bc ps = 113
  · exact n_tabIn (off := 157) (tgt := 161) hx hb dX4_change_4 c_88 (by decide) (by decide) (by decide) (by decide) j_73
  exact n_tabOut (tgt := 161) hx hb dX4_change_4 (by omega) (by omega) (by decide) j_73
