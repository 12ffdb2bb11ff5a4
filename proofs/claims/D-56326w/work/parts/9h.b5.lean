set_option maxHeartbeats 2000000 in
set_option maxRecDepth 100000 in
theorem mt_X3_longestByRounds (l : Launch) (E : EE) (o : Nat → Nat) (sc : Nat → Int) (ar : Nat → Int → Int) (t : Int) (g : Int → Int) (r : Int → Nat) (ht : 0 ≤ t ∧ t < 8) (hbr : BR g ar) (hhn : HN g) (htw : TW g) (hsw : SwOK g) (htm : TM g) (hrk : RK g r) (hr8 : ∀ t, 0 ≤ t → t < 8 → r t < 8) (sz : Nat) : Met l yX3_longestByRounds (ws_ yX3_longestByRounds cX3_longestByRounds 11 (some .int)) { frames := 4, cells := 10, slots := 73, locals := 3093 } (va_Pc [.ref (o 1), iv t] (UX E (BW E o sc ar) sz)) (UQi E (k_lng g 8 t) (BW E o sc ar) (va_A (BW E o sc ar) sz)) 10 73 (va_A (BW E o sc ar) sz) := by
  refine Met.ofW (cc := cX3_longestByRounds) (maxL := 11) (ret := (some .int)) (by decide) rfl ?_
  intro p e s m args below meth c s₁ B hml hv
  obtain ⟨rfl, hsz, hP, hK, hD0, hE⟩ := hv
  have hx := B.exec
  have hb := B.bytes
  have hr := B.returns
  have hts := atoms_spec (ws := (ws_ yX3_longestByRounds cX3_longestByRounds 11 (some .int))) B.pre
  have hts : ∀ w ∈ lw_all, w.before _ s = true := fun w h => hts w (List.mem_cons_of_mem _ h)
  have hown : s.vm.findClass RX3 = some m.cls := findClass_of_methodNamed B.named
  have hlocks := B.notSynchronized
  subst hsz
  have hD := hD0.self (sz := s.heap.size)
  generalize hAe : va_A (BW E o sc ar) s.heap.size = A at hD hE ⊢
  have hA : ∀ q : Nat, s.heap.size ≤ q → A q := fun q h => by rw [← hAe]; exact Or.inr h
  have hS : va_S A s.heap s.heap [] := va_S.rf
  have hl := lv_entry ([.ref (o 1), iv t]) (n := 11) (Nat.le_of_ble_eq_true rfl)
  rw [lg_entry_eq]
  generalize (lg_sl ([.ref (o 1), iv t]) ++ List.replicate (11 - (lg_sl ([.ref (o 1), iv t])).length) Slot.unset).toArray = ls at hl ⊢
  have hl : lv_has ls 11 [(0, .ref (o 1)), (1, iv t)] := hl
  refine lv_aload_n hx hb dX3_longestByRounds_0 rfl (lv_at hl 0 rfl) ?_
  refine n_cuxrS (x := fun u_1 => u_1) (w2 := fun u_1 => (BW E o sc ar) ++ ([(u_1, .inl (E.2 (3000 + 2), 1, .inr (.inr (.inr (.inr (fun _ => some (o 1)))))))])) (va_runV (As := []) (rest := []) ⟨hx, hb, hml, hown, hts⟩ (mt_X3_directWay l E o sc ar  _) (cwV 0 hts (lw_V q731 q732 q733 q96 q734) rfl rfl rfl (by decide +kernel) ⟨Nat.le_of_ble_eq_true rfl, Nat.le_of_ble_eq_true rfl⟩) (UX_V hP hK (hD) hE hS (va_A_in hD hS hA) (va_recv hK.1 hP (ci := 3) (q0 := 0) rfl rfl)) rfl rfl hl.1 rfl (lv_room (Nat.le_of_ble_eq_true rfl)) dX3_longestByRounds_1 ⟨Nat.le_of_ble_eq_true rfl, Nat.le_of_ble_eq_true rfl⟩) hP hD hS hA [0, 1, 2, 3, 4, 5, 6, 7] [] [0, 1, 2, 3, 4, 5, 6, 7, 8] rfl rfl rfl rfl rfl (fun _ => rfl) (fun u_1 H locs hu_1 hP hD hS => ?_)
  have hu_1 : True := hu_1
  have hP : va_P E.1 CL ((BW E o sc ar) ++ ([(u_1, .inl (E.2 (3000 + 2), 1, .inr (.inr (.inr (.inr (fun _ => some (o 1)))))))])) H := hP
  have hD : va_D A ((BW E o sc ar) ++ ([(u_1, .inl (E.2 (3000 + 2), 1, .inr (.inr (.inr (.inr (fun _ => some (o 1)))))))])) := hD
  refine lv_astore_n (lv' := [(2, .ref u_1), (0, .ref (o 1)), (1, iv t)]) hx hb dX3_longestByRounds_4 rfl hl (by decide) rfl (fun ls hl => ?_)
  refine lv_bipush (v := iI 8) hx hb dX3_longestByRounds_5 (by decide) ?_
  refine n_newa hx hb (ty := .int) rfl (hts _ q187) 0 rfl rfl hK hP hD hS hA (N' := 8) rfl (by decide) (by decide) (Nat.le_of_ble_eq_true rfl) (Nat.le_of_ble_eq_true rfl) dX3_longestByRounds_7 (fun q_2 H hP hD hS => ?_)
  have hP : va_P E.1 CL ((BW E o sc ar) ++ ([(u_1, .inl (E.2 (3000 + 2), 1, .inr (.inr (.inr (.inr (fun _ => some (o 1)))))))]) ++ ([(q_2, ia (E.2 0) 8 (fun _ => 0))])) H := hP
  have hD : va_D A ((BW E o sc ar) ++ ([(u_1, .inl (E.2 (3000 + 2), 1, .inr (.inr (.inr (.inr (fun _ => some (o 1)))))))]) ++ ([(q_2, ia (E.2 0) 8 (fun _ => 0))])) := hD
  refine lv_astore_n (lv' := [(3, .ref q_2), (2, .ref u_1), (0, .ref (o 1)), (1, iv t)]) hx hb dX3_longestByRounds_9 rfl hl (by decide) rfl (fun ls hl => ?_)
  refine lv_iconst (v := iI 0) hx hb dX3_longestByRounds_10 rfl ?_
  refine lv_istore (lv' := [(4, iv 0), (3, .ref q_2), (2, .ref u_1), (0, .ref (o 1)), (1, iv t)]) hx hb dX3_longestByRounds_11 hl (by decide) rfl (fun ls hl => ?_)
  have l13 : ∀ (fu : Nat) (cll13 sll13 : Nat) (x4 : Int) (s4 : Int → Int), (cll13 + 1 * fu ≤ 11 ∧ sll13 + 8 * fu ≤ 81) → (0 ≤ x4 ∧ x4 ≤ 8) → (∀ t, 0 ≤ t → t < 8 → s4 t = k_rnd g x4.toNat t) → (8 - x4 < (fu : Int)) → ∀ (H : Heap) (locs : List Loc), va_P E.1 CL ((BW E o sc ar) ++ ([(u_1, .inl (E.2 (3000 + 2), 1, .inr (.inr (.inr (.inr (fun _ => some (o 1)))))))]) ++ ([(q_2, ia (E.2 0) 8 s4)])) H → va_D A ((BW E o sc ar) ++ ([(u_1, .inl (E.2 (3000 + 2), 1, .inr (.inr (.inr (.inr (fun _ => some (o 1)))))))]) ++ ([(q_2, ia (E.2 0) 8 s4)])) → va_S A s.heap H locs → ∀ ls : Array Slot, lv_has ls 11 [(4, iv x4), (3, .ref q_2), (2, .ref u_1), (0, .ref (o 1)), (1, iv t)] → W p l e (headSpec (ws_ yX3_longestByRounds cX3_longestByRounds 11 (some .int)) { frames := 4, cells := 10, slots := 73, locals := 3093 }).room s m ([.ref (o 1), iv t] : List Value).toArray below meth c H locs cll13 sll13 (MQ below (UQi E (k_lng g 8 t) (BW E o sc ar) A) ([.ref (o 1), iv t] : List Value).toArray s 10 73 A) (F0 m 13 ls []) := by
    intro fu
    induction fu with
    | zero =>
      intro cll13 sll13 x4 s4 hgl13 il13_0 il13_1 hm
      exfalso; omega
    | succ fu ih =>
      intro cll13 sll13 x4 s4 hgl13 il13_0 il13_1 hm H locs hP hD hS ls hl
      have ihl13 := ih
      refine lv_iload hx hb dX3_longestByRounds_13 (lv_at hl 0 rfl) ?_
      refine lv_bipush (v := iI 8) hx hb dX3_longestByRounds_15 (by decide) ?_
      refine n_icmp_ge (tgt := 168) hx hb dX3_longestByRounds_17 (by decide) (by omega) (by omega) (fun c_3 => ?_) (fun c_3 => ?_)
      · obtain rfl : x4 = 8 := by omega
        refine lv_aload_n hx hb dX3_longestByRounds_168 rfl (lv_at hl 1 rfl) ?_
        refine lv_iload_n hx hb dX3_longestByRounds_169 rfl (lv_at hl 4 rfl) ?_
        refine n_iald (f := s4) hx hb hK.1 hP 9 0 rfl rfl (by omega) (by decide) dX3_longestByRounds_170 ?_
        have hfin : s4 t = k_lng g 8 t := by
          rw [il13_1 t ht.1 ht.2]
          exact k_rnd_eq hsw hrk 8 t ht (hr8 t ht.1 ht.2)
        have hP := hP.sub (ws' := BW E o sc ar) [0, 1, 2, 3, 4, 5, 6, 7] rfl
        have hD := hD.sub (ws' := BW E o sc ar) [0, 1, 2, 3, 4, 5, 6, 7] (by decide) rfl
        refine W.widen (k := 10) (n := 73) (show cll13 + 0 ≤ 10 by omega) (show sll13 + 0 ≤ 73 by omega) ?_
        exact W.iret (v := iI (s4 t)) hx hb hr (fun tt_ ht_ hW_ => ⟨⟨iI (s4 t), (), rfl, (congrArg iI hfin), by rw [ht_]; exact hP, hD⟩, hS.F ht_⟩) hS.2.2 dX3_longestByRounds_171
      · refine lv_aload_n hx hb dX3_longestByRounds_20 rfl (lv_at hl 1 rfl) ?_
        refine n_clone (rest := []) (f := s4) hx hb (hml.trans hl.1.symm) hown (hts _ q738) (hts _ q739) (hts _ q740) (hts _ q741) (hts _ q742) (hK.nv q743) hK hP hD hS hA 9 rfl (Nat.le_of_ble_eq_true rfl) (Nat.le_of_ble_eq_true rfl) (show cll13 + 1 ≤ 10 by omega) (show sll13 + 8 ≤ 73 by omega) dX3_longestByRounds_21 (fun q_4 H hP hD hS => ?_)
        have hP : va_P E.1 CL ((BW E o sc ar) ++ ([(u_1, .inl (E.2 (3000 + 2), 1, .inr (.inr (.inr (.inr (fun _ => some (o 1)))))))]) ++ ([(q_2, ia (E.2 0) 8 s4)]) ++ ([(q_4, ia (E.2 0) 8 s4)])) H := hP
        have hD : va_D A ((BW E o sc ar) ++ ([(u_1, .inl (E.2 (3000 + 2), 1, .inr (.inr (.inr (.inr (fun _ => some (o 1)))))))]) ++ ([(q_2, ia (E.2 0) 8 s4)]) ++ ([(q_4, ia (E.2 0) 8 s4)])) := hD
        refine va_castE hx hb hown (hts _ q744) (n_recvI hK hP (q0 := 10) rfl) dX3_longestByRounds_24 ?_
        refine lv_astore (lv' := [(5, .ref q_4), (4, iv x4), (3, .ref q_2), (2, .ref u_1), (0, .ref (o 1)), (1, iv t)]) hx hb dX3_longestByRounds_27 hl (by decide) rfl (fun ls hl => ?_)
        have hkb : ∀ t, 0 ≤ t → t < 8 → -1 ≤ s4 t ∧ s4 t ≤ 160 := fun t a b => by rw [il13_1 t a b]; have := k_rnd_r htm x4.toNat t a b; omega
        refine lv_iconst (v := iI 0) hx hb dX3_longestByRounds_29 rfl ?_
        refine lv_istore (lv' := [(6, iv 0), (5, .ref q_4), (4, iv x4), (3, .ref q_2), (2, .ref u_1), (0, .ref (o 1)), (1, iv t)]) hx hb dX3_longestByRounds_30 hl (by decide) rfl (fun ls hl => ?_)
        have l32 : ∀ (fu : Nat) (x6 : Int) (s6 : Int → Int), (0 ≤ x6 ∧ x6 ≤ 8) → (∀ t, 0 ≤ t → t < 8 → s6 t = if t < x6 then k_rnd g (x4.toNat + 1) t else k_rnd g x4.toNat t) → (8 - x6 < (fu : Int)) → ∀ (H : Heap) (locs : List Loc), va_P E.1 CL ((BW E o sc ar) ++ ([(u_1, .inl (E.2 (3000 + 2), 1, .inr (.inr (.inr (.inr (fun _ => some (o 1)))))))]) ++ ([(q_2, ia (E.2 0) 8 s6)]) ++ ([(q_4, ia (E.2 0) 8 s4)])) H → va_D A ((BW E o sc ar) ++ ([(u_1, .inl (E.2 (3000 + 2), 1, .inr (.inr (.inr (.inr (fun _ => some (o 1)))))))]) ++ ([(q_2, ia (E.2 0) 8 s6)]) ++ ([(q_4, ia (E.2 0) 8 s4)])) → va_S A s.heap H locs → ∀ ls : Array Slot, lv_has ls 11 [(6, iv x6), (5, .ref q_4), (4, iv x4), (3, .ref q_2), (2, .ref u_1), (0, .ref (o 1)), (1, iv t)] → W p l e (headSpec (ws_ yX3_longestByRounds cX3_longestByRounds 11 (some .int)) { frames := 4, cells := 10, slots := 73, locals := 3093 }).room s m ([.ref (o 1), iv t] : List Value).toArray below meth c H locs (cll13 + 1) (sll13 + 8) (MQ below (UQi E (k_lng g 8 t) (BW E o sc ar) A) ([.ref (o 1), iv t] : List Value).toArray s 10 73 A) (F0 m 32 ls []) := by
          intro fu
          induction fu with
          | zero =>
            intro x6 s6 il32_0 il32_1 hm
            exfalso; omega
          | succ fu ih =>
            intro x6 s6 il32_0 il32_1 hm H locs hP hD hS ls hl
            have ihl32 := ih
            refine lv_iload hx hb dX3_longestByRounds_32 (lv_at hl 0 rfl) ?_
            refine lv_bipush (v := iI 8) hx hb dX3_longestByRounds_34 (by decide) ?_
            refine n_icmp_ge (tgt := 162) hx hb dX3_longestByRounds_36 (by decide) (by omega) (by omega) (fun c_5 => ?_) (fun c_5 => ?_)
            · refine lv_iinc (v := iI (x4 + 1)) (lv' := [(4, iv (x4 + 1)), (6, iv x6), (5, .ref q_4), (3, .ref q_2), (2, .ref u_1), (0, .ref (o 1)), (1, iv t)]) hx hb dX3_longestByRounds_162 hl (k := 2) rfl (iI_add _ _) (by decide) rfl (fun ls hl => ?_)
              refine lv_goto (tgt := 13) hx hb dX3_longestByRounds_165 (by decide) ?_
              have hP := hP.sub (ws' := (BW E o sc ar) ++ ([(u_1, .inl (E.2 (3000 + 2), 1, .inr (.inr (.inr (.inr (fun _ => some (o 1)))))))]) ++ ([(q_2, ia (E.2 0) 8 s6)])) [0, 1, 2, 3, 4, 5, 6, 7, 8, 9] rfl
              have hD := hD.sub (ws' := (BW E o sc ar) ++ ([(u_1, .inl (E.2 (3000 + 2), 1, .inr (.inr (.inr (.inr (fun _ => some (o 1)))))))]) ++ ([(q_2, ia (E.2 0) 8 s6)])) [0, 1, 2, 3, 4, 5, 6, 7, 8, 9] (by decide) rfl
              exact ihl13 (cll13 + 1) (sll13 + 8) (x4 + 1) s6 (by omega) (by first | omega | rfl) (by intro t a b; rw [il32_1 t a b, if_pos (by omega), show (x4 + 1).toNat = x4.toNat + 1 by omega]) (by omega) H locs hP hD hS ls (lv_sub hl [0, 3, 4, 5, 6] rfl)
            · refine lv_iconst (v := iI 0) hx hb dX3_longestByRounds_39 rfl ?_
              refine lv_istore (lv' := [(7, iv 0), (6, iv x6), (5, .ref q_4), (4, iv x4), (3, .ref q_2), (2, .ref u_1), (0, .ref (o 1)), (1, iv t)]) hx hb dX3_longestByRounds_40 hl (by decide) rfl (fun ls hl => ?_)
              have j_6 : W p l e (headSpec (ws_ yX3_longestByRounds cX3_longestByRounds 11 (some .int)) { frames := 4, cells := 10, slots := 73, locals := 3093 }).room s m ([.ref (o 1), iv t] : List Value).toArray below meth c H locs (cll13 + 1) (sll13 + 8) (MQ below (UQi E (k_lng g 8 t) (BW E o sc ar) A) ([.ref (o 1), iv t] : List Value).toArray s 10 73 A) (F0 m 57 ls [iv (b2 (!(m_has g x6)))]) := by
                refine lv_istore (lv' := [(8, iv (b2 (!(m_has g x6)))), (7, iv 0), (6, iv x6), (5, .ref q_4), (4, iv x4), (3, .ref q_2), (2, .ref u_1), (0, .ref (o 1)), (1, iv t)]) hx hb dX3_longestByRounds_57 hl (by decide) rfl (fun ls hl => ?_)
                refine lv_iconst (v := iI 0) hx hb dX3_longestByRounds_59 rfl ?_
                refine lv_istore (lv' := [(9, iv 0), (8, iv (b2 (!(m_has g x6)))), (7, iv 0), (6, iv x6), (5, .ref q_4), (4, iv x4), (3, .ref q_2), (2, .ref u_1), (0, .ref (o 1)), (1, iv t)]) hx hb dX3_longestByRounds_60 hl (by decide) rfl (fun ls hl => ?_)
                have l62 : ∀ (fu : Nat) (x7 : Int) (mz : Bool) (x9 : Int), (0 ≤ x9 ∧ x9 ≤ 8 ∧ 0 ≤ x7 ∧ x7 ≤ 160) → (x7 = maxI (fun u => if m_edge g false x6 u = true then k_rnd g x4.toNat u else 0) x9) → (mz = (!(m_has g x6) || exB (fun u => m_edge g false x6 u && decide (k_rnd g x4.toNat u = -1)) x9)) → (8 - x9 < (fu : Int)) → ∀ (H : Heap) (locs : List Loc), va_P E.1 CL ((BW E o sc ar) ++ ([(u_1, .inl (E.2 (3000 + 2), 1, .inr (.inr (.inr (.inr (fun _ => some (o 1)))))))]) ++ ([(q_2, ia (E.2 0) 8 s6)]) ++ ([(q_4, ia (E.2 0) 8 s4)])) H → va_D A ((BW E o sc ar) ++ ([(u_1, .inl (E.2 (3000 + 2), 1, .inr (.inr (.inr (.inr (fun _ => some (o 1)))))))]) ++ ([(q_2, ia (E.2 0) 8 s6)]) ++ ([(q_4, ia (E.2 0) 8 s4)])) → va_S A s.heap H locs → ∀ ls : Array Slot, lv_has ls 11 [(9, iv x9), (8, iv (b2 mz)), (7, iv x7), (6, iv x6), (5, .ref q_4), (4, iv x4), (3, .ref q_2), (2, .ref u_1), (0, .ref (o 1)), (1, iv t)] → W p l e (headSpec (ws_ yX3_longestByRounds cX3_longestByRounds 11 (some .int)) { frames := 4, cells := 10, slots := 73, locals := 3093 }).room s m ([.ref (o 1), iv t] : List Value).toArray below meth c H locs (cll13 + 1) (sll13 + 8) (MQ below (UQi E (k_lng g 8 t) (BW E o sc ar) A) ([.ref (o 1), iv t] : List Value).toArray s 10 73 A) (F0 m 62 ls []) := by
                  intro fu
                  induction fu with
                  | zero =>
                    intro x7 mz x9 il62_0 il62_1 il62_2 hm
                    exfalso; omega
                  | succ fu ih =>
                    intro x7 mz x9 il62_0 il62_1 il62_2 hm H locs hP hD hS ls hl
                    have ihl62 := ih
                    refine lv_iload hx hb dX3_longestByRounds_62 (lv_at hl 0 rfl) ?_
                    refine lv_bipush (v := iI 8) hx hb dX3_longestByRounds_64 (by decide) ?_
                    refine n_icmp_ge (tgt := 133) hx hb dX3_longestByRounds_66 (by decide) (by omega) (by omega) (fun c_7 => ?_) (fun c_7 => ?_)
                    · obtain rfl : x9 = 8 := by omega
                      have hks := k_rnd_s g x4.toNat x6
                      refine lv_aload_n hx hb dX3_longestByRounds_133 rfl (lv_at hl 6 rfl) ?_
                      refine lv_iload hx hb dX3_longestByRounds_134 (lv_at hl 3 rfl) ?_
                      have j_8 : W p l e (headSpec (ws_ yX3_longestByRounds cX3_longestByRounds 11 (some .int)) { frames := 4, cells := 10, slots := 73, locals := 3093 }).room s m ([.ref (o 1), iv t] : List Value).toArray below meth c H locs (cll13 + 1) (sll13 + 8) (MQ below (UQi E (k_lng g 8 t) (BW E o sc ar) A) ([.ref (o 1), iv t] : List Value).toArray s 10 73 A) (F0 m 155 ls [iv (k_rnd g (x4.toNat + 1) x6), iv x6, .ref q_2]) := by
                        refine n_iast (f := s6) hx hb hK.1 hP hD hS 9 0 rfl rfl (by omega) (by decide) dX3_longestByRounds_155 (ws2 := (BW E o sc ar) ++ ([(u_1, .inl (E.2 (3000 + 2), 1, .inr (.inr (.inr (.inr (fun _ => some (o 1)))))))]) ++ ([(q_2, ia (E.2 0) 8 (ui s6 x6 (k_rnd g (x4.toNat + 1) x6)))]) ++ ([(q_4, ia (E.2 0) 8 s4)])) rfl (fun H locs hP hD hS => ?_)
                        refine lv_iinc (v := iI (x6 + 1)) (lv' := [(6, iv (x6 + 1)), (9, iv 8), (8, iv (b2 mz)), (7, iv x7), (5, .ref q_4), (4, iv x4), (3, .ref q_2), (2, .ref u_1), (0, .ref (o 1)), (1, iv t)]) hx hb dX3_longestByRounds_156 hl (k := 3) rfl (iI_add _ _) (by decide) rfl (fun ls hl => ?_)
                        refine lv_goto (tgt := 32) hx hb dX3_longestByRounds_159 (by decide) ?_
                        exact ihl32 (x6 + 1) (ui s6 x6 (k_rnd g (x4.toNat + 1) x6)) (by first | omega | rfl) (by intro t a b; unfold ui; by_cases ht : t = x6; (rw [if_pos ht, ht, if_pos (by omega)]); (rw [if_neg ht, il32_1 t a b]; by_cases hu : t < x6; (rw [if_pos hu, if_pos (by omega)]); (rw [if_neg hu, if_neg (by omega)]))) (by omega) H locs hP hD hS ls (lv_sub hl [0, 4, 5, 6, 7, 8, 9] rfl)
                      refine lv_iload hx hb dX3_longestByRounds_136 (lv_at hl 1 rfl) ?_
                      refine n_ifb_eq (tgt := 145) hx hb dX3_longestByRounds_138 (by decide) (fun c_9 => ?_) (fun c_9 => ?_)
                      · have hz9 : (!(m_has g x6) || exB (fun u => m_edge g false x6 u && decide (k_rnd g x4.toNat u = -1)) 8) = false := il62_2 ▸ c_9
                        rw [Bool.or_eq_false_iff] at hz9
                        have hha : m_has g x6 = true := by simpa using hz9.1
                        refine lv_aload_n hx hb dX3_longestByRounds_145 rfl (lv_at hl 8 rfl) ?_
                        refine va_get (D := E.1) (ci := 3) (v := .ref (o 4)) (C := RX3) (T := TX3) (N := 7) hx hb hts in_X3 hown hK.1 hP 0 rfl rfl 2 (by decide) (hts _ q160) (fun _ h9 => h9) rfl dX3_longestByRounds_146 ?_
                        refine lv_iload hx hb dX3_longestByRounds_149 (lv_at hl 3 rfl) ?_
                        refine n_iald (f := ar 4) hx hb hK.1 hP 3 0 rfl rfl (by omega) (by decide) dX3_longestByRounds_151 ?_
                        rw [hbr.mns (t := x6) (by omega) (by first | assumption | exact HN_pos hhn (t := x6) (by omega) (by omega))]
                        refine lv_iload hx hb dX3_longestByRounds_152 (lv_at hl 2 rfl) ?_
                        refine n_iadd hx hb dX3_longestByRounds_154 ?_
                        refine n_top (y := k_rnd g (x4.toNat + 1) x6) (by rw [hks, if_pos hha, if_neg (by rw [hz9.2]; decide), ← il62_1]) ?_
                        exact j_8
                      · have hz9 : (!(m_has g x6) || exB (fun u => m_edge g false x6 u && decide (k_rnd g x4.toNat u = -1)) 8) = true := il62_2 ▸ c_9
                        refine lv_iconst (v := iI (-1)) hx hb dX3_longestByRounds_141 rfl ?_
                        refine lv_goto (tgt := 155) hx hb dX3_longestByRounds_142 (by decide) ?_
                        refine n_top (y := k_rnd g (x4.toNat + 1) x6) (by rw [hks]; cases hq : m_has g x6 with | false => rfl | true => rw [hq, Bool.not_true, Bool.false_or] at hz9; rw [if_pos rfl, if_pos hz9]) ?_
                        exact j_8
                    · refine lv_aload_n hx hb dX3_longestByRounds_69 rfl (lv_at hl 7 rfl) ?_
                      refine lv_iload hx hb dX3_longestByRounds_70 (lv_at hl 3 rfl) ?_
                      refine lv_iload hx hb dX3_longestByRounds_72 (lv_at hl 0 rfl) ?_
                      refine n_tx5S (x := fun _ : Unit => b2 (m_edge g false x6 x9)) (w2 := fun _ => (BW E o sc ar) ++ ([(u_1, .inl (E.2 (3000 + 2), 1, .inr (.inr (.inr (.inr (fun _ => some (o 1)))))))]) ++ ([(q_2, ia (E.2 0) 8 s6)]) ++ ([(q_4, ia (E.2 0) 8 s4)])) (w3 := fun _ : Unit => (BW E o sc ar) ++ ([(u_1, .inl (E.2 (3000 + 2), 1, .inr (.inr (.inr (.inr (fun _ => some (o 1)))))))]) ++ ([(q_2, ia (E.2 0) 8 s6)]) ++ ([(q_4, ia (E.2 0) 8 s4)])) (n_fwZ0 (rest := []) hx hb (hl.1.trans hml.symm) hts hK hown (hts _ q596) ls_2 rfl (by decide +kernel) lk_2 ⟨rfl, rfl, by decide +kernel⟩ (y := yX3_lambda_directWay_0) ⟨rfl, rfl, by decide +kernel, rfl⟩ ⟨by decide +kernel, by decide +kernel⟩ q737 q96 (sig := ⟨[.int, .int], some .boolean⟩) (by decide +kernel) rfl (mt_X3_lambda_directWay_0 l E o sc ar x6 x9 g (by omega) (by omega) (by assumption) (by assumption) (by assumption) (by assumption) _) rfl rfl q736 qs9 (hP 8 _ rfl) rfl rfl rfl (UX_V (hP.sub (ws' := BW E o sc ar) [0, 1, 2, 3, 4, 5, 6, 7] rfl) hK (hD.sub (ws' := BW E o sc ar) [0, 1, 2, 3, 4, 5, 6, 7] rfl rfl) hE hS (va_sub_free hD hS hA [0, 1, 2, 3, 4, 5, 6, 7] rfl) (va_recv hK.1 hP (ci := 3) (q0 := 0) rfl rfl)) (Nat.le_of_ble_eq_true rfl) (Nat.le_of_ble_eq_true rfl) (show (cll13 + 1) + 0 ≤ 10 by omega) (show (sll13 + 8) + 0 ≤ 73 by omega) dX3_longestByRounds_74) hP hD hS hA [0, 1, 2, 3, 4, 5, 6, 7] [8, 9, 10] [3, 4, 5, 6, 7, 8, 9, 10, 0, 1, 2] [3, 4, 5, 6, 7, 8, 9, 10, 0, 1, 2] rfl rfl rfl rfl rfl (fun _ => rfl) rfl (fun _ => rfl) (fun _ _ _ _ _ _ h9 => (show False from h9).elim) (fun u_10 H locs hu_10 hP hD hS => ?_)
                      have hP : va_P E.1 CL ((BW E o sc ar) ++ ([(u_1, .inl (E.2 (3000 + 2), 1, .inr (.inr (.inr (.inr (fun _ => some (o 1)))))))]) ++ ([(q_2, ia (E.2 0) 8 s6)]) ++ ([(q_4, ia (E.2 0) 8 s4)])) H := hP
                      have hD : va_D A ((BW E o sc ar) ++ ([(u_1, .inl (E.2 (3000 + 2), 1, .inr (.inr (.inr (.inr (fun _ => some (o 1)))))))]) ++ ([(q_2, ia (E.2 0) 8 s6)]) ++ ([(q_4, ia (E.2 0) 8 s4)])) := hD
                      refine lv_istore (lv' := [(10, iv (b2 (m_edge g false x6 x9))), (9, iv x9), (8, iv (b2 mz)), (7, iv x7), (6, iv x6), (5, .ref q_4), (4, iv x4), (3, .ref q_2), (2, .ref u_1), (0, .ref (o 1)), (1, iv t)]) hx hb dX3_longestByRounds_79 hl (by decide) rfl (fun ls hl => ?_)
                      have j_11 : W p l e (headSpec (ws_ yX3_longestByRounds cX3_longestByRounds 11 (some .int)) { frames := 4, cells := 10, slots := 73, locals := 3093 }).room s m ([.ref (o 1), iv t] : List Value).toArray below meth c H locs (cll13 + 1) (sll13 + 8) (MQ below (UQi E (k_lng g 8 t) (BW E o sc ar) A) ([.ref (o 1), iv t] : List Value).toArray s 10 73 A) (F0 m 101 ls [iv (if m_edge g false x6 x9 = true then max x7 (s4 x9) else x7)]) := by
                        refine lv_istore (lv' := [(7, iv (if m_edge g false x6 x9 = true then max x7 (s4 x9) else x7)), (10, iv (b2 (m_edge g false x6 x9))), (9, iv x9), (8, iv (b2 mz)), (6, iv x6), (5, .ref q_4), (4, iv x4), (3, .ref q_2), (2, .ref u_1), (0, .ref (o 1)), (1, iv t)]) hx hb dX3_longestByRounds_101 hl (by decide) rfl (fun ls hl => ?_)
                        refine lv_iload hx hb dX3_longestByRounds_103 (lv_at hl 3 rfl) ?_
                        have j_12 : W p l e (headSpec (ws_ yX3_longestByRounds cX3_longestByRounds 11 (some .int)) { frames := 4, cells := 10, slots := 73, locals := 3093 }).room s m ([.ref (o 1), iv t] : List Value).toArray below meth c H locs (cll13 + 1) (sll13 + 8) (MQ below (UQi E (k_lng g 8 t) (BW E o sc ar) A) ([.ref (o 1), iv t] : List Value).toArray s 10 73 A) (F0 m 124 ls [iv (b2 (m_edge g false x6 x9 && decide (s4 x9 = -1))), iv (b2 mz)]) := by
                          refine n_ior_b (x := mz) (y := (m_edge g false x6 x9 && decide (s4 x9 = -1))) hx hb dX3_longestByRounds_124 ?_
                          refine lv_istore (lv' := [(8, iv (b2 (mz || (m_edge g false x6 x9 && decide (s4 x9 = -1))))), (7, iv (if m_edge g false x6 x9 = true then max x7 (s4 x9) else x7)), (10, iv (b2 (m_edge g false x6 x9))), (9, iv x9), (6, iv x6), (5, .ref q_4), (4, iv x4), (3, .ref q_2), (2, .ref u_1), (0, .ref (o 1)), (1, iv t)]) hx hb dX3_longestByRounds_125 hl (by decide) rfl (fun ls hl => ?_)
                          refine lv_iinc (v := iI (x9 + 1)) (lv' := [(9, iv (x9 + 1)), (8, iv (b2 (mz || (m_edge g false x6 x9 && decide (s4 x9 = -1))))), (7, iv (if m_edge g false x6 x9 = true then max x7 (s4 x9) else x7)), (10, iv (b2 (m_edge g false x6 x9))), (6, iv x6), (5, .ref q_4), (4, iv x4), (3, .ref q_2), (2, .ref u_1), (0, .ref (o 1)), (1, iv t)]) hx hb dX3_longestByRounds_127 hl (k := 3) rfl (iI_add _ _) (by decide) rfl (fun ls hl => ?_)
                          refine lv_goto (tgt := 62) hx hb dX3_longestByRounds_130 (by decide) ?_
                          exact ihl62 (if m_edge g false x6 x9 = true then max x7 (s4 x9) else x7) (mz || (m_edge g false x6 x9 && decide (s4 x9 = -1))) (x9 + 1) (by have q9 := hkb x9 (by omega) (by omega); refine ⟨by omega, by omega, ?_⟩; split <;> omega) (by rw [maxI_s (by omega), ← il62_1, ← il13_1 x9 (by omega) (by omega)]; split <;> omega) (by rw [exB_s (by omega), ← Bool.or_assoc, ← il62_2, ← il13_1 x9 (by omega) (by omega)]) (by omega) H locs hP hD hS ls (lv_sub hl [0, 1, 2, 4, 5, 6, 7, 8, 9, 10] rfl)
                        refine lv_iload hx hb dX3_longestByRounds_105 (lv_at hl 1 rfl) ?_
                        refine n_ifb_eq (tgt := 123) hx hb dX3_longestByRounds_107 (by decide) (fun c_13 => ?_) (fun c_13 => ?_)
                        · refine lv_iconst (v := iI 0) hx hb dX3_longestByRounds_123 rfl ?_
                          refine n_top (y := b2 (m_edge g false x6 x9 && decide (s4 x9 = -1))) (by simp [c_3, c_5, c_7, c_13, b2_t, b2]) ?_
                          exact j_12
                        · refine lv_aload hx hb dX3_longestByRounds_110 (lv_at hl 5 rfl) ?_
                          refine lv_iload hx hb dX3_longestByRounds_112 (lv_at hl 2 rfl) ?_
                          refine n_iald (f := s4) hx hb hK.1 hP 10 0 rfl rfl (by omega) (by decide) dX3_longestByRounds_114 ?_
                          refine lv_iconst (v := iI (-1)) hx hb dX3_longestByRounds_115 rfl ?_
                          have b_14 := hkb x9 (by omega) (by omega)
                          refine n_icmp_ne (tgt := 123) hx hb dX3_longestByRounds_116 (by decide) (by omega) (by omega) (fun c_15 => ?_) (fun c_15 => ?_)
                          · refine lv_iconst (v := iI 0) hx hb dX3_longestByRounds_123 rfl ?_
                            refine n_top (y := b2 (m_edge g false x6 x9 && decide (s4 x9 = -1))) (by simp [c_3, c_5, c_7, c_13, c_15, b2_t, b2]) ?_
                            exact j_12
                          · refine lv_iconst (v := iI 1) hx hb dX3_longestByRounds_119 rfl ?_
                            refine lv_goto (tgt := 124) hx hb dX3_longestByRounds_120 (by decide) ?_
                            refine n_top (y := b2 (m_edge g false x6 x9 && decide (s4 x9 = -1))) (by simp [c_3, c_5, c_7, c_13, c_15, b2_t, b2]) ?_
                            exact j_12
                      refine lv_iload hx hb dX3_longestByRounds_81 (lv_at hl 0 rfl) ?_
                      refine n_ifb_eq (tgt := 99) hx hb dX3_longestByRounds_83 (by decide) (fun c_16 => ?_) (fun c_16 => ?_)
                      · refine lv_iload hx hb dX3_longestByRounds_99 (lv_at hl 3 rfl) ?_
                        refine n_top (y := if m_edge g false x6 x9 = true then max x7 (s4 x9) else x7) (by first | exact (if_pos (by assumption)).symm | exact (if_neg (by simp [c_3, c_5, c_7, c_16, b2_t])).symm) ?_
                        exact j_11
                      · refine lv_iload hx hb dX3_longestByRounds_86 (lv_at hl 3 rfl) ?_
                        refine lv_aload hx hb dX3_longestByRounds_88 (lv_at hl 5 rfl) ?_
                        refine lv_iload hx hb dX3_longestByRounds_90 (lv_at hl 1 rfl) ?_
                        refine n_iald (f := s4) hx hb hK.1 hP 10 0 rfl rfl (by omega) (by decide) dX3_longestByRounds_92 ?_
                        have b_17 := hkb x9 (by omega) (by omega)
                        refine n_mmax hx hb (hml.trans hl.1.symm) hown (hts _ q724) (hts _ q725) (hts _ q111) (hts _ q726) (Nat.le_of_ble_eq_true rfl) (Nat.le_of_ble_eq_true rfl) (show (cll13 + 1) + 0 ≤ 10 by omega) (show (sll13 + 8) + 0 ≤ 73 by omega) (x := x7) (y := s4 x9) (by omega) (by omega) dX3_longestByRounds_93 ?_
                        refine lv_goto (tgt := 101) hx hb dX3_longestByRounds_96 (by decide) ?_
                        refine n_top (y := if m_edge g false x6 x9 = true then max x7 (s4 x9) else x7) (by first | exact (if_pos (by assumption)).symm | exact (if_neg (by simp [c_3, c_5, c_7, c_16, b2_t])).symm) ?_
                        exact j_11
                exact l62 9 0 (!(m_has g x6)) 0 (by first | omega | rfl | trivial) (by rfl) (by exact (Bool.or_false _).symm) (by omega) H locs hP hD hS ls hl
              refine lv_aload_n hx hb dX3_longestByRounds_42 rfl (lv_at hl 6 rfl) ?_
              refine va_get (D := E.1) (ci := 3) (v := .ref (o 2)) (C := RX3) (T := TX3) (N := 7) hx hb hts in_X3 hown hK.1 hP 0 rfl rfl 0 (by decide) (hts _ q152) (fun _ h9 => h9) rfl dX3_longestByRounds_43 ?_
              refine lv_iload hx hb dX3_longestByRounds_46 (lv_at hl 1 rfl) ?_
              refine n_zald (f := ar 2) hx hb hK.1 hP 1 1 rfl rfl (by omega) (by decide) dX3_longestByRounds_48 ?_
              rw [hbr.has (t := x6) (by omega)]
              refine n_ifb_ne (tgt := 56) hx hb dX3_longestByRounds_49 (by decide) (fun c_18 => ?_) (fun c_18 => ?_)
              · refine lv_iconst (v := iI 0) hx hb dX3_longestByRounds_56 rfl ?_
                refine n_top (y := b2 (!(m_has g x6))) (by simp [c_3, c_5, c_18, b2_t, b2]) ?_
                exact j_6
              · refine lv_iconst (v := iI 1) hx hb dX3_longestByRounds_52 rfl ?_
                refine lv_goto (tgt := 57) hx hb dX3_longestByRounds_53 (by decide) ?_
                refine n_top (y := b2 (!(m_has g x6))) (by simp [c_3, c_5, c_18, b2_t, b2]) ?_
                exact j_6
        exact l32 9 0 s4 (by first | omega | rfl | trivial) (by intro t a b; rw [if_neg (by omega)]; exact il13_1 t a b) (by omega) H locs hP hD hS ls hl
  exact l13 9 2 9 0 (fun _ => 0) (by omega) (by first | omega | rfl | trivial) (by intro t _ _; rfl) (by omega) H locs hP hD hS ls hl
