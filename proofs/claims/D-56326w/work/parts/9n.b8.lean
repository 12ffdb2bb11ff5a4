set_option maxHeartbeats 2000000 in
set_option maxRecDepth 100000 in
theorem mt_X3_leadsToByTable (l : Launch) (E : EE) (o : Nat → Nat) (sc : Nat → Int) (ar : Nat → Int → Int) (t : Int) (g : Int → Int) (ht : 0 ≤ t ∧ t < 8) (hbr : BR g ar) (hhn : HN g) (htw : TW g) (hsw : SwOK g) (sz : Nat) : Met l yX3_leadsToByTable (ws_ yX3_leadsToByTable cX3_leadsToByTable 9 (some .int)) { frames := 4, cells := 10, slots := 73, locals := 3093 } (va_Pc [.ref (o 1), iv t] (UX E (BW E o sc ar) sz)) (UQi E (sumI (fun k => b2 (m_reach g true t k)) 8) (BW E o sc ar) (va_A (BW E o sc ar) sz)) 10 73 (va_A (BW E o sc ar) sz) := by
  refine Met.ofW (cc := cX3_leadsToByTable) (maxL := 9) (ret := (some .int)) (by decide) rfl ?_
  intro p e s m args below meth c s₁ B hml hv
  obtain ⟨rfl, hsz, hP, hK, hD0, hE⟩ := hv
  have hx := B.exec
  have hb := B.bytes
  have hr := B.returns
  have hts := atoms_spec (ws := (ws_ yX3_leadsToByTable cX3_leadsToByTable 9 (some .int))) B.pre
  have hts : ∀ w ∈ lw_all, w.before _ s = true := fun w h => hts w (List.mem_cons_of_mem _ h)
  have hown : s.vm.findClass RX3 = some m.cls := findClass_of_methodNamed B.named
  have hlocks := B.notSynchronized
  subst hsz
  have hD := hD0.self (sz := s.heap.size)
  generalize hAe : va_A (BW E o sc ar) s.heap.size = A at hD hE ⊢
  have hA : ∀ q : Nat, s.heap.size ≤ q → A q := fun q h => by rw [← hAe]; exact Or.inr h
  have hS : va_S A s.heap s.heap [] := va_S.rf
  have hl := lv_entry ([.ref (o 1), iv t]) (n := 9) (Nat.le_of_ble_eq_true rfl)
  rw [lg_entry_eq]
  generalize (lg_sl ([.ref (o 1), iv t]) ++ List.replicate (9 - (lg_sl ([.ref (o 1), iv t])).length) Slot.unset).toArray = ls at hl ⊢
  have hl : lv_has ls 9 [(0, .ref (o 1)), (1, iv t)] := hl
  refine lv_aload_n hx hb dX3_leadsToByTable_0 rfl (lv_at hl 0 rfl) ?_
  refine n_cuxrS (x := fun u_1 => u_1) (w2 := fun u_1 => (BW E o sc ar) ++ ([(u_1, .inl (E.2 (3000 + 1), 1, .inr (.inr (.inr (.inr (fun _ => some (o 1)))))))])) (va_runV (As := []) (rest := []) ⟨hx, hb, hml, hown, hts⟩ (mt_X3_anyWay l E o sc ar  _) (cwV 0 hts (lw_V q526 q527 q528 q96 q529) rfl rfl rfl (by decide +kernel) ⟨Nat.le_of_ble_eq_true rfl, Nat.le_of_ble_eq_true rfl⟩) (UX_V hP hK (hD) hE hS (va_A_in hD hS hA) (va_recv hK.1 hP (ci := 3) (q0 := 0) rfl rfl)) rfl rfl hl.1 rfl (lv_room (Nat.le_of_ble_eq_true rfl)) dX3_leadsToByTable_1 ⟨Nat.le_of_ble_eq_true rfl, Nat.le_of_ble_eq_true rfl⟩) hP hD hS hA [0, 1, 2, 3, 4, 5, 6, 7] [] [0, 1, 2, 3, 4, 5, 6, 7, 8] rfl rfl rfl rfl rfl (fun _ => rfl) (fun u_1 H locs hu_1 hP hD hS => ?_)
  have hu_1 : True := hu_1
  have hP : va_P E.1 CL ((BW E o sc ar) ++ ([(u_1, .inl (E.2 (3000 + 1), 1, .inr (.inr (.inr (.inr (fun _ => some (o 1)))))))])) H := hP
  have hD : va_D A ((BW E o sc ar) ++ ([(u_1, .inl (E.2 (3000 + 1), 1, .inr (.inr (.inr (.inr (fun _ => some (o 1)))))))])) := hD
  refine lv_astore_n (lv' := [(2, .ref u_1), (0, .ref (o 1)), (1, iv t)]) hx hb dX3_leadsToByTable_4 rfl hl (by decide) rfl (fun ls hl => ?_)
  refine lv_bipush (v := iI 8) hx hb dX3_leadsToByTable_5 (by decide) ?_
  refine lv_bipush (v := iI 8) hx hb dX3_leadsToByTable_7 (by decide) ?_
  refine n_mnew hx hb hown (hts _ q717) hK.ao (hts _ q185) hK hP hD hS hA (Nat.le_of_ble_eq_true rfl) (Nat.le_of_ble_eq_true rfl) dX3_leadsToByTable_9 (fun q_2 H hP hD hS => ?_)
  have hP : va_P E.1 CL ((BW E o sc ar) ++ ([(u_1, .inl (E.2 (3000 + 1), 1, .inr (.inr (.inr (.inr (fun _ => some (o 1)))))))]) ++ (MT E q_2 (fun _ _ => 0))) H := hP
  have hD : va_D A ((BW E o sc ar) ++ ([(u_1, .inl (E.2 (3000 + 1), 1, .inr (.inr (.inr (.inr (fun _ => some (o 1)))))))]) ++ (MT E q_2 (fun _ _ => 0))) := hD
  refine lv_astore_n (lv' := [(3, .ref q_2), (2, .ref u_1), (0, .ref (o 1)), (1, iv t)]) hx hb dX3_leadsToByTable_13 rfl hl (by decide) rfl (fun ls hl => ?_)
  refine lv_iconst (v := iI 0) hx hb dX3_leadsToByTable_14 rfl ?_
  refine lv_istore (lv' := [(4, iv 0), (3, .ref q_2), (2, .ref u_1), (0, .ref (o 1)), (1, iv t)]) hx hb dX3_leadsToByTable_15 hl (by decide) rfl (fun ls hl => ?_)
  have l17 : ∀ (fu : Nat) (x4 : Int) (T4 : Int → Int → Int), (0 ≤ x4 ∧ x4 ≤ 8) → (∀ i j, 0 ≤ i → i < 8 → 0 ≤ j → j < 8 → i < x4 → T4 i j = b2 (m_edge g true i j)) → (8 - x4 < (fu : Int)) → ∀ (H : Heap) (locs : List Loc), va_P E.1 CL ((BW E o sc ar) ++ ([(u_1, .inl (E.2 (3000 + 1), 1, .inr (.inr (.inr (.inr (fun _ => some (o 1)))))))]) ++ (MT E q_2 T4)) H → va_D A ((BW E o sc ar) ++ ([(u_1, .inl (E.2 (3000 + 1), 1, .inr (.inr (.inr (.inr (fun _ => some (o 1)))))))]) ++ (MT E q_2 T4)) → va_S A s.heap H locs → ∀ ls : Array Slot, lv_has ls 9 [(4, iv x4), (3, .ref q_2), (2, .ref u_1), (0, .ref (o 1)), (1, iv t)] → W p l e (headSpec (ws_ yX3_leadsToByTable cX3_leadsToByTable 9 (some .int)) { frames := 4, cells := 10, slots := 73, locals := 3093 }).room s m ([.ref (o 1), iv t] : List Value).toArray below meth c H locs 10 73 (MQ below (UQi E (sumI (fun k => b2 (m_reach g true t k)) 8) (BW E o sc ar) A) ([.ref (o 1), iv t] : List Value).toArray s 10 73 A) (F0 m 17 ls []) := by
    intro fu
    induction fu with
    | zero =>
      intro x4 T4 il17_0 il17_1 hm
      exfalso; omega
    | succ fu ih =>
      intro x4 T4 il17_0 il17_1 hm H locs hP hD hS ls hl
      have ihl17 := ih
      refine lv_iload hx hb dX3_leadsToByTable_17 (lv_at hl 0 rfl) ?_
      refine lv_bipush (v := iI 8) hx hb dX3_leadsToByTable_19 (by decide) ?_
      refine n_icmp_ge (tgt := 63) hx hb dX3_leadsToByTable_21 (by decide) (by omega) (by omega) (fun c_3 => ?_) (fun c_3 => ?_)
      · refine lv_iconst (v := iI 0) hx hb dX3_leadsToByTable_63 rfl ?_
        refine lv_istore (lv' := [(4, iv 0), (3, .ref q_2), (2, .ref u_1), (0, .ref (o 1)), (1, iv t)]) hx hb dX3_leadsToByTable_64 hl (by decide) rfl (fun ls hl => ?_)
        have l66 : ∀ (fu : Nat) (x4 : Int) (T4 : Int → Int → Int) (M : Int → Int → Bool), (0 ≤ x4 ∧ x4 ≤ 8) → (∀ i j, 0 ≤ i → i < 8 → 0 ≤ j → j < 8 → T4 i j = b2 (M i j)) → (WI g true x4 M) → (8 - x4 < (fu : Int)) → ∀ (H : Heap) (locs : List Loc), va_P E.1 CL ((BW E o sc ar) ++ ([(u_1, .inl (E.2 (3000 + 1), 1, .inr (.inr (.inr (.inr (fun _ => some (o 1)))))))]) ++ (MT E q_2 T4)) H → va_D A ((BW E o sc ar) ++ ([(u_1, .inl (E.2 (3000 + 1), 1, .inr (.inr (.inr (.inr (fun _ => some (o 1)))))))]) ++ (MT E q_2 T4)) → va_S A s.heap H locs → ∀ ls : Array Slot, lv_has ls 9 [(4, iv x4), (3, .ref q_2), (2, .ref u_1), (0, .ref (o 1)), (1, iv t)] → W p l e (headSpec (ws_ yX3_leadsToByTable cX3_leadsToByTable 9 (some .int)) { frames := 4, cells := 10, slots := 73, locals := 3093 }).room s m ([.ref (o 1), iv t] : List Value).toArray below meth c H locs 10 73 (MQ below (UQi E (sumI (fun k => b2 (m_reach g true t k)) 8) (BW E o sc ar) A) ([.ref (o 1), iv t] : List Value).toArray s 10 73 A) (F0 m 66 ls []) := by
          intro fu
          induction fu with
          | zero =>
            intro x4 T4 M il66_0 il66_1 il66_2 hm
            exfalso; omega
          | succ fu ih =>
            intro x4 T4 M il66_0 il66_1 il66_2 hm H locs hP hD hS ls hl
            have ihl66 := ih
            refine lv_iload hx hb dX3_leadsToByTable_66 (lv_at hl 0 rfl) ?_
            refine lv_bipush (v := iI 8) hx hb dX3_leadsToByTable_68 (by decide) ?_
            refine n_icmp_ge (tgt := 146) hx hb dX3_leadsToByTable_70 (by decide) (by omega) (by omega) (fun c_4 => ?_) (fun c_4 => ?_)
            · have h48 : x4 = 8 := by omega
              rw [h48] at il66_2
              refine lv_iconst (v := iI 0) hx hb dX3_leadsToByTable_146 rfl ?_
              refine lv_istore (lv' := [(4, iv 0), (3, .ref q_2), (2, .ref u_1), (0, .ref (o 1)), (1, iv t)]) hx hb dX3_leadsToByTable_147 hl (by decide) rfl (fun ls hl => ?_)
              refine lv_aload_n hx hb dX3_leadsToByTable_149 rfl (lv_at hl 1 rfl) ?_
              refine lv_iload_n hx hb dX3_leadsToByTable_150 rfl (lv_at hl 4 rfl) ?_
              refine n_tald hx hb hK hP _ mt_0 (by omega) dX3_leadsToByTable_151 ?_
              refine lv_astore (lv' := [(5, .ref (q_2 + 1 + t.toNat)), (4, iv 0), (3, .ref q_2), (2, .ref u_1), (0, .ref (o 1)), (1, iv t)]) hx hb dX3_leadsToByTable_152 hl (by decide) rfl (fun ls hl => ?_)
              refine lv_aload hx hb dX3_leadsToByTable_154 (lv_at hl 0 rfl) ?_
              refine va_alen (v := iI 8) hx hb hK.1 hP (_ + (1 + t.toNat)) 1 (mt_at (by omega)) rfl rfl dX3_leadsToByTable_156 ?_
              refine lv_istore (lv' := [(6, iv 8), (5, .ref (q_2 + 1 + t.toNat)), (4, iv 0), (3, .ref q_2), (2, .ref u_1), (0, .ref (o 1)), (1, iv t)]) hx hb dX3_leadsToByTable_157 hl (by decide) rfl (fun ls hl => ?_)
              refine lv_iconst (v := iI 0) hx hb dX3_leadsToByTable_159 rfl ?_
              refine lv_istore (lv' := [(7, iv 0), (6, iv 8), (5, .ref (q_2 + 1 + t.toNat)), (4, iv 0), (3, .ref q_2), (2, .ref u_1), (0, .ref (o 1)), (1, iv t)]) hx hb dX3_leadsToByTable_160 hl (by decide) rfl (fun ls hl => ?_)
              have l162 : ∀ (fu : Nat) (y4 : Int) (x7 : Int), (0 ≤ x7 ∧ x7 ≤ 8) → (y4 = sumI (fun k => b2 (m_reach g true t k)) x7) → (8 - x7 < (fu : Int)) → ∀ ls : Array Slot, lv_has ls 9 [(7, iv x7), (6, iv 8), (5, .ref (q_2 + 1 + t.toNat)), (4, iv y4), (3, .ref q_2), (2, .ref u_1), (0, .ref (o 1)), (1, iv t)] → W p l e (headSpec (ws_ yX3_leadsToByTable cX3_leadsToByTable 9 (some .int)) { frames := 4, cells := 10, slots := 73, locals := 3093 }).room s m ([.ref (o 1), iv t] : List Value).toArray below meth c H locs 10 73 (MQ below (UQi E (sumI (fun k => b2 (m_reach g true t k)) 8) (BW E o sc ar) A) ([.ref (o 1), iv t] : List Value).toArray s 10 73 A) (F0 m 162 ls []) := by
                intro fu
                induction fu with
                | zero =>
                  intro y4 x7 il162_0 il162_1 hm
                  exfalso; omega
                | succ fu ih =>
                  intro y4 x7 il162_0 il162_1 hm ls hl
                  have ihl162 := ih
                  refine lv_iload hx hb dX3_leadsToByTable_162 (lv_at hl 0 rfl) ?_
                  refine lv_iload hx hb dX3_leadsToByTable_164 (lv_at hl 1 rfl) ?_
                  refine n_icmp_ge (tgt := 197) hx hb dX3_leadsToByTable_166 (by decide) (by omega) (by omega) (fun c_5 => ?_) (fun c_5 => ?_)
                  · refine lv_iload hx hb dX3_leadsToByTable_197 (lv_at hl 3 rfl) ?_
                    have hfin : y4 = sumI (fun k => b2 (m_reach g true t k)) 8 := by
                      obtain rfl : x7 = 8 := by omega
                      exact il162_1
                    have hP := hP.sub (ws' := BW E o sc ar) [0, 1, 2, 3, 4, 5, 6, 7] rfl
                    have hD := hD.sub (ws' := BW E o sc ar) [0, 1, 2, 3, 4, 5, 6, 7] (by decide) rfl
                    refine W.widen (k := 10) (n := 73) (Nat.le_of_ble_eq_true rfl) (Nat.le_of_ble_eq_true rfl) ?_
                    exact W.iret (v := iI y4) hx hb hr (fun tt_ ht_ hW_ => ⟨⟨iI y4, (), rfl, (congrArg iI hfin), by rw [ht_]; exact hP, hD⟩, hS.F ht_⟩) hS.2.2 dX3_leadsToByTable_199
                  · refine lv_aload hx hb dX3_leadsToByTable_169 (lv_at hl 2 rfl) ?_
                    refine lv_iload hx hb dX3_leadsToByTable_171 (lv_at hl 0 rfl) ?_
                    refine n_zald (f := T4 t) hx hb hK.1 hP (_ + (1 + t.toNat)) 1 (mt_at (by omega)) rfl (by omega) (by decide) dX3_leadsToByTable_173 ?_
                    rw [il66_1 t x7 (by omega) (by omega) (by omega) (by omega), WI_fin il66_2 (i := t) (j := x7) (by omega) (by omega)]
                    refine lv_istore (lv' := [(8, iv (b2 (m_reach g true t x7))), (7, iv x7), (6, iv 8), (5, .ref (q_2 + 1 + t.toNat)), (4, iv y4), (3, .ref q_2), (2, .ref u_1), (0, .ref (o 1)), (1, iv t)]) hx hb dX3_leadsToByTable_174 hl (by decide) rfl (fun ls hl => ?_)
                    refine lv_iload hx hb dX3_leadsToByTable_176 (lv_at hl 4 rfl) ?_
                    refine lv_iload hx hb dX3_leadsToByTable_178 (lv_at hl 0 rfl) ?_
                    refine n_ifb_eq (tgt := 187) hx hb dX3_leadsToByTable_180 (by decide) (fun c_6 => ?_) (fun c_6 => ?_)
                    · refine lv_iconst (v := iI 0) hx hb dX3_leadsToByTable_187 rfl ?_
                      refine n_iadd hx hb dX3_leadsToByTable_188 ?_
                      refine lv_istore (lv' := [(4, iv (y4 + 0)), (8, iv (b2 (m_reach g true t x7))), (7, iv x7), (6, iv 8), (5, .ref (q_2 + 1 + t.toNat)), (3, .ref q_2), (2, .ref u_1), (0, .ref (o 1)), (1, iv t)]) hx hb dX3_leadsToByTable_189 hl (by decide) rfl (fun ls hl => ?_)
                      refine lv_iinc (v := iI (x7 + 1)) (lv' := [(7, iv (x7 + 1)), (4, iv (y4 + 0)), (8, iv (b2 (m_reach g true t x7))), (6, iv 8), (5, .ref (q_2 + 1 + t.toNat)), (3, .ref q_2), (2, .ref u_1), (0, .ref (o 1)), (1, iv t)]) hx hb dX3_leadsToByTable_191 hl (k := 2) rfl (iI_add _ _) (by decide) rfl (fun ls hl => ?_)
                      refine lv_goto (tgt := 162) hx hb dX3_leadsToByTable_194 (by decide) ?_
                      exact ihl162 (y4 + 0) (x7 + 1) (by first | omega | rfl) (by rw [sumI_s (by omega), ← il162_1]; simp only [c_3, c_4, c_5, c_6, b2_t, b2_t, b2_f]) (by omega) ls (lv_sub hl [0, 3, 4, 1, 5, 6, 7, 8] rfl)
                    · refine lv_iconst (v := iI 1) hx hb dX3_leadsToByTable_183 rfl ?_
                      refine lv_goto (tgt := 188) hx hb dX3_leadsToByTable_184 (by decide) ?_
                      refine n_iadd hx hb dX3_leadsToByTable_188 ?_
                      refine lv_istore (lv' := [(4, iv (y4 + 1)), (8, iv (b2 (m_reach g true t x7))), (7, iv x7), (6, iv 8), (5, .ref (q_2 + 1 + t.toNat)), (3, .ref q_2), (2, .ref u_1), (0, .ref (o 1)), (1, iv t)]) hx hb dX3_leadsToByTable_189 hl (by decide) rfl (fun ls hl => ?_)
                      refine lv_iinc (v := iI (x7 + 1)) (lv' := [(7, iv (x7 + 1)), (4, iv (y4 + 1)), (8, iv (b2 (m_reach g true t x7))), (6, iv 8), (5, .ref (q_2 + 1 + t.toNat)), (3, .ref q_2), (2, .ref u_1), (0, .ref (o 1)), (1, iv t)]) hx hb dX3_leadsToByTable_191 hl (k := 2) rfl (iI_add _ _) (by decide) rfl (fun ls hl => ?_)
                      refine lv_goto (tgt := 162) hx hb dX3_leadsToByTable_194 (by decide) ?_
                      exact ihl162 (y4 + 1) (x7 + 1) (by first | omega | rfl) (by rw [sumI_s (by omega), ← il162_1]; simp only [c_3, c_4, c_5, c_6, b2_t, b2_t, b2_f]) (by omega) ls (lv_sub hl [0, 3, 4, 1, 5, 6, 7, 8] rfl)
              exact l162 9 0 0 (by first | omega | rfl | trivial) (by rfl) (by omega) ls hl
            · refine lv_iconst (v := iI 0) hx hb dX3_leadsToByTable_73 rfl ?_
              refine lv_istore (lv' := [(5, iv 0), (4, iv x4), (3, .ref q_2), (2, .ref u_1), (0, .ref (o 1)), (1, iv t)]) hx hb dX3_leadsToByTable_74 hl (by decide) rfl (fun ls hl => ?_)
              have l76 : ∀ (fu : Nat) (x5 : Int) (T5 : Int → Int → Int), (0 ≤ x5 ∧ x5 ≤ 8) → (∀ i j, 0 ≤ i → i < 8 → 0 ≤ j → j < 8 → T5 i j = b2 (wst M x4 x5 0 i j)) → (8 - x5 < (fu : Int)) → ∀ (H : Heap) (locs : List Loc), va_P E.1 CL ((BW E o sc ar) ++ ([(u_1, .inl (E.2 (3000 + 1), 1, .inr (.inr (.inr (.inr (fun _ => some (o 1)))))))]) ++ (MT E q_2 T5)) H → va_D A ((BW E o sc ar) ++ ([(u_1, .inl (E.2 (3000 + 1), 1, .inr (.inr (.inr (.inr (fun _ => some (o 1)))))))]) ++ (MT E q_2 T5)) → va_S A s.heap H locs → ∀ ls : Array Slot, lv_has ls 9 [(5, iv x5), (4, iv x4), (3, .ref q_2), (2, .ref u_1), (0, .ref (o 1)), (1, iv t)] → W p l e (headSpec (ws_ yX3_leadsToByTable cX3_leadsToByTable 9 (some .int)) { frames := 4, cells := 10, slots := 73, locals := 3093 }).room s m ([.ref (o 1), iv t] : List Value).toArray below meth c H locs 10 73 (MQ below (UQi E (sumI (fun k => b2 (m_reach g true t k)) 8) (BW E o sc ar) A) ([.ref (o 1), iv t] : List Value).toArray s 10 73 A) (F0 m 76 ls []) := by
                intro fu
                induction fu with
                | zero =>
                  intro x5 T5 il76_0 il76_1 hm
                  exfalso; omega
                | succ fu ih =>
                  intro x5 T5 il76_0 il76_1 hm H locs hP hD hS ls hl
                  have ihl76 := ih
                  refine lv_iload hx hb dX3_leadsToByTable_76 (lv_at hl 0 rfl) ?_
                  refine lv_bipush (v := iI 8) hx hb dX3_leadsToByTable_78 (by decide) ?_
                  refine n_icmp_ge (tgt := 140) hx hb dX3_leadsToByTable_80 (by decide) (by omega) (by omega) (fun c_7 => ?_) (fun c_7 => ?_)
                  · have h58 : x5 = 8 := by omega
                    refine lv_iinc (v := iI (x4 + 1)) (lv' := [(4, iv (x4 + 1)), (5, iv x5), (3, .ref q_2), (2, .ref u_1), (0, .ref (o 1)), (1, iv t)]) hx hb dX3_leadsToByTable_140 hl (k := 1) rfl (iI_add _ _) (by decide) rfl (fun ls hl => ?_)
                    refine lv_goto (tgt := 66) hx hb dX3_leadsToByTable_143 (by decide) ?_
                    exact ihl66 (x4 + 1) T5 (wst M x4 8 0) (by first | omega | rfl) (by intro i j a b c d; rw [il76_1 i j a b c d, h58]) (by exact WI_s (by omega) il66_2) (by omega) H locs hP hD hS ls (lv_sub hl [0, 2, 3, 4, 5] rfl)
                  · refine lv_iconst (v := iI 0) hx hb dX3_leadsToByTable_83 rfl ?_
                    refine lv_istore (lv' := [(6, iv 0), (5, iv x5), (4, iv x4), (3, .ref q_2), (2, .ref u_1), (0, .ref (o 1)), (1, iv t)]) hx hb dX3_leadsToByTable_84 hl (by decide) rfl (fun ls hl => ?_)
                    have l86 : ∀ (fu : Nat) (x6 : Int) (T6 : Int → Int → Int), (0 ≤ x6 ∧ x6 ≤ 8) → (∀ i j, 0 ≤ i → i < 8 → 0 ≤ j → j < 8 → T6 i j = b2 (wst M x4 x5 x6 i j)) → (8 - x6 < (fu : Int)) → ∀ (H : Heap) (locs : List Loc), va_P E.1 CL ((BW E o sc ar) ++ ([(u_1, .inl (E.2 (3000 + 1), 1, .inr (.inr (.inr (.inr (fun _ => some (o 1)))))))]) ++ (MT E q_2 T6)) H → va_D A ((BW E o sc ar) ++ ([(u_1, .inl (E.2 (3000 + 1), 1, .inr (.inr (.inr (.inr (fun _ => some (o 1)))))))]) ++ (MT E q_2 T6)) → va_S A s.heap H locs → ∀ ls : Array Slot, lv_has ls 9 [(6, iv x6), (5, iv x5), (4, iv x4), (3, .ref q_2), (2, .ref u_1), (0, .ref (o 1)), (1, iv t)] → W p l e (headSpec (ws_ yX3_leadsToByTable cX3_leadsToByTable 9 (some .int)) { frames := 4, cells := 10, slots := 73, locals := 3093 }).room s m ([.ref (o 1), iv t] : List Value).toArray below meth c H locs 10 73 (MQ below (UQi E (sumI (fun k => b2 (m_reach g true t k)) 8) (BW E o sc ar) A) ([.ref (o 1), iv t] : List Value).toArray s 10 73 A) (F0 m 86 ls []) := by
                      intro fu
                      induction fu with
                      | zero =>
                        intro x6 T6 il86_0 il86_1 hm
                        exfalso; omega
                      | succ fu ih =>
                        intro x6 T6 il86_0 il86_1 hm H locs hP hD hS ls hl
                        have ihl86 := ih
                        refine lv_iload hx hb dX3_leadsToByTable_86 (lv_at hl 0 rfl) ?_
                        refine lv_bipush (v := iI 8) hx hb dX3_leadsToByTable_88 (by decide) ?_
                        refine n_icmp_ge (tgt := 134) hx hb dX3_leadsToByTable_90 (by decide) (by omega) (by omega) (fun c_8 => ?_) (fun c_8 => ?_)
                        · have h68 : x6 = 8 := by omega
                          refine lv_iinc (v := iI (x5 + 1)) (lv' := [(5, iv (x5 + 1)), (6, iv x6), (4, iv x4), (3, .ref q_2), (2, .ref u_1), (0, .ref (o 1)), (1, iv t)]) hx hb dX3_leadsToByTable_134 hl (k := 1) rfl (iI_add _ _) (by decide) rfl (fun ls hl => ?_)
                          refine lv_goto (tgt := 76) hx hb dX3_leadsToByTable_137 (by decide) ?_
                          exact ihl76 (x5 + 1) T6 (by first | omega | rfl) (by intro i j a b c d; rw [wst_row M x4 x5 ⟨c, d⟩, ← h68]; exact il86_1 i j a b c d) (by omega) H locs hP hD hS ls (lv_sub hl [0, 2, 3, 4, 5, 6] rfl)
                        · refine lv_aload_n hx hb dX3_leadsToByTable_93 rfl (lv_at hl 3 rfl) ?_
                          refine lv_iload hx hb dX3_leadsToByTable_94 (lv_at hl 1 rfl) ?_
                          refine n_tald hx hb hK hP _ mt_0 (by omega) dX3_leadsToByTable_96 ?_
                          refine lv_iload hx hb dX3_leadsToByTable_97 (lv_at hl 0 rfl) ?_
                          refine lv_dup2_11 hx hb dX3_leadsToByTable_99 rfl rfl ?_
                          refine n_zald (f := T6 x5) hx hb hK.1 hP (_ + (1 + x5.toNat)) 1 (mt_at (by omega)) rfl (by omega) (by decide) dX3_leadsToByTable_100 ?_
                          rw [il86_1 x5 x6 (by omega) (by omega) (by omega) (by omega)]
                          have j_9 : W p l e (headSpec (ws_ yX3_leadsToByTable cX3_leadsToByTable 9 (some .int)) { frames := 4, cells := 10, slots := 73, locals := 3093 }).room s m ([.ref (o 1), iv t] : List Value).toArray below meth c H locs 10 73 (MQ below (UQi E (sumI (fun k => b2 (m_reach g true t k)) 8) (BW E o sc ar) A) ([.ref (o 1), iv t] : List Value).toArray s 10 73 A) (F0 m 126 ls [iv (b2 (wst M x4 x5 x6 x5 x4 && wst M x4 x5 x6 x4 x6)), iv (b2 (wst M x4 x5 x6 x5 x6)), iv x6, .ref (q_2 + 1 + x5.toNat)]) := by
                            refine n_ior_b (x := (wst M x4 x5 x6 x5 x6)) (y := (wst M x4 x5 x6 x5 x4 && wst M x4 x5 x6 x4 x6)) hx hb dX3_leadsToByTable_126 ?_
                            refine n_zast (f := T6 x5) hx hb hK.1 hP hD hS (_ + (1 + x5.toNat)) 1 (mt_at (by omega)) rfl (by omega) (by decide) (b2_r _) dX3_leadsToByTable_127 (ws2 := (BW E o sc ar) ++ ([(u_1, .inl (E.2 (3000 + 1), 1, .inr (.inr (.inr (.inr (fun _ => some (o 1)))))))]) ++ (MT E q_2 (um T6 x5 (ui (T6 x5) x6 (b2 ((wst M x4 x5 x6 x5 x6) || (wst M x4 x5 x6 x5 x4 && wst M x4 x5 x6 x4 x6))))))) (mt_set (by omega)) (fun H locs hP hD hS => ?_)
                            refine lv_iinc (v := iI (x6 + 1)) (lv' := [(6, iv (x6 + 1)), (5, iv x5), (4, iv x4), (3, .ref q_2), (2, .ref u_1), (0, .ref (o 1)), (1, iv t)]) hx hb dX3_leadsToByTable_128 hl (k := 0) rfl (iI_add _ _) (by decide) rfl (fun ls hl => ?_)
                            refine lv_goto (tgt := 86) hx hb dX3_leadsToByTable_131 (by decide) ?_
                            exact ihl86 (x6 + 1) (um T6 x5 (ui (T6 x5) x6 (b2 ((wst M x4 x5 x6 x5 x6) || (wst M x4 x5 x6 x5 x4 && wst M x4 x5 x6 x4 x6))))) (by first | omega | rfl) (by have hst := wst_step M x4 x5 x6; intro i j a b c d; rw [hst]; unfold um ui; by_cases hi : i = x5; (rw [if_pos hi]; by_cases hj : j = x6; (rw [if_pos hj, if_pos ⟨hi, hj⟩]); (rw [if_neg hj, if_neg (fun h9 => hj h9.2)]; have q9 := il86_1 i j a b c d; rw [hi] at q9 ⊢; exact q9)); (rw [if_neg hi, if_neg (fun h9 => hi h9.1)]; exact il86_1 i j a b c d)) (by omega) H locs hP hD hS ls (lv_sub hl [0, 1, 2, 3, 4, 5, 6] rfl)
                          refine lv_aload_n hx hb dX3_leadsToByTable_101 rfl (lv_at hl 3 rfl) ?_
                          refine lv_iload hx hb dX3_leadsToByTable_102 (lv_at hl 1 rfl) ?_
                          refine n_tald hx hb hK hP _ mt_0 (by omega) dX3_leadsToByTable_104 ?_
                          refine lv_iload hx hb dX3_leadsToByTable_105 (lv_at hl 2 rfl) ?_
                          refine n_zald (f := T6 x5) hx hb hK.1 hP (_ + (1 + x5.toNat)) 1 (mt_at (by omega)) rfl (by omega) (by decide) dX3_leadsToByTable_107 ?_
                          rw [il86_1 x5 x4 (by omega) (by omega) (by omega) (by omega)]
                          refine n_ifb_eq (tgt := 125) hx hb dX3_leadsToByTable_108 (by decide) (fun c_10 => ?_) (fun c_10 => ?_)
                          · refine lv_iconst (v := iI 0) hx hb dX3_leadsToByTable_125 rfl ?_
                            refine n_top (y := b2 (wst M x4 x5 x6 x5 x4 && wst M x4 x5 x6 x4 x6)) (by simp [c_3, c_4, c_7, c_8, c_10, b2_t, b2]) ?_
                            exact j_9
                          · refine lv_aload_n hx hb dX3_leadsToByTable_111 rfl (lv_at hl 3 rfl) ?_
                            refine lv_iload hx hb dX3_leadsToByTable_112 (lv_at hl 2 rfl) ?_
                            refine n_tald hx hb hK hP _ mt_0 (by omega) dX3_leadsToByTable_114 ?_
                            refine lv_iload hx hb dX3_leadsToByTable_115 (lv_at hl 0 rfl) ?_
                            refine n_zald (f := T6 x4) hx hb hK.1 hP (_ + (1 + x4.toNat)) 1 (mt_at (by omega)) rfl (by omega) (by decide) dX3_leadsToByTable_117 ?_
                            rw [il86_1 x4 x6 (by omega) (by omega) (by omega) (by omega)]
                            refine n_ifb_eq (tgt := 125) hx hb dX3_leadsToByTable_118 (by decide) (fun c_11 => ?_) (fun c_11 => ?_)
                            · refine lv_iconst (v := iI 0) hx hb dX3_leadsToByTable_125 rfl ?_
                              refine n_top (y := b2 (wst M x4 x5 x6 x5 x4 && wst M x4 x5 x6 x4 x6)) (by simp [c_3, c_4, c_7, c_8, c_10, c_11, b2_t, b2]) ?_
                              exact j_9
                            · refine lv_iconst (v := iI 1) hx hb dX3_leadsToByTable_121 rfl ?_
                              refine lv_goto (tgt := 126) hx hb dX3_leadsToByTable_122 (by decide) ?_
                              refine n_top (y := b2 (wst M x4 x5 x6 x5 x4 && wst M x4 x5 x6 x4 x6)) (by simp [c_3, c_4, c_7, c_8, c_10, c_11, b2_t, b2]) ?_
                              exact j_9
                    exact l86 9 0 T5 (by first | omega | rfl | trivial) (by exact il76_1) (by omega) H locs hP hD hS ls hl
              exact l76 9 0 T4 (by first | omega | rfl | trivial) (by intro i j a b c d; rw [wst_0 M x4 a c]; exact il66_1 i j a b c d) (by omega) H locs hP hD hS ls hl
        exact l66 9 0 T4 (m_edge g true) (by first | omega | rfl | trivial) (by exact fun i j a b c d => il17_1 i j a b c d (by omega)) (by exact WI_init (fun _ _ _ _ _ _ => rfl)) (by omega) H locs hP hD hS ls hl
      · refine lv_iconst (v := iI 0) hx hb dX3_leadsToByTable_24 rfl ?_
        refine lv_istore (lv' := [(5, iv 0), (4, iv x4), (3, .ref q_2), (2, .ref u_1), (0, .ref (o 1)), (1, iv t)]) hx hb dX3_leadsToByTable_25 hl (by decide) rfl (fun ls hl => ?_)
        have l27 : ∀ (fu : Nat) (x5 : Int) (T5 : Int → Int → Int), (0 ≤ x5 ∧ x5 ≤ 8) → (∀ i j, 0 ≤ i → i < 8 → 0 ≤ j → j < 8 → (i < x4 ∨ (i = x4 ∧ j < x5)) → T5 i j = b2 (m_edge g true i j)) → (8 - x5 < (fu : Int)) → ∀ (H : Heap) (locs : List Loc), va_P E.1 CL ((BW E o sc ar) ++ ([(u_1, .inl (E.2 (3000 + 1), 1, .inr (.inr (.inr (.inr (fun _ => some (o 1)))))))]) ++ (MT E q_2 T5)) H → va_D A ((BW E o sc ar) ++ ([(u_1, .inl (E.2 (3000 + 1), 1, .inr (.inr (.inr (.inr (fun _ => some (o 1)))))))]) ++ (MT E q_2 T5)) → va_S A s.heap H locs → ∀ ls : Array Slot, lv_has ls 9 [(5, iv x5), (4, iv x4), (3, .ref q_2), (2, .ref u_1), (0, .ref (o 1)), (1, iv t)] → W p l e (headSpec (ws_ yX3_leadsToByTable cX3_leadsToByTable 9 (some .int)) { frames := 4, cells := 10, slots := 73, locals := 3093 }).room s m ([.ref (o 1), iv t] : List Value).toArray below meth c H locs 10 73 (MQ below (UQi E (sumI (fun k => b2 (m_reach g true t k)) 8) (BW E o sc ar) A) ([.ref (o 1), iv t] : List Value).toArray s 10 73 A) (F0 m 27 ls []) := by
          intro fu
          induction fu with
          | zero =>
            intro x5 T5 il27_0 il27_1 hm
            exfalso; omega
          | succ fu ih =>
            intro x5 T5 il27_0 il27_1 hm H locs hP hD hS ls hl
            have ihl27 := ih
            refine lv_iload hx hb dX3_leadsToByTable_27 (lv_at hl 0 rfl) ?_
            refine lv_bipush (v := iI 8) hx hb dX3_leadsToByTable_29 (by decide) ?_
            refine n_icmp_ge (tgt := 57) hx hb dX3_leadsToByTable_31 (by decide) (by omega) (by omega) (fun c_12 => ?_) (fun c_12 => ?_)
            · refine lv_iinc (v := iI (x4 + 1)) (lv' := [(4, iv (x4 + 1)), (5, iv x5), (3, .ref q_2), (2, .ref u_1), (0, .ref (o 1)), (1, iv t)]) hx hb dX3_leadsToByTable_57 hl (k := 1) rfl (iI_add _ _) (by decide) rfl (fun ls hl => ?_)
              refine lv_goto (tgt := 17) hx hb dX3_leadsToByTable_60 (by decide) ?_
              exact ihl17 (x4 + 1) T5 (by first | omega | rfl) (by exact fun i j a b c d h9 => il27_1 i j a b c d (by omega)) (by omega) H locs hP hD hS ls (lv_sub hl [0, 2, 3, 4, 5] rfl)
            · refine lv_aload_n hx hb dX3_leadsToByTable_34 rfl (lv_at hl 2 rfl) ?_
              refine lv_iload hx hb dX3_leadsToByTable_35 (lv_at hl 1 rfl) ?_
              refine n_tald hx hb hK hP _ mt_0 (by omega) dX3_leadsToByTable_37 ?_
              refine lv_iload hx hb dX3_leadsToByTable_38 (lv_at hl 0 rfl) ?_
              refine lv_aload_n hx hb dX3_leadsToByTable_40 rfl (lv_at hl 3 rfl) ?_
              refine lv_iload hx hb dX3_leadsToByTable_41 (lv_at hl 1 rfl) ?_
              refine lv_iload hx hb dX3_leadsToByTable_43 (lv_at hl 0 rfl) ?_
              refine n_tx5S (x := fun _ : Unit => b2 (m_edge g true x4 x5)) (w2 := fun _ => (BW E o sc ar) ++ ([(u_1, .inl (E.2 (3000 + 1), 1, .inr (.inr (.inr (.inr (fun _ => some (o 1)))))))]) ++ (MT E q_2 T5)) (w3 := fun _ : Unit => (BW E o sc ar) ++ ([(u_1, .inl (E.2 (3000 + 1), 1, .inr (.inr (.inr (.inr (fun _ => some (o 1)))))))]) ++ (MT E q_2 T5)) (n_fwZ0 (rest := [iv x5, .ref (q_2 + 1 + x4.toNat)]) hx hb (hl.1.trans hml.symm) hts hK hown (hts _ q596) ls_1 rfl (by decide +kernel) lk_1 ⟨rfl, rfl, by decide +kernel⟩ (y := yX3_lambda_anyWay_1) ⟨rfl, rfl, by decide +kernel, rfl⟩ ⟨by decide +kernel, by decide +kernel⟩ q532 q96 (sig := ⟨[.int, .int], some .boolean⟩) (by decide +kernel) rfl (mt_X3_lambda_anyWay_1 l E o sc ar x4 x5 g (by omega) (by omega) (by assumption) (by assumption) (by assumption) (by assumption) _) rfl rfl q531 qs4 (hP 8 _ rfl) rfl rfl rfl (UX_V (hP.sub (ws' := BW E o sc ar) [0, 1, 2, 3, 4, 5, 6, 7] rfl) hK (hD.sub (ws' := BW E o sc ar) [0, 1, 2, 3, 4, 5, 6, 7] rfl rfl) hE hS (va_sub_free hD hS hA [0, 1, 2, 3, 4, 5, 6, 7] rfl) (va_recv hK.1 hP (ci := 3) (q0 := 0) rfl rfl)) (Nat.le_of_ble_eq_true rfl) (Nat.le_of_ble_eq_true rfl) (Nat.le_of_ble_eq_true rfl) (Nat.le_of_ble_eq_true rfl) dX3_leadsToByTable_45) hP hD hS hA [0, 1, 2, 3, 4, 5, 6, 7] [8, 9, 10, 11, 12, 13, 14, 15, 16, 17] [10, 11, 12, 13, 14, 15, 16, 17, 0, 1, 2, 3, 4, 5, 6, 7, 8, 9] [10, 11, 12, 13, 14, 15, 16, 17, 0, 1, 2, 3, 4, 5, 6, 7, 8, 9] rfl rfl rfl rfl rfl (fun _ => rfl) rfl (fun _ => rfl) (fun _ _ _ _ _ _ h9 => (show False from h9).elim) (fun u_13 H locs hu_13 hP hD hS => ?_)
              have hP : va_P E.1 CL ((BW E o sc ar) ++ ([(u_1, .inl (E.2 (3000 + 1), 1, .inr (.inr (.inr (.inr (fun _ => some (o 1)))))))]) ++ (MT E q_2 T5)) H := hP
              have hD : va_D A ((BW E o sc ar) ++ ([(u_1, .inl (E.2 (3000 + 1), 1, .inr (.inr (.inr (.inr (fun _ => some (o 1)))))))]) ++ (MT E q_2 T5)) := hD
              refine n_zast (f := T5 x4) hx hb hK.1 hP hD hS (_ + (1 + x4.toNat)) 1 (mt_at (by omega)) rfl (by omega) (by decide) (b2_r _) dX3_leadsToByTable_50 (ws2 := (BW E o sc ar) ++ ([(u_1, .inl (E.2 (3000 + 1), 1, .inr (.inr (.inr (.inr (fun _ => some (o 1)))))))]) ++ (MT E q_2 (um T5 x4 (ui (T5 x4) x5 (b2 (m_edge g true x4 x5)))))) (mt_set (by omega)) (fun H locs hP hD hS => ?_)
              refine lv_iinc (v := iI (x5 + 1)) (lv' := [(5, iv (x5 + 1)), (4, iv x4), (3, .ref q_2), (2, .ref u_1), (0, .ref (o 1)), (1, iv t)]) hx hb dX3_leadsToByTable_51 hl (k := 0) rfl (iI_add _ _) (by decide) rfl (fun ls hl => ?_)
              refine lv_goto (tgt := 27) hx hb dX3_leadsToByTable_54 (by decide) ?_
              exact ihl27 (x5 + 1) (um T5 x4 (ui (T5 x4) x5 (b2 (m_edge g true x4 x5)))) (by first | omega | rfl) (by intro i j a b c d h9; unfold um ui; by_cases hi : i = x4; (rw [if_pos hi]; by_cases hj : j = x5; (rw [if_pos hj, hi, hj]); (rw [if_neg hj, ← hi]; exact il27_1 i j a b c d (by omega))); (rw [if_neg hi]; exact il27_1 i j a b c d (by omega))) (by omega) H locs hP hD hS ls (lv_sub hl [0, 1, 2, 3, 4, 5] rfl)
        exact l27 9 0 T4 (by first | omega | rfl | trivial) (by exact fun i j a b c d h9 => il17_1 i j a b c d (by omega)) (by omega) H locs hP hD hS ls hl
  exact l17 9 0 (fun _ _ => 0) (by first | omega | rfl | trivial) (by intro i j _ _ _ _ h9; omega) (by omega) H locs hP hD hS ls hl
