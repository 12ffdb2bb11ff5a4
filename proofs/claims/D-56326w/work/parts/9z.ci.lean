set_option maxHeartbeats 4000000 in
set_option maxRecDepth 100000 in
theorem mt_X1_areMakingsConsistent (l : Launch) (E : EE) (cw : Nat) (osA : Nat) (hsn : Int) (hdA : Nat) (spA : Nat) (bfA : Nat) (lnA : Nat) (prA : Nat) (ep : Int) (lt : Option Nat) (o : Nat → Nat) (sc : Nat → Int) (ar : Nat → Int → Int) (oa : Nat → Nat) (sa : Nat → Int) (aa : Nat → Int → Int)  (g : Int → Int) (r : Int → Nat) (hst : l.stackTraces = false) (hsr : SR g sc ar) (htw : TW g) (hsw : SwOK g) (htm : TM g) (hhn : HN g) (hsc : SC g) (hrk : RK g r) (hr8 : ∀ t, 0 ≤ t → t < 8 → r t < 8) (how : OY g) (hfit : ∀ t, 0 ≤ t → t < 8 → ∀ th, g 1 + (m_dues g t th).1 ≤ 160) (sz : Nat) : Met l yX1_areMakingsConsistent (ws_ yX1_areMakingsConsistent cX1_areMakingsConsistent 4 (some .boolean)) { frames := 22, cells := 72, slots := 288, locals := 670 } (va_Pc [.ref cw] (UX E (([(cw, .inr (1, [.ref (o 0), .ref (oa 0), .ref osA, iv hsn, .ref hdA, .ref spA, .ref bfA, .ref lnA, .ref prA, iv ep, va_rf lt]))] : va_W) ++ (SW E o sc ar) ++ (SW E oa sa aa)) sz)) (UQx E (fun u : SU => True) (fun u : SU => 1) (fun u : SU => ([(cw, .inr (1, [.ref (o 0), .ref (oa 0), .ref osA, iv hsn, .ref hdA, .ref spA, .ref bfA, .ref lnA, .ref prA, iv ep, va_rf lt]))] : va_W) ++ (SW E o sc ar) ++ (SW E oa u.1 u.2)) (va_A (([(cw, .inr (1, [.ref (o 0), .ref (oa 0), .ref osA, iv hsn, .ref hdA, .ref spA, .ref bfA, .ref lnA, .ref prA, iv ep, va_rf lt]))] : va_W) ++ (SW E o sc ar) ++ (SW E oa sa aa)) sz)) 72 288 (va_A (([(cw, .inr (1, [.ref (o 0), .ref (oa 0), .ref osA, iv hsn, .ref hdA, .ref spA, .ref bfA, .ref lnA, .ref prA, iv ep, va_rf lt]))] : va_W) ++ (SW E o sc ar) ++ (SW E oa sa aa)) sz) := by
  refine Met.ofW (cc := cX1_areMakingsConsistent) (maxL := 4) (ret := (some .boolean)) (by decide) rfl ?_
  intro p e s m args below meth c s₁ B hml hv
  obtain ⟨rfl, hsz, hP, hK, hD0, hE⟩ := hv
  have hx := B.exec
  have hb := B.bytes
  have hr := B.returns
  have hts := atoms_spec (ws := (ws_ yX1_areMakingsConsistent cX1_areMakingsConsistent 4 (some .boolean))) B.pre
  have hts : ∀ w ∈ lw_all, w.before _ s = true := fun w h => hts w (List.mem_cons_of_mem _ h)
  have hown : s.vm.findClass RX1 = some m.cls := findClass_of_methodNamed B.named
  have hlocks := B.notSynchronized
  subst hsz
  have hD := hD0.self (sz := s.heap.size)
  generalize hAe : va_A (([(cw, .inr (1, [.ref (o 0), .ref (oa 0), .ref osA, iv hsn, .ref hdA, .ref spA, .ref bfA, .ref lnA, .ref prA, iv ep, va_rf lt]))] : va_W) ++ (SW E o sc ar) ++ (SW E oa sa aa)) s.heap.size = A at hD hE ⊢
  have hA : ∀ q : Nat, s.heap.size ≤ q → A q := fun q h => by rw [← hAe]; exact Or.inr h
  have hS : va_S A s.heap s.heap [] := va_S.rf
  have hl := lv_entry ([.ref cw]) (n := 4) (Nat.le_of_ble_eq_true rfl)
  rw [lg_entry_eq]
  generalize (lg_sl ([.ref cw]) ++ List.replicate (4 - (lg_sl ([.ref cw])).length) Slot.unset).toArray = ls at hl ⊢
  have hl : lv_has ls 4 [(0, .ref cw)] := hl
  have hpl := how.pl
  have hbr := hsr.br
  refine lv_iconst (v := iI 1) hx hb dX1_areMakingsConsistent_0 rfl ?_
  refine lv_istore_n (lv' := [(1, iv 1), (0, .ref cw)]) hx hb dX1_areMakingsConsistent_1 rfl hl (by decide) rfl (fun ls hl => ?_)
  refine lv_iconst (v := iI 0) hx hb dX1_areMakingsConsistent_2 rfl ?_
  refine lv_istore_n (lv' := [(2, iv 0), (1, iv 1), (0, .ref cw)]) hx hb dX1_areMakingsConsistent_3 rfl hl (by decide) rfl (fun ls hl => ?_)
  have l4 : ∀ (fu : Nat) (cll4 sll4 : Nat) (x1 : Int) (x2 : Int) (sa1 : Nat → Int) (aa1 : Nat → Int → Int), (cll4 + 18 * fu ≤ 90 ∧ sll4 + 72 * fu ≤ 360) → (0 ≤ x2 ∧ x2 ≤ 4 ∧ x1 = 1) → (4 - x2 < (fu : Int)) → ∀ (H : Heap) (locs : List Loc), va_P E.1 CL (([(cw, .inr (1, [.ref (o 0), .ref (oa 0), .ref osA, iv hsn, .ref hdA, .ref spA, .ref bfA, .ref lnA, .ref prA, iv ep, va_rf lt]))] : va_W) ++ (SW E o sc ar) ++ (SW E oa sa1 aa1)) H → va_D A (([(cw, .inr (1, [.ref (o 0), .ref (oa 0), .ref osA, iv hsn, .ref hdA, .ref spA, .ref bfA, .ref lnA, .ref prA, iv ep, va_rf lt]))] : va_W) ++ (SW E o sc ar) ++ (SW E oa sa1 aa1)) → va_S A s.heap H locs → ∀ ls : Array Slot, lv_has ls 4 [(2, iv x2), (1, iv x1), (0, .ref cw)] → W p l e (headSpec (ws_ yX1_areMakingsConsistent cX1_areMakingsConsistent 4 (some .boolean)) { frames := 22, cells := 72, slots := 288, locals := 670 }).room s m ([.ref cw] : List Value).toArray below meth c H locs cll4 sll4 (MQ below (UQx E (fun u : SU => True) (fun u : SU => 1) (fun u : SU => ([(cw, .inr (1, [.ref (o 0), .ref (oa 0), .ref osA, iv hsn, .ref hdA, .ref spA, .ref bfA, .ref lnA, .ref prA, iv ep, va_rf lt]))] : va_W) ++ (SW E o sc ar) ++ (SW E oa u.1 u.2)) A) ([.ref cw] : List Value).toArray s 72 288 A) (F0 m 4 ls []) := by
    intro fu
    induction fu with
    | zero =>
      intro cll4 sll4 x1 x2 sa1 aa1 hgl4 il4_0 hm
      exfalso; omega
    | succ fu ih =>
      intro cll4 sll4 x1 x2 sa1 aa1 hgl4 il4_0 hm H locs hP hD hS ls hl
      have ihl4 := ih
      refine lv_iload_n hx hb dX1_areMakingsConsistent_4 rfl (lv_at hl 0 rfl) ?_
      refine lv_iconst (v := iI 4) hx hb dX1_areMakingsConsistent_5 rfl ?_
      refine n_icmp_ge (tgt := 74) hx hb dX1_areMakingsConsistent_6 (by decide) (by omega) (by omega) (fun c_1 => ?_) (fun c_1 => ?_)
      · refine lv_iload_n hx hb dX1_areMakingsConsistent_74 rfl (lv_at hl 1 rfl) ?_
        have hfin : x1 = 1 := by
          omega
        refine W.widen (k := 72) (n := 288) (show cll4 + 0 ≤ 72 by omega) (show sll4 + 0 ≤ 288 by omega) ?_
        exact W.zret (v := iI x1) hx hb hr (nr_b (by omega)) (fun tt_ ht_ hW_ => ⟨⟨iI x1, (sa1, aa1), rfl, ⟨trivial, (congrArg iI hfin)⟩, by rw [ht_]; exact hP, hD⟩, hS.F ht_⟩) hS.2.2 dX1_areMakingsConsistent_75
      · refine lv_iconst (v := iI 0) hx hb dX1_areMakingsConsistent_9 rfl ?_
        refine lv_istore_n (lv' := [(3, iv 0), (2, iv x2), (1, iv x1), (0, .ref cw)]) hx hb dX1_areMakingsConsistent_10 rfl hl (by decide) rfl (fun ls hl => ?_)
        have l11 : ∀ (fu : Nat) (cll11 sll11 : Nat) (y1 : Int) (x3 : Int) (sa2 : Nat → Int) (aa2 : Nat → Int → Int), (cll11 + 2 * fu ≤ cll4 + 18 ∧ sll11 + 8 * fu ≤ sll4 + 72) → (0 ≤ x3 ∧ x3 ≤ 8 ∧ y1 = 1) → (8 - x3 < (fu : Int)) → ∀ (H : Heap) (locs : List Loc), va_P E.1 CL (([(cw, .inr (1, [.ref (o 0), .ref (oa 0), .ref osA, iv hsn, .ref hdA, .ref spA, .ref bfA, .ref lnA, .ref prA, iv ep, va_rf lt]))] : va_W) ++ (SW E o sc ar) ++ (SW E oa sa2 aa2)) H → va_D A (([(cw, .inr (1, [.ref (o 0), .ref (oa 0), .ref osA, iv hsn, .ref hdA, .ref spA, .ref bfA, .ref lnA, .ref prA, iv ep, va_rf lt]))] : va_W) ++ (SW E o sc ar) ++ (SW E oa sa2 aa2)) → va_S A s.heap H locs → ∀ ls : Array Slot, lv_has ls 4 [(3, iv x3), (2, iv x2), (1, iv y1), (0, .ref cw)] → W p l e (headSpec (ws_ yX1_areMakingsConsistent cX1_areMakingsConsistent 4 (some .boolean)) { frames := 22, cells := 72, slots := 288, locals := 670 }).room s m ([.ref cw] : List Value).toArray below meth c H locs cll11 sll11 (MQ below (UQx E (fun u : SU => True) (fun u : SU => 1) (fun u : SU => ([(cw, .inr (1, [.ref (o 0), .ref (oa 0), .ref osA, iv hsn, .ref hdA, .ref spA, .ref bfA, .ref lnA, .ref prA, iv ep, va_rf lt]))] : va_W) ++ (SW E o sc ar) ++ (SW E oa u.1 u.2)) A) ([.ref cw] : List Value).toArray s 72 288 A) (F0 m 11 ls []) := by
          intro fu
          induction fu with
          | zero =>
            intro cll11 sll11 y1 x3 sa2 aa2 hgl11 il11_0 hm
            exfalso; omega
          | succ fu ih =>
            intro cll11 sll11 y1 x3 sa2 aa2 hgl11 il11_0 hm H locs hP hD hS ls hl
            have ihl11 := ih
            refine lv_iload_n hx hb dX1_areMakingsConsistent_11 rfl (lv_at hl 0 rfl) ?_
            refine lv_bipush (v := iI 8) hx hb dX1_areMakingsConsistent_12 (by decide) ?_
            refine n_icmp_ge (tgt := 68) hx hb dX1_areMakingsConsistent_14 (by decide) (by omega) (by omega) (fun c_2 => ?_) (fun c_2 => ?_)
            · refine lv_iinc (v := iI (x2 + 1)) (lv' := [(2, iv (x2 + 1)), (3, iv x3), (1, iv y1), (0, .ref cw)]) hx hb dX1_areMakingsConsistent_68 hl (k := 1) rfl (iI_add _ _) (by decide) rfl (fun ls hl => ?_)
              refine lv_goto (tgt := 4) hx hb dX1_areMakingsConsistent_71 (by decide) ?_
              exact ihl4 cll11 sll11 y1 (x2 + 1) sa2 aa2 (by omega) (by first | omega | rfl) (by omega) H locs hP hD hS ls (lv_sub hl [0, 2, 3] rfl)
            · refine lv_aload_n hx hb dX1_areMakingsConsistent_17 rfl (lv_at hl 3 rfl) ?_
              refine va_get (D := E.1) (ci := 1) (v := .ref (o 0)) (C := RX1) (T := TX1) (N := 11) hx hb hts in_X1 hown hK.1 hP 0 rfl rfl 0 (by decide) (hts _ q472) (fun _ h9 => h9) rfl dX1_areMakingsConsistent_18 ?_
              refine va_getN (D := E.1) (ci := 2) (v := .ref (o 9)) (C := RX2) (T := TX2) (N := 14) hx hb hts in_X2 hown hK.1 hP 1 rfl rfl 1 (by decide) (hK.nw q192) (fun _ h9 => h9) rfl dX1_areMakingsConsistent_21 ?_
              refine lv_iload_n hx hb dX1_areMakingsConsistent_24 rfl (lv_at hl 1 rfl) ?_
              refine n_zald (f := ar 9) hx hb hK.1 hP 10 1 rfl rfl (by omega) (by decide) dX1_areMakingsConsistent_25 ?_
              rw [hsr.op (k := x2) (by omega)]
              refine n_ifb_eq (tgt := 68) hx hb dX1_areMakingsConsistent_26 (by decide) (fun c_3 => ?_) (fun c_3 => ?_)
              · refine lv_iinc (v := iI (x2 + 1)) (lv' := [(2, iv (x2 + 1)), (3, iv x3), (1, iv y1), (0, .ref cw)]) hx hb dX1_areMakingsConsistent_68 hl (k := 1) rfl (iI_add _ _) (by decide) rfl (fun ls hl => ?_)
                refine lv_goto (tgt := 4) hx hb dX1_areMakingsConsistent_71 (by decide) ?_
                exact ihl4 cll11 sll11 y1 (x2 + 1) sa2 aa2 (by omega) (by first | omega | rfl) (by omega) H locs hP hD hS ls (lv_sub hl [0, 2, 3] rfl)
              · refine lv_iload_n hx hb dX1_areMakingsConsistent_29 rfl (lv_at hl 2 rfl) ?_
                refine lv_aload_n hx hb dX1_areMakingsConsistent_30 rfl (lv_at hl 3 rfl) ?_
                refine lv_iload_n hx hb dX1_areMakingsConsistent_31 rfl (lv_at hl 0 rfl) ?_
                refine lv_iload_n hx hb dX1_areMakingsConsistent_32 rfl (lv_at hl 1 rfl) ?_
                have hg_4 : gpick [[(cw, .inr (1, [.ref (o 0), .ref (oa 0), .ref osA, iv hsn, .ref hdA, .ref spA, .ref bfA, .ref lnA, .ref prA, iv ep, va_rf lt]))], SW E o sc ar, SW E oa sa2 aa2] ([[(cw, .inr (1, [.ref (o 0), .ref (oa 0), .ref osA, iv hsn, .ref hdA, .ref spA, .ref bfA, .ref lnA, .ref prA, iv ep, va_rf lt]))], SW E o sc ar, SW E oa sa2 aa2] ++ []) [0, 1, 2] := ⟨rfl, (show List.Perm [0, 1, 2] (List.range 3) from by decide)⟩
                have hg_4P : va_P E.1 CL (([(cw, .inr (1, [.ref (o 0), .ref (oa 0), .ref osA, iv hsn, .ref hdA, .ref spA, .ref bfA, .ref lnA, .ref prA, iv ep, va_rf lt]))] : va_W) ++ (SW E o sc ar) ++ (SW E oa sa2 aa2)) H := (g_out hg_4 hP hD).1
                have hg_4D : va_D A (([(cw, .inr (1, [.ref (o 0), .ref (oa 0), .ref osA, iv hsn, .ref hdA, .ref spA, .ref bfA, .ref lnA, .ref prA, iv ep, va_rf lt]))] : va_W) ++ (SW E o sc ar) ++ (SW E oa sa2 aa2)) := (g_out hg_4 hP hD).2
                have hg_4F : ∀ q, va_A (([(cw, .inr (1, [.ref (o 0), .ref (oa 0), .ref osA, iv hsn, .ref hdA, .ref spA, .ref bfA, .ref lnA, .ref prA, iv ep, va_rf lt]))] : va_W) ++ (SW E o sc ar) ++ (SW E oa sa2 aa2)) H.size q → A q := g_free hg_4 hP hD hS hA
                have hz_5 : s.heap.size ≤ H.size := hS.1
                have hj_8 : ∀ u_6 : SU, gpick ([[(cw, .inr (1, [.ref (o 0), .ref (oa 0), .ref osA, iv hsn, .ref hdA, .ref spA, .ref bfA, .ref lnA, .ref prA, iv ep, va_rf lt]))], SW E o sc ar, SW E oa u_6.1 u_6.2] ++ []) [[(cw, .inr (1, [.ref (o 0), .ref (oa 0), .ref osA, iv hsn, .ref hdA, .ref spA, .ref bfA, .ref lnA, .ref prA, iv ep, va_rf lt]))], SW E o sc ar, SW E oa u_6.1 u_6.2] [0, 1, 2] := fun u_6 => ⟨rfl, (show List.Perm [0, 1, 2] (List.range 3) from by decide)⟩
                have hj_9 : ∀ u_7 : Unit, gpick ([[(cw, .inr (1, [.ref (o 0), .ref (oa 0), .ref osA, iv hsn, .ref hdA, .ref spA, .ref bfA, .ref lnA, .ref prA, iv ep, va_rf lt]))], SW E o sc ar, SW E oa sa2 aa2] ++ []) [[(cw, .inr (1, [.ref (o 0), .ref (oa 0), .ref osA, iv hsn, .ref hdA, .ref spA, .ref bfA, .ref lnA, .ref prA, iv ep, va_rf lt]))], SW E o sc ar, SW E oa sa2 aa2] [0, 1, 2] := fun u_7 => ⟨rfl, (show List.Perm [0, 1, 2] (List.range 3) from by decide)⟩
                refine n_txB (x := fun u_6 => (if (m_dues g x3 x2).2.2 < 0 then (m_dues g x3 x2).1 else -1)) (w2 := fun u_6 => ([(cw, .inr (1, [.ref (o 0), .ref (oa 0), .ref osA, iv hsn, .ref hdA, .ref spA, .ref bfA, .ref lnA, .ref prA, iv ep, va_rf lt]))] : va_W) ++ (SW E o sc ar) ++ (SW E oa u_6.1 u_6.2)) (w3 := fun u_7 => ([(cw, .inr (1, [.ref (o 0), .ref (oa 0), .ref osA, iv hsn, .ref hdA, .ref spA, .ref bfA, .ref lnA, .ref prA, iv ep, va_rf lt]))] : va_W) ++ (SW E o sc ar) ++ (SW E oa sa2 aa2)) (vx_runV (As := [iv x3, iv x2]) (rest := [iv y1]) ⟨hx, hb, hml, hown, hts⟩ (mt_X1_tried l E cw osA hsn hdA spA bfA lnA prA ep lt o sc ar oa sa2 aa2 x3 x2 g r (by exact hst) (by assumption) (by omega) (by omega) (by assumption) (by assumption) (by assumption) (by assumption) (by assumption) (by assumption) (by assumption) (by assumption) (by exact hfit _ (by omega) (by omega) _) _) (cwV 2 hts (lw_V q756 q758 qs12 q94 q759) rfl rfl rfl (by decide +kernel) ⟨Nat.le_of_ble_eq_true rfl, Nat.le_of_ble_eq_true rfl⟩) (UX_V hg_4P hK (hg_4D) hE hS hg_4F (va_recv hK.1 hP (ci := 1) (q0 := 0) rfl rfl)) rfl rfl hl.1 rfl (lv_room (Nat.le_of_ble_eq_true rfl)) dX1_areMakingsConsistent_33 ⟨(show cll11 + 1 ≤ 72 by omega), (show sll11 + 4 ≤ 288 by omega)⟩) hS hg_4F ?_ ?_ ?_ ?_
                · exact (fun u_6 _ hk9 hp9 hd9 => g_back hg_4 (hj_8 u_6) hP hD hg_4F hk9 hp9 hd9)
                · exact (fun u_7 _ hk9 hp9 hd9 => g_back hg_4 (hj_9 u_7) hP hD hg_4F hk9 hp9 hd9)
                · intro En ce q9 u_7 H locs hCx hP hD hS hxf hq9 hce hcv hcl
                  have hCx : False := hCx
                  have hP : va_P E.1 CL (([(cw, .inr (1, [.ref (o 0), .ref (oa 0), .ref osA, iv hsn, .ref hdA, .ref spA, .ref bfA, .ref lnA, .ref prA, iv ep, va_rf lt]))] : va_W) ++ (SW E o sc ar) ++ (SW E oa sa2 aa2)) H := hP
                  have hD : va_D A (([(cw, .inr (1, [.ref (o 0), .ref (oa 0), .ref osA, iv hsn, .ref hdA, .ref spA, .ref bfA, .ref lnA, .ref prA, iv ep, va_rf lt]))] : va_W) ++ (SW E o sc ar) ++ (SW E oa sa2 aa2)) := hD
                  exact (show False from hCx).elim
                · intro u_6 H locs hC hP hD hS
                  have hu_6 : True := hC
                  have hP : va_P E.1 CL (([(cw, .inr (1, [.ref (o 0), .ref (oa 0), .ref osA, iv hsn, .ref hdA, .ref spA, .ref bfA, .ref lnA, .ref prA, iv ep, va_rf lt]))] : va_W) ++ (SW E o sc ar) ++ (SW E oa u_6.1 u_6.2)) H := hP
                  have hD : va_D A (([(cw, .inr (1, [.ref (o 0), .ref (oa 0), .ref osA, iv hsn, .ref hdA, .ref spA, .ref bfA, .ref lnA, .ref prA, iv ep, va_rf lt]))] : va_W) ++ (SW E o sc ar) ++ (SW E oa u_6.1 u_6.2)) := hD
                  have hdf : -1 ≤ (if (m_dues g x3 x2).2.2 < 0 then (m_dues g x3 x2).1 else -1) ∧ (if (m_dues g x3 x2).2.2 < 0 then (m_dues g x3 x2).1 else -1) < 2147483648 := by
                    have h9 := m_dues_r (th := x2) htw hsw (t := x3) (by omega)
                    split <;> omega
                  have hz9_q_10 : s.heap.size ≤ (H).size := hS.1
                  refine n_newK (ci := 7) (fs := [.null, iv 0, iv 0, iv 0]) (C := RX8) (T := TX8) (N := 4) hx hb hts in_X8 tyX8 tyX8_ok hown (hts _ q854) (hts _ q776) (hts _ q124) hK hP hD hS hA rfl (fun j hj => by rcases (show j = 0 ∨ j = 1 ∨ j = 2 ∨ j = 3 by omega) with rfl | rfl | rfl | rfl <;> rfl) (show (cll11 + 1) + 1 ≤ 72 by omega) (show (sll11 + 4) + 4 ≤ 288 by omega) dX1_areMakingsConsistent_36 (fun q_10 H hfr_q_10 o_11 hsz_q_10 hP hD hS => ?_)
                  have hge_q_10 : s.heap.size ≤ q_10 := Nat.le_trans hz9_q_10 hsz_q_10
                  have hP : va_P E.1 CL (([(cw, .inr (1, [.ref (o 0), .ref (oa 0), .ref osA, iv hsn, .ref hdA, .ref spA, .ref bfA, .ref lnA, .ref prA, iv ep, va_rf lt]))] : va_W) ++ (SW E o sc ar) ++ (SW E oa u_6.1 u_6.2) ++ ([(q_10, .inr (7, [.null, iv 0, iv 0, iv 0]))] : va_W)) H := hP
                  have hD : va_D A (([(cw, .inr (1, [.ref (o 0), .ref (oa 0), .ref osA, iv hsn, .ref hdA, .ref spA, .ref bfA, .ref lnA, .ref prA, iv ep, va_rf lt]))] : va_W) ++ (SW E o sc ar) ++ (SW E oa u_6.1 u_6.2) ++ ([(q_10, .inr (7, [.null, iv 0, iv 0, iv 0]))] : va_W)) := hD
                  refine lv_dup hx hb dX1_areMakingsConsistent_39 rfl ?_
                  refine lv_aload_n hx hb dX1_areMakingsConsistent_40 rfl (lv_at hl 3 rfl) ?_
                  refine va_get (D := E.1) (ci := 1) (v := .ref (o 0)) (C := RX1) (T := TX1) (N := 11) hx hb hts in_X1 hown hK.1 hP 0 rfl rfl 0 (by decide) (hts _ q472) (fun _ h9 => h9) rfl dX1_areMakingsConsistent_41 ?_
                  refine lv_iload_n hx hb dX1_areMakingsConsistent_44 rfl (lv_at hl 1 rfl) ?_
                  have hg_12 : gpick [[(cw, .inr (1, [.ref (o 0), .ref (oa 0), .ref osA, iv hsn, .ref hdA, .ref spA, .ref bfA, .ref lnA, .ref prA, iv ep, va_rf lt]))], SW E o sc ar, SW E oa u_6.1 u_6.2, [(q_10, .inr (7, [.null, iv 0, iv 0, iv 0]))]] ([[(q_10, .inr (7, [.null, iv 0, iv 0, iv 0]))], SW E o sc ar] ++ [[(cw, .inr (1, [.ref (o 0), .ref (oa 0), .ref osA, iv hsn, .ref hdA, .ref spA, .ref bfA, .ref lnA, .ref prA, iv ep, va_rf lt]))], SW E oa u_6.1 u_6.2]) [3, 1, 0, 2] := ⟨rfl, (show List.Perm [3, 1, 0, 2] (List.range 4) from by decide)⟩
                  have hg_12P : va_P E.1 CL (([(q_10, .inr (7, [.null, iv 0, iv 0, iv 0]))] : va_W) ++ (SW E o sc ar)) H := (g_out hg_12 hP hD).1
                  have hg_12D : va_D A (([(q_10, .inr (7, [.null, iv 0, iv 0, iv 0]))] : va_W) ++ (SW E o sc ar)) := (g_out hg_12 hP hD).2
                  have hg_12F : ∀ q, va_A (([(q_10, .inr (7, [.null, iv 0, iv 0, iv 0]))] : va_W) ++ (SW E o sc ar)) H.size q → A q := g_free hg_12 hP hD hS hA
                  have hj_14 : ∀ u_13 : Int → Bool, gpick ([[(q_10, .inr (7, [.ref (o 0), iv x2, iv (bsI u_13), iv 0]))], SW E o sc ar] ++ [[(cw, .inr (1, [.ref (o 0), .ref (oa 0), .ref osA, iv hsn, .ref hdA, .ref spA, .ref bfA, .ref lnA, .ref prA, iv ep, va_rf lt]))], SW E oa u_6.1 u_6.2]) [[(cw, .inr (1, [.ref (o 0), .ref (oa 0), .ref osA, iv hsn, .ref hdA, .ref spA, .ref bfA, .ref lnA, .ref prA, iv ep, va_rf lt]))], SW E o sc ar, SW E oa u_6.1 u_6.2, [(q_10, .inr (7, [.ref (o 0), iv x2, iv (bsI u_13), iv 0]))]] [2, 1, 3, 0] := fun u_13 => ⟨rfl, (show List.Perm [2, 1, 3, 0] (List.range 4) from by decide)⟩
                  refine n_cuxvB (w2 := fun u_13 => ([(cw, .inr (1, [.ref (o 0), .ref (oa 0), .ref osA, iv hsn, .ref hdA, .ref spA, .ref bfA, .ref lnA, .ref prA, iv ep, va_rf lt]))] : va_W) ++ (SW E o sc ar) ++ (SW E oa u_6.1 u_6.2) ++ ([(q_10, .inr (7, [.ref (o 0), iv x2, iv (bsI u_13), iv 0]))] : va_W)) (va_runI (As := [.ref (o 0), iv x2]) (rest := [.ref q_10, iv (if (m_dues g x3 x2).2.2 < 0 then (m_dues g x3 x2).1 else -1), iv y1]) ⟨hx, hb, hml, hown, hts⟩ (mt_X8_init l E q_10 o sc ar x2 g (by omega) (by assumption) (by assumption) (by assumption) (by assumption) _) (n_cwI 2 hts q855 q778 q124 q779 rfl rfl rfl (by decide +kernel) ⟨Nat.le_of_ble_eq_true rfl, Nat.le_of_ble_eq_true rfl⟩) (UW_S hg_12P hK hg_12D) rfl rfl hl.1 rfl (lv_room (Nat.le_of_ble_eq_true rfl)) dX1_areMakingsConsistent_45 ⟨(show (cll11 + 2) + 0 ≤ 72 by omega), (show (sll11 + 8) + 0 ≤ 288 by omega)⟩) hS hg_12F ?_ ?_
                  · exact (fun u_13 _ hk9 hp9 hd9 => g_back hg_12 (hj_14 u_13) hP hD hg_12F hk9 hp9 hd9)
                  intro u_13 H locs hu_13 hP hD hS
                  have hu_13 : ∀ v, 0 ≤ v → v < 8 → m_has g v = true → u_13 v = (decide (0 ≤ m_exist g v x2) || (fun _ => false : Int → Bool) v) := hu_13
                  have hP : va_P E.1 CL (([(cw, .inr (1, [.ref (o 0), .ref (oa 0), .ref osA, iv hsn, .ref hdA, .ref spA, .ref bfA, .ref lnA, .ref prA, iv ep, va_rf lt]))] : va_W) ++ (SW E o sc ar) ++ (SW E oa u_6.1 u_6.2) ++ ([(q_10, .inr (7, [.ref (o 0), iv x2, iv (bsI u_13), iv 0]))] : va_W)) H := hP
                  have hD : va_D A (([(cw, .inr (1, [.ref (o 0), .ref (oa 0), .ref osA, iv hsn, .ref hdA, .ref spA, .ref bfA, .ref lnA, .ref prA, iv ep, va_rf lt]))] : va_W) ++ (SW E o sc ar) ++ (SW E oa u_6.1 u_6.2) ++ ([(q_10, .inr (7, [.ref (o 0), iv x2, iv (bsI u_13), iv 0]))] : va_W)) := hD
                  refine lv_iload_n hx hb dX1_areMakingsConsistent_48 rfl (lv_at hl 0 rfl) ?_
                  have hg_15 : gpick [[(cw, .inr (1, [.ref (o 0), .ref (oa 0), .ref osA, iv hsn, .ref hdA, .ref spA, .ref bfA, .ref lnA, .ref prA, iv ep, va_rf lt]))], SW E o sc ar, SW E oa u_6.1 u_6.2, [(q_10, .inr (7, [.ref (o 0), iv x2, iv (bsI u_13), iv 0]))]] ([[(q_10, .inr (7, [.ref (o 0), iv x2, iv (bsI u_13), iv 0]))], SW E o sc ar] ++ [[(cw, .inr (1, [.ref (o 0), .ref (oa 0), .ref osA, iv hsn, .ref hdA, .ref spA, .ref bfA, .ref lnA, .ref prA, iv ep, va_rf lt]))], SW E oa u_6.1 u_6.2]) [3, 1, 0, 2] := ⟨rfl, (show List.Perm [3, 1, 0, 2] (List.range 4) from by decide)⟩
                  have hg_15P : va_P E.1 CL (([(q_10, .inr (7, [.ref (o 0), iv x2, iv (bsI u_13), iv 0]))] : va_W) ++ (SW E o sc ar)) H := (g_out hg_15 hP hD).1
                  have hg_15D : va_D A (([(q_10, .inr (7, [.ref (o 0), iv x2, iv (bsI u_13), iv 0]))] : va_W) ++ (SW E o sc ar)) := (g_out hg_15 hP hD).2
                  have hg_15F : ∀ q, va_A (([(q_10, .inr (7, [.ref (o 0), iv x2, iv (bsI u_13), iv 0]))] : va_W) ++ (SW E o sc ar)) H.size q → A q := g_free hg_15 hP hD hS hA
                  have hj_17 : ∀ u_16 : (Int → Bool) × Int, gpick ([[(q_10, .inr (7, [.ref (o 0), iv x2, iv (bsI u_16.1), iv u_16.2]))], SW E o sc ar] ++ [[(cw, .inr (1, [.ref (o 0), .ref (oa 0), .ref osA, iv hsn, .ref hdA, .ref spA, .ref bfA, .ref lnA, .ref prA, iv ep, va_rf lt]))], SW E oa u_6.1 u_6.2]) [[(cw, .inr (1, [.ref (o 0), .ref (oa 0), .ref osA, iv hsn, .ref hdA, .ref spA, .ref bfA, .ref lnA, .ref prA, iv ep, va_rf lt]))], SW E o sc ar, SW E oa u_6.1 u_6.2, [(q_10, .inr (7, [.ref (o 0), iv x2, iv (bsI u_16.1), iv u_16.2]))]] [2, 1, 3, 0] := fun u_16 => ⟨rfl, (show List.Perm [2, 1, 3, 0] (List.range 4) from by decide)⟩
                  refine n_cuxB (x := fun u_16 => (if (m_dues g x3 x2).2.2 < 0 then (m_dues g x3 x2).1 else -1)) (w2 := fun u_16 => ([(cw, .inr (1, [.ref (o 0), .ref (oa 0), .ref osA, iv hsn, .ref hdA, .ref spA, .ref bfA, .ref lnA, .ref prA, iv ep, va_rf lt]))] : va_W) ++ (SW E o sc ar) ++ (SW E oa u_6.1 u_6.2) ++ ([(q_10, .inr (7, [.ref (o 0), iv x2, iv (bsI u_16.1), iv u_16.2]))] : va_W)) (va_runV (As := [iv x3]) (rest := [iv (if (m_dues g x3 x2).2.2 < 0 then (m_dues g x3 x2).1 else -1), iv y1]) ⟨hx, hb, hml, hown, hts⟩ (mt_X8_wouldMake l E q_10 x2 u_13 o sc ar x3 g r (by omega) (by first | assumption | exact hsr.br) (by assumption) (by assumption) (by assumption) (by assumption) (by assumption) (by assumption) (by exact hu_13) _) (cwV 1 hts (lw_V q856 q857 q858 q124 q859) rfl rfl rfl (by decide +kernel) ⟨Nat.le_of_ble_eq_true rfl, Nat.le_of_ble_eq_true rfl⟩) (UW_V hg_15P hK hg_15D (va_recv hK.1 hP (ci := 7) (q0 := 35) rfl rfl)) rfl rfl hl.1 rfl (lv_room (Nat.le_of_ble_eq_true rfl)) dX1_areMakingsConsistent_49 ⟨(show (cll11 + 2) + 0 ≤ 72 by omega), (show (sll11 + 8) + 0 ≤ 288 by omega)⟩) hS hg_15F ?_ ?_
                  · exact (fun u_16 _ hk9 hp9 hd9 => g_back hg_15 (hj_17 u_16) hP hD hg_15F hk9 hp9 hd9)
                  intro u_16 H locs hu_16 hP hD hS
                  have hu_16 : True := hu_16
                  have hP : va_P E.1 CL (([(cw, .inr (1, [.ref (o 0), .ref (oa 0), .ref osA, iv hsn, .ref hdA, .ref spA, .ref bfA, .ref lnA, .ref prA, iv ep, va_rf lt]))] : va_W) ++ (SW E o sc ar) ++ (SW E oa u_6.1 u_6.2) ++ ([(q_10, .inr (7, [.ref (o 0), iv x2, iv (bsI u_16.1), iv u_16.2]))] : va_W)) H := hP
                  have hD : va_D A (([(cw, .inr (1, [.ref (o 0), .ref (oa 0), .ref osA, iv hsn, .ref hdA, .ref spA, .ref bfA, .ref lnA, .ref prA, iv ep, va_rf lt]))] : va_W) ++ (SW E o sc ar) ++ (SW E oa u_6.1 u_6.2) ++ ([(q_10, .inr (7, [.ref (o 0), iv x2, iv (bsI u_16.1), iv u_16.2]))] : va_W)) := hD
                  have b_18 := hdf
                  refine n_icmp_ne (tgt := 59) hx hb dX1_areMakingsConsistent_52 (by decide) (by omega) (by omega) (fun c_19 => ?_) (fun c_19 => ?_)
                  · exact absurd rfl c_19
                  · refine lv_iconst (v := iI 1) hx hb dX1_areMakingsConsistent_55 rfl ?_
                    refine lv_goto (tgt := 60) hx hb dX1_areMakingsConsistent_56 (by decide) ?_
                    refine n_iand1 hx hb dX1_areMakingsConsistent_60 ?_
                    refine lv_istore_n (lv' := [(1, iv (y1 % 2)), (3, iv x3), (2, iv x2), (0, .ref cw)]) hx hb dX1_areMakingsConsistent_61 rfl hl (by decide) rfl (fun ls hl => ?_)
                    refine lv_iinc (v := iI (x3 + 1)) (lv' := [(3, iv (x3 + 1)), (1, iv (y1 % 2)), (2, iv x2), (0, .ref cw)]) hx hb dX1_areMakingsConsistent_62 hl (k := 1) rfl (iI_add _ _) (by decide) rfl (fun ls hl => ?_)
                    refine lv_goto (tgt := 11) hx hb dX1_areMakingsConsistent_65 (by decide) ?_
                    have hP := hP.sub (ws' := ([(cw, .inr (1, [.ref (o 0), .ref (oa 0), .ref osA, iv hsn, .ref hdA, .ref spA, .ref bfA, .ref lnA, .ref prA, iv ep, va_rf lt]))] : va_W) ++ (SW E o sc ar) ++ (SW E oa u_6.1 u_6.2)) [0, 1, 2, 3, 4, 5, 6, 7, 8, 9, 10, 11, 12, 13, 14, 15, 16, 17, 18, 19, 20, 21, 22, 23, 24, 25, 26, 27, 28, 29, 30, 31, 32, 33, 34] rfl
                    have hD := hD.sub (ws' := ([(cw, .inr (1, [.ref (o 0), .ref (oa 0), .ref osA, iv hsn, .ref hdA, .ref spA, .ref bfA, .ref lnA, .ref prA, iv ep, va_rf lt]))] : va_W) ++ (SW E o sc ar) ++ (SW E oa u_6.1 u_6.2)) [0, 1, 2, 3, 4, 5, 6, 7, 8, 9, 10, 11, 12, 13, 14, 15, 16, 17, 18, 19, 20, 21, 22, 23, 24, 25, 26, 27, 28, 29, 30, 31, 32, 33, 34] (by decide) rfl
                    exact ihl11 (cll11 + 2) (sll11 + 8) (y1 % 2) (x3 + 1) u_6.1 u_6.2 (by omega) (by first | omega | rfl) (by omega) H locs hP hD hS ls (lv_sub hl [0, 2, 1, 3] rfl)
        exact l11 9 cll4 sll4 x1 0 sa1 aa1 (by omega) (by first | omega | rfl | trivial) (by omega) H locs hP hD hS ls hl
  exact l4 5 0 0 1 0 sa aa (by omega) (by first | omega | rfl | trivial) (by omega) s.heap [] hP hD hS ls hl
set_option maxHeartbeats 2000000 in
set_option maxRecDepth 100000 in
theorem mt_X1_isConsistent (l : Launch) (E : EE) (cw : Nat) (osA : Nat) (hsn : Int) (hdA : Nat) (spA : Nat) (bfA : Nat) (lnA : Nat) (prA : Nat) (ep : Int) (lt : Option Nat) (o : Nat → Nat) (sc : Nat → Int) (ar : Nat → Int → Int) (oa : Nat → Nat) (sa : Nat → Int) (aa : Nat → Int → Int)  (g : Int → Int) (r : Int → Nat) (hst : l.stackTraces = false) (hsr : SR g sc ar) (htw : TW g) (hsw : SwOK g) (htm : TM g) (hhn : HN g) (hsc : SC g) (hrk : RK g r) (hr8 : ∀ t, 0 ≤ t → t < 8 → r t < 8) (how : OY g) (hfit : ∀ t, 0 ≤ t → t < 8 → ∀ th, g 1 + (m_dues g t th).1 ≤ 160) (hhh : HH g) (hsi : SI g) (hgb : 0 ≤ g 2 ∧ g 2 < 2147483648 ∧ 0 ≤ g 3 ∧ g 1 + g 3 < 2147483648) (sz : Nat) : Met l yX1_isConsistent (ws_ yX1_isConsistent cX1_isConsistent 1 (some .boolean)) { frames := 28, cells := 319, slots := 2100, locals := 3145 } (va_Pc [.ref cw] (UX E (([(cw, .inr (1, [.ref (o 0), .ref (oa 0), .ref osA, iv hsn, .ref hdA, .ref spA, .ref bfA, .ref lnA, .ref prA, iv ep, va_rf lt]))] : va_W) ++ (SW E o sc ar) ++ (SW E oa sa aa)) sz)) (UQx E (fun u : SU => True) (fun u : SU => b2 (decide (g 2 = g 1 + g 3))) (fun u : SU => ([(cw, .inr (1, [.ref (o 0), .ref (oa 0), .ref osA, iv hsn, .ref hdA, .ref spA, .ref bfA, .ref lnA, .ref prA, iv ep, va_rf lt]))] : va_W) ++ (SW E o sc ar) ++ (SW E oa u.1 u.2)) (va_A (([(cw, .inr (1, [.ref (o 0), .ref (oa 0), .ref osA, iv hsn, .ref hdA, .ref spA, .ref bfA, .ref lnA, .ref prA, iv ep, va_rf lt]))] : va_W) ++ (SW E o sc ar) ++ (SW E oa sa aa)) sz)) 319 2100 (va_A (([(cw, .inr (1, [.ref (o 0), .ref (oa 0), .ref osA, iv hsn, .ref hdA, .ref spA, .ref bfA, .ref lnA, .ref prA, iv ep, va_rf lt]))] : va_W) ++ (SW E o sc ar) ++ (SW E oa sa aa)) sz) := by
  refine Met.ofW (cc := cX1_isConsistent) (maxL := 1) (ret := (some .boolean)) (by decide) rfl ?_
  intro p e s m args below meth c s₁ B hml hv
  obtain ⟨rfl, hsz, hP, hK, hD0, hE⟩ := hv
  have hx := B.exec
  have hb := B.bytes
  have hr := B.returns
  have hts := atoms_spec (ws := (ws_ yX1_isConsistent cX1_isConsistent 1 (some .boolean))) B.pre
  have hts : ∀ w ∈ lw_all, w.before _ s = true := fun w h => hts w (List.mem_cons_of_mem _ h)
  have hown : s.vm.findClass RX1 = some m.cls := findClass_of_methodNamed B.named
  have hlocks := B.notSynchronized
  subst hsz
  have hD := hD0.self (sz := s.heap.size)
  generalize hAe : va_A (([(cw, .inr (1, [.ref (o 0), .ref (oa 0), .ref osA, iv hsn, .ref hdA, .ref spA, .ref bfA, .ref lnA, .ref prA, iv ep, va_rf lt]))] : va_W) ++ (SW E o sc ar) ++ (SW E oa sa aa)) s.heap.size = A at hD hE ⊢
  have hA : ∀ q : Nat, s.heap.size ≤ q → A q := fun q h => by rw [← hAe]; exact Or.inr h
  have hS : va_S A s.heap s.heap [] := va_S.rf
  have hl := lv_entry ([.ref cw]) (n := 1) (Nat.le_of_ble_eq_true rfl)
  rw [lg_entry_eq]
  generalize (lg_sl ([.ref cw]) ++ List.replicate (1 - (lg_sl ([.ref cw])).length) Slot.unset).toArray = ls at hl ⊢
  have hl : lv_has ls 1 [(0, .ref cw)] := hl
  refine lv_aload_n hx hb dX1_isConsistent_0 rfl (lv_at hl 0 rfl) ?_
  refine va_get (D := E.1) (ci := 1) (v := .ref (o 0)) (C := RX1) (T := TX1) (N := 11) hx hb hts in_X1 hown hK.1 hP 0 rfl rfl 0 (by decide) (hts _ q472) (fun _ h9 => h9) rfl dX1_isConsistent_1 ?_
  have hg_1 : gpick [[(cw, .inr (1, [.ref (o 0), .ref (oa 0), .ref osA, iv hsn, .ref hdA, .ref spA, .ref bfA, .ref lnA, .ref prA, iv ep, va_rf lt]))], SW E o sc ar, SW E oa sa aa] ([SW E o sc ar] ++ [[(cw, .inr (1, [.ref (o 0), .ref (oa 0), .ref osA, iv hsn, .ref hdA, .ref spA, .ref bfA, .ref lnA, .ref prA, iv ep, va_rf lt]))], SW E oa sa aa]) [1, 0, 2] := ⟨rfl, (show List.Perm [1, 0, 2] (List.range 3) from by decide)⟩
  have hg_1P : va_P E.1 CL (SW E o sc ar) s.heap := (g_out hg_1 hP hD).1
  have hg_1D : va_D A (SW E o sc ar) := (g_out hg_1 hP hD).2
  have hg_1F : ∀ q, va_A (SW E o sc ar) s.heap.size q → A q := g_free hg_1 hP hD hS hA
  have hj_2 : gpick ([SW E o sc ar] ++ [[(cw, .inr (1, [.ref (o 0), .ref (oa 0), .ref osA, iv hsn, .ref hdA, .ref spA, .ref bfA, .ref lnA, .ref prA, iv ep, va_rf lt]))], SW E oa sa aa]) [[(cw, .inr (1, [.ref (o 0), .ref (oa 0), .ref osA, iv hsn, .ref hdA, .ref spA, .ref bfA, .ref lnA, .ref prA, iv ep, va_rf lt]))], SW E o sc ar, SW E oa sa aa] [1, 0, 2] := ⟨rfl, (show List.Perm [1, 0, 2] (List.range 3) from by decide)⟩
  refine n_cuiB (x := b2 (decide (g 2 = g 1 + g 3))) (w2 := ([(cw, .inr (1, [.ref (o 0), .ref (oa 0), .ref osA, iv hsn, .ref hdA, .ref spA, .ref bfA, .ref lnA, .ref prA, iv ep, va_rf lt]))] : va_W) ++ (SW E o sc ar) ++ (SW E oa sa aa)) (va_runV (As := []) (rest := []) ⟨hx, hb, hml, hown, hts⟩ (mt_X2_areWaysConsistent l E o sc ar  g r (by assumption) (by assumption) (by assumption) (by assumption) (by assumption) (by assumption) (by assumption) (by assumption) (by assumption) (by assumption) (by assumption) (by omega) _) (cwV 0 hts (lw_V q703 q704 q705 q95 q706) rfl rfl rfl (by decide +kernel) ⟨Nat.le_of_ble_eq_true rfl, Nat.le_of_ble_eq_true rfl⟩) (UX_V hg_1P hK hg_1D hE hS hg_1F (va_recv hK.1 hP (ci := 2) (q0 := 1) rfl rfl)) rfl rfl hl.1 rfl (lv_room (Nat.le_of_ble_eq_true rfl)) dX1_isConsistent_4 ⟨Nat.le_of_ble_eq_true rfl, Nat.le_of_ble_eq_true rfl⟩) hS hg_1F ?_ ?_
  · exact (fun _ hk9 hp9 hd9 => g_back hg_1 hj_2 hP hD hg_1F hk9 hp9 hd9)
  intro H locs hP hD hS
  have hP : va_P E.1 CL (([(cw, .inr (1, [.ref (o 0), .ref (oa 0), .ref osA, iv hsn, .ref hdA, .ref spA, .ref bfA, .ref lnA, .ref prA, iv ep, va_rf lt]))] : va_W) ++ (SW E o sc ar) ++ (SW E oa sa aa)) H := hP
  have hD : va_D A (([(cw, .inr (1, [.ref (o 0), .ref (oa 0), .ref osA, iv hsn, .ref hdA, .ref spA, .ref bfA, .ref lnA, .ref prA, iv ep, va_rf lt]))] : va_W) ++ (SW E o sc ar) ++ (SW E oa sa aa)) := hD
  refine n_ifd_eq (tgt := 21) hx hb dX1_isConsistent_7 (by decide) (fun c_3 => ?_) (fun c_3 => ?_)
  · refine lv_iconst (v := iI 0) hx hb dX1_isConsistent_21 rfl ?_
    have hfin : 0 = b2 (decide (g 2 = g 1 + g 3)) := by
      first | exact (b2_pos (by assumption)).symm | exact (b2_neg (by assumption)).symm
    refine W.widen (k := 319) (n := 2100) (Nat.le_of_ble_eq_true rfl) (Nat.le_of_ble_eq_true rfl) ?_
    exact W.zret (v := iI 0) hx hb hr (nr_b (by decide)) (fun tt_ ht_ hW_ => ⟨⟨iI 0, (sa, aa), rfl, ⟨trivial, (congrArg iI hfin)⟩, by rw [ht_]; exact hP, hD⟩, hS.F ht_⟩) hS.2.2 dX1_isConsistent_22
  · refine lv_aload_n hx hb dX1_isConsistent_10 rfl (lv_at hl 0 rfl) ?_
    have hg_4 : gpick [[(cw, .inr (1, [.ref (o 0), .ref (oa 0), .ref osA, iv hsn, .ref hdA, .ref spA, .ref bfA, .ref lnA, .ref prA, iv ep, va_rf lt]))], SW E o sc ar, SW E oa sa aa] ([[(cw, .inr (1, [.ref (o 0), .ref (oa 0), .ref osA, iv hsn, .ref hdA, .ref spA, .ref bfA, .ref lnA, .ref prA, iv ep, va_rf lt]))], SW E o sc ar, SW E oa sa aa] ++ []) [0, 1, 2] := ⟨rfl, (show List.Perm [0, 1, 2] (List.range 3) from by decide)⟩
    have hg_4P : va_P E.1 CL (([(cw, .inr (1, [.ref (o 0), .ref (oa 0), .ref osA, iv hsn, .ref hdA, .ref spA, .ref bfA, .ref lnA, .ref prA, iv ep, va_rf lt]))] : va_W) ++ (SW E o sc ar) ++ (SW E oa sa aa)) H := (g_out hg_4 hP hD).1
    have hg_4D : va_D A (([(cw, .inr (1, [.ref (o 0), .ref (oa 0), .ref osA, iv hsn, .ref hdA, .ref spA, .ref bfA, .ref lnA, .ref prA, iv ep, va_rf lt]))] : va_W) ++ (SW E o sc ar) ++ (SW E oa sa aa)) := (g_out hg_4 hP hD).2
    have hg_4F : ∀ q, va_A (([(cw, .inr (1, [.ref (o 0), .ref (oa 0), .ref osA, iv hsn, .ref hdA, .ref spA, .ref bfA, .ref lnA, .ref prA, iv ep, va_rf lt]))] : va_W) ++ (SW E o sc ar) ++ (SW E oa sa aa)) H.size q → A q := g_free hg_4 hP hD hS hA
    have hj_6 : ∀ u_5 : SU, gpick ([[(cw, .inr (1, [.ref (o 0), .ref (oa 0), .ref osA, iv hsn, .ref hdA, .ref spA, .ref bfA, .ref lnA, .ref prA, iv ep, va_rf lt]))], SW E o sc ar, SW E oa u_5.1 u_5.2] ++ []) [[(cw, .inr (1, [.ref (o 0), .ref (oa 0), .ref osA, iv hsn, .ref hdA, .ref spA, .ref bfA, .ref lnA, .ref prA, iv ep, va_rf lt]))], SW E o sc ar, SW E oa u_5.1 u_5.2] [0, 1, 2] := fun u_5 => ⟨rfl, (show List.Perm [0, 1, 2] (List.range 3) from by decide)⟩
    refine n_cuxB (x := fun u_5 => 1) (w2 := fun u_5 => ([(cw, .inr (1, [.ref (o 0), .ref (oa 0), .ref osA, iv hsn, .ref hdA, .ref spA, .ref bfA, .ref lnA, .ref prA, iv ep, va_rf lt]))] : va_W) ++ (SW E o sc ar) ++ (SW E oa u_5.1 u_5.2)) (va_runV (As := []) (rest := []) ⟨hx, hb, hml, hown, hts⟩ (mt_X1_areMakingsConsistent l E cw osA hsn hdA spA bfA lnA prA ep lt o sc ar oa sa aa  g r (by exact hst) (by assumption) (by assumption) (by assumption) (by assumption) (by assumption) (by assumption) (by assumption) (by assumption) (by assumption) (by assumption) _) (cwV 0 hts (lw_V q752 q754 qs11 q94 q755) rfl rfl rfl (by decide +kernel) ⟨Nat.le_of_ble_eq_true rfl, Nat.le_of_ble_eq_true rfl⟩) (UX_V hg_4P hK hg_4D hE hS hg_4F (va_recv hK.1 hP (ci := 1) (q0 := 0) rfl rfl)) rfl rfl hl.1 rfl (lv_room (Nat.le_of_ble_eq_true rfl)) dX1_isConsistent_11 ⟨Nat.le_of_ble_eq_true rfl, Nat.le_of_ble_eq_true rfl⟩) hS hg_4F ?_ ?_
    · exact (fun u_5 _ hk9 hp9 hd9 => g_back hg_4 (hj_6 u_5) hP hD hg_4F hk9 hp9 hd9)
    intro u_5 H locs hu_5 hP hD hS
    have hu_5 : True := hu_5
    have hP : va_P E.1 CL (([(cw, .inr (1, [.ref (o 0), .ref (oa 0), .ref osA, iv hsn, .ref hdA, .ref spA, .ref bfA, .ref lnA, .ref prA, iv ep, va_rf lt]))] : va_W) ++ (SW E o sc ar) ++ (SW E oa u_5.1 u_5.2)) H := hP
    have hD : va_D A (([(cw, .inr (1, [.ref (o 0), .ref (oa 0), .ref osA, iv hsn, .ref hdA, .ref spA, .ref bfA, .ref lnA, .ref prA, iv ep, va_rf lt]))] : va_W) ++ (SW E o sc ar) ++ (SW E oa u_5.1 u_5.2)) := hD
    refine n_if_eq (tgt := 21) hx hb dX1_isConsistent_14 (by decide) (by omega) (fun c_7 => absurd c_7 (by decide)) (fun _ => ?_)
    refine lv_iconst (v := iI 1) hx hb dX1_isConsistent_17 rfl ?_
    refine lv_goto (tgt := 22) hx hb dX1_isConsistent_18 (by decide) ?_
    have hfin : 1 = b2 (decide (g 2 = g 1 + g 3)) := by
      first | exact (b2_pos (by assumption)).symm | exact (b2_neg (by assumption)).symm
    refine W.widen (k := 319) (n := 2100) (Nat.le_of_ble_eq_true rfl) (Nat.le_of_ble_eq_true rfl) ?_
    exact W.zret (v := iI 1) hx hb hr (nr_b (by decide)) (fun tt_ ht_ hW_ => ⟨⟨iI 1, (u_5.1, u_5.2), rfl, ⟨trivial, (congrArg iI hfin)⟩, by rw [ht_]; exact hP, hD⟩, hS.F ht_⟩) hS.2.2 dX1_isConsistent_22
