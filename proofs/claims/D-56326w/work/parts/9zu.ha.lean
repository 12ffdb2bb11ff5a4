set_option maxHeartbeats 2000000 in
set_option maxRecDepth 100000 in
theorem mt_X0_hasRecipe (l : Launch) (E : EE) (cw : Nat) (oaA : Nat) (osA : Nat) (hsn : Int) (hdA : Nat) (spA : Nat) (bfA : Nat) (lnA : Nat) (prA : Nat) (ep : Int) (lt : Option Nat) (o : Nat → Nat) (sc : Nat → Int) (ar : Nat → Int → Int) (la : Nat) (zf : Nat → Int64) (t : Int) (g : Int → Int) (hst : l.stackTraces = false) (hsr : SR g sc ar) (ht : 0 ≤ t ∧ t < 65536) (sz : Nat) : vx_Met l yX0_hasRecipe (wsW_ yX0_hasRecipe cX0_hasRecipe 4 (some .int) [(0, 16, 19, 13)]) { frames := 9, cells := 1, slots := 6, locals := 153 } (va_Pc [.ref cw, iv t, .ref la] (UX E (([(cw, .inr (1, [.ref (o 0), .ref oaA, .ref osA, iv hsn, .ref hdA, .ref spA, .ref bfA, .ref lnA, .ref prA, iv ep, va_rf lt]))] : va_W) ++ (SW E o sc ar) ++ ([(la, loA (E.2 5) zf)] : va_W)) sz)) (UQx E (Sum.elim (fun u : (Unit) × (Nat → Int64) => (c_tool t = 0) ∧ c_tool t = 0 ∧ u.2 0 = lI (b2 (m_has g (t - 97)))) (fun u : Unit => 0 < c_tool t ∧ ∃ En : String, 0 < c_tool t ∧ En = nmX "java/lang/IllegalArgumentException" "" "" (c_tool t))) (fun _ => c_tool t) (Sum.elim (fun u : (Unit) × (Nat → Int64) => ([(cw, .inr (1, [.ref (o 0), .ref oaA, .ref osA, iv hsn, .ref hdA, .ref spA, .ref bfA, .ref lnA, .ref prA, iv ep, va_rf lt]))] : va_W) ++ (SW E o sc ar) ++ ([(la, loA (E.2 5) u.2)] : va_W)) (fun u : Unit => ([(cw, .inr (1, [.ref (o 0), .ref oaA, .ref osA, iv hsn, .ref hdA, .ref spA, .ref bfA, .ref lnA, .ref prA, iv ep, va_rf lt]))] : va_W) ++ (SW E o sc ar) ++ ([(la, loA (E.2 5) zf)] : va_W))) (va_A (([(cw, .inr (1, [.ref (o 0), .ref oaA, .ref osA, iv hsn, .ref hdA, .ref spA, .ref bfA, .ref lnA, .ref prA, iv ep, va_rf lt]))] : va_W) ++ (SW E o sc ar) ++ ([(la, loA (E.2 5) zf)] : va_W)) sz)) (UXx E (fun (_ : String) (_ : Unit) => False) (fun _ : Unit => []) (fun _ : Unit => none) (va_A (([(cw, .inr (1, [.ref (o 0), .ref oaA, .ref osA, iv hsn, .ref hdA, .ref spA, .ref bfA, .ref lnA, .ref prA, iv ep, va_rf lt]))] : va_W) ++ (SW E o sc ar) ++ ([(la, loA (E.2 5) zf)] : va_W)) sz)) 1 6 (va_A (([(cw, .inr (1, [.ref (o 0), .ref oaA, .ref osA, iv hsn, .ref hdA, .ref spA, .ref bfA, .ref lnA, .ref prA, iv ep, va_rf lt]))] : va_W) ++ (SW E o sc ar) ++ ([(la, loA (E.2 5) zf)] : va_W)) sz) := by
  refine vx_ofWH (hh := [(0, 16, 19, 13)]) (cc := cX0_hasRecipe) (maxL := 4) (ret := (some .int)) (by decide) rfl ?_
  intro p e s m args below meth c s₁ B hml hv
  obtain ⟨rfl, hsz, hP, hK, hD0, hE⟩ := hv
  have hx := B.exec
  have hb := B.bytes
  have hr := B.returns
  have hts := atoms_spec (ws := (wsW_ yX0_hasRecipe cX0_hasRecipe 4 (some .int) [(0, 16, 19, 13)])) B.pre
  have htab : c.exceptionTable.toList = tableOf [(0, 16, 19, 13)] := vx_table (x := yX0_hasRecipe) B (hts _ List.mem_cons_self)
  have hts : ∀ w ∈ lw_all, w.before _ s = true := fun w h => hts w (List.mem_cons_of_mem _ h)
  have hown : s.vm.findClass RX0 = some m.cls := findClass_of_methodNamed B.named
  have hlocks := B.notSynchronized
  subst hsz
  have hD := hD0.self (sz := s.heap.size)
  generalize hAe : va_A (([(cw, .inr (1, [.ref (o 0), .ref oaA, .ref osA, iv hsn, .ref hdA, .ref spA, .ref bfA, .ref lnA, .ref prA, iv ep, va_rf lt]))] : va_W) ++ (SW E o sc ar) ++ ([(la, loA (E.2 5) zf)] : va_W)) s.heap.size = A at hD hE ⊢
  have hA : ∀ q : Nat, s.heap.size ≤ q → A q := fun q h => by rw [← hAe]; exact Or.inr h
  have hS : va_S A s.heap s.heap [] := va_S.rf
  have hl := lv_entry ([.ref cw, iv t, .ref la]) (n := 4) (Nat.le_of_ble_eq_true rfl)
  rw [lg_entry_eq]
  generalize (lg_sl ([.ref cw, iv t, .ref la]) ++ List.replicate (4 - (lg_sl ([.ref cw, iv t, .ref la])).length) Slot.unset).toArray = ls at hl ⊢
  have hl : lv_has ls 4 [(0, .ref cw), (1, iv t), (2, .ref la)] := hl
  refine lv_aload_n hx hb dX0_hasRecipe_0 rfl (lv_at hl 2 rfl) ?_
  refine lv_iconst (v := iI 0) hx hb dX0_hasRecipe_1 rfl ?_
  refine lv_aload_n hx hb dX0_hasRecipe_2 rfl (lv_at hl 0 rfl) ?_
  refine lv_iload_n hx hb dX0_hasRecipe_3 rfl (lv_at hl 1 rfl) ?_
  have hg_1 : gpick [[(cw, .inr (1, [.ref (o 0), .ref oaA, .ref osA, iv hsn, .ref hdA, .ref spA, .ref bfA, .ref lnA, .ref prA, iv ep, va_rf lt]))], SW E o sc ar, [(la, loA (E.2 5) zf)]] ([[(cw, .inr (1, [.ref (o 0), .ref oaA, .ref osA, iv hsn, .ref hdA, .ref spA, .ref bfA, .ref lnA, .ref prA, iv ep, va_rf lt]))], SW E o sc ar] ++ [[(la, loA (E.2 5) zf)]]) [0, 1, 2] := ⟨rfl, (show List.Perm [0, 1, 2] (List.range 3) from by decide)⟩
  have hg_1P : va_P E.1 CL (([(cw, .inr (1, [.ref (o 0), .ref oaA, .ref osA, iv hsn, .ref hdA, .ref spA, .ref bfA, .ref lnA, .ref prA, iv ep, va_rf lt]))] : va_W) ++ (SW E o sc ar)) s.heap := (g_out hg_1 hP hD).1
  have hg_1D : va_D A (([(cw, .inr (1, [.ref (o 0), .ref oaA, .ref osA, iv hsn, .ref hdA, .ref spA, .ref bfA, .ref lnA, .ref prA, iv ep, va_rf lt]))] : va_W) ++ (SW E o sc ar)) := (g_out hg_1 hP hD).2
  have hg_1F : ∀ q, va_A (([(cw, .inr (1, [.ref (o 0), .ref oaA, .ref osA, iv hsn, .ref hdA, .ref spA, .ref bfA, .ref lnA, .ref prA, iv ep, va_rf lt]))] : va_W) ++ (SW E o sc ar)) s.heap.size q → A q := g_free hg_1 hP hD hS hA
  have hlt_2 := P_lts hP
  have hz_3 : s.heap.size ≤ s.heap.size := hS.1
  have hj_6 : ∀ u_4 : Unit, gpick ([[(cw, .inr (1, [.ref (o 0), .ref oaA, .ref osA, iv hsn, .ref hdA, .ref spA, .ref bfA, .ref lnA, .ref prA, iv ep, va_rf lt]))], SW E o sc ar] ++ [[(la, loA (E.2 5) zf)]]) [[(cw, .inr (1, [.ref (o 0), .ref oaA, .ref osA, iv hsn, .ref hdA, .ref spA, .ref bfA, .ref lnA, .ref prA, iv ep, va_rf lt]))], SW E o sc ar, [(la, loA (E.2 5) zf)]] [0, 1, 2] := fun u_4 => ⟨rfl, (show List.Perm [0, 1, 2] (List.range 3) from by decide)⟩
  have hj_7 : ∀ u_5 : Unit, gpick ([[(cw, .inr (1, [.ref (o 0), .ref oaA, .ref osA, iv hsn, .ref hdA, .ref spA, .ref bfA, .ref lnA, .ref prA, iv ep, va_rf lt]))], SW E o sc ar] ++ [[(la, loA (E.2 5) zf)]]) [[(cw, .inr (1, [.ref (o 0), .ref oaA, .ref osA, iv hsn, .ref hdA, .ref spA, .ref bfA, .ref lnA, .ref prA, iv ep, va_rf lt]))], SW E o sc ar, [(la, loA (E.2 5) zf)]] [0, 1, 2] := fun u_5 => ⟨rfl, (show List.Perm [0, 1, 2] (List.range 3) from by decide)⟩
  refine n_txB (x := fun u_4 => b2 (m_has g (t - 97))) (w2 := fun u_4 : Unit => ([(cw, .inr (1, [.ref (o 0), .ref oaA, .ref osA, iv hsn, .ref hdA, .ref spA, .ref bfA, .ref lnA, .ref prA, iv ep, va_rf lt]))] : va_W) ++ (SW E o sc ar) ++ ([(la, loA (E.2 5) zf)] : va_W)) (w3 := fun u_5 : Unit => ([(cw, .inr (1, [.ref (o 0), .ref oaA, .ref osA, iv hsn, .ref hdA, .ref spA, .ref bfA, .ref lnA, .ref prA, iv ep, va_rf lt]))] : va_W) ++ (SW E o sc ar) ++ ([(la, loA (E.2 5) zf)] : va_W)) (vx_runV (As := [iv t]) (rest := [iv 0, .ref la]) ⟨hx, hb, hml, hown, hts⟩ (mt_X1_hasRecipe l E cw oaA osA hsn hdA spA bfA lnA prA ep lt o sc ar t g (by exact hst) (by assumption) (by omega) _) (cwV 1 hts (lw_V q1048 q1049 q1050 q94 q1051) rfl rfl rfl (by decide +kernel) ⟨Nat.le_of_ble_eq_true rfl, Nat.le_of_ble_eq_true rfl⟩) (UX_V hg_1P hK (hg_1D) hE hS hg_1F (va_recv hK.1 hP (ci := 1) (q0 := 0) rfl rfl)) rfl rfl hl.1 rfl (lv_room (Nat.le_of_ble_eq_true rfl)) dX0_hasRecipe_4 ⟨Nat.le_of_ble_eq_true rfl, Nat.le_of_ble_eq_true rfl⟩) hS hg_1F ?_ ?_ ?_ ?_
  · exact (fun u_4 _ hk9 hp9 hd9 => g_back hg_1 (hj_6 u_4) hP hD hg_1F hk9 hp9 hd9)
  · exact (fun u_5 _ hk9 hp9 hd9 => g_back hg_1 (hj_7 u_5) hP hD hg_1F hk9 hp9 hd9)
  · intro En ce q9 u_5 H locs hCx hP hD hS hxf hq9 hce hcv hcl
    have hCx : 0 < c_tool t ∧ En = nmX "java/lang/IllegalArgumentException" "" "" (c_tool t) := hCx
    have hP : va_P E.1 CL (([(cw, .inr (1, [.ref (o 0), .ref oaA, .ref osA, iv hsn, .ref hdA, .ref spA, .ref bfA, .ref lnA, .ref prA, iv ep, va_rf lt]))] : va_W) ++ (SW E o sc ar) ++ ([(la, loA (E.2 5) zf)] : va_W)) H := hP
    have hD : va_D A (([(cw, .inr (1, [.ref (o 0), .ref oaA, .ref osA, iv hsn, .ref hdA, .ref spA, .ref bfA, .ref lnA, .ref prA, iv ep, va_rf lt]))] : va_W) ++ (SW E o sc ar) ++ ([(la, loA (E.2 5) zf)] : va_W)) := hD
    have hcx9 := hCx
    obtain ⟨hc0, hEn9⟩ := hCx
    have hcr9 : c_tool t ≤ 1 := by have := c_tool_r t; omega
    have hk9 : c_tool t = 1 := by omega
    have hEn9 : En = "java/lang/IllegalArgumentException" := by rw [hEn9, hk9]; rfl
    subst hEn9
    refine vx_catch (own := "ClockworkTailorLaw") hown [] _ [] htab (fun z hz => by cases hz) (by decide) (by decide) (name := "java/lang/IllegalArgumentException") (hts _ q867) (hK.nw q894) hce hcv hcl ?_
    refine lv_astore_n (lv' := [(3, .ref q9), (0, .ref cw), (1, iv t), (2, .ref la)]) hx hb dX0_hasRecipe_19 rfl hl (by decide) rfl (fun ls hl => ?_)
    refine lv_iconst (v := iI 1) hx hb dX0_hasRecipe_20 rfl ?_
    have hfin : 1 = c_tool t := by
      first | exact hz9.symm | exact hk9.symm
    refine vx_ret ?_
    refine W.widen (k := 1) (n := 6) (Nat.le_of_ble_eq_true rfl) (Nat.le_of_ble_eq_true rfl) ?_
    exact W.iret (v := iI 1) hx hb hr (fun tt_ ht_ hW_ => ⟨⟨iI 1, .inr u_5, rfl, ⟨(show 0 < c_tool t ∧ ∃ En : String, 0 < c_tool t ∧ En = nmX "java/lang/IllegalArgumentException" "" "" (c_tool t) from ⟨(by omega), _, hcx9⟩), (congrArg iI hfin)⟩, by rw [ht_]; exact hP, hD⟩, hS.F ht_⟩) hS.2.2 dX0_hasRecipe_21
  · intro u_4 H locs hC hP hD hS
    have hu_4 : c_tool t = 0 := hC
    have hP : va_P E.1 CL (([(cw, .inr (1, [.ref (o 0), .ref oaA, .ref osA, iv hsn, .ref hdA, .ref spA, .ref bfA, .ref lnA, .ref prA, iv ep, va_rf lt]))] : va_W) ++ (SW E o sc ar) ++ ([(la, loA (E.2 5) zf)] : va_W)) H := hP
    have hD : va_D A (([(cw, .inr (1, [.ref (o 0), .ref oaA, .ref osA, iv hsn, .ref hdA, .ref spA, .ref bfA, .ref lnA, .ref prA, iv ep, va_rf lt]))] : va_W) ++ (SW E o sc ar) ++ ([(la, loA (E.2 5) zf)] : va_W)) := hD
    have hz9 : c_tool t = 0 := hu_4
    refine n_ifb_eq (tgt := 14) hx hb dX0_hasRecipe_7 (by decide) (fun c_8 => ?_) (fun c_8 => ?_)
    · refine lv_lconst (v := lI 0) hx hb dX0_hasRecipe_14 rfl ?_
      refine n_last1 hx hb hK.1 hP hD hS 18 rfl dX0_hasRecipe_15 (ws2 := ([(cw, .inr (1, [.ref (o 0), .ref oaA, .ref osA, iv hsn, .ref hdA, .ref spA, .ref bfA, .ref lnA, .ref prA, iv ep, va_rf lt]))] : va_W) ++ (SW E o sc ar) ++ ([(la, loA (E.2 5) (vp_updL zf 0 (lI 0)))] : va_W)) rfl (fun H locs hP hD hS => ?_)
      have hP : va_P E.1 CL (([(cw, .inr (1, [.ref (o 0), .ref oaA, .ref osA, iv hsn, .ref hdA, .ref spA, .ref bfA, .ref lnA, .ref prA, iv ep, va_rf lt]))] : va_W) ++ (SW E o sc ar) ++ ([(la, loA (E.2 5) (vp_updL zf 0 (lI 0)))] : va_W)) H := hP
      have hD : va_D A (([(cw, .inr (1, [.ref (o 0), .ref oaA, .ref osA, iv hsn, .ref hdA, .ref spA, .ref bfA, .ref lnA, .ref prA, iv ep, va_rf lt]))] : va_W) ++ (SW E o sc ar) ++ ([(la, loA (E.2 5) (vp_updL zf 0 (lI 0)))] : va_W)) := hD
      refine lv_goto (tgt := 22) hx hb dX0_hasRecipe_16 (by decide) ?_
      refine lv_iconst (v := iI 0) hx hb dX0_hasRecipe_22 rfl ?_
      have hfin : 0 = c_tool t := by
        first | exact hz9.symm | exact hk9.symm
      refine vx_ret ?_
      refine W.widen (k := 1) (n := 6) (Nat.le_of_ble_eq_true rfl) (Nat.le_of_ble_eq_true rfl) ?_
      exact W.iret (v := iI 0) hx hb hr (fun tt_ ht_ hW_ => ⟨⟨iI 0, .inl (u_4, (vp_updL zf 0 (lI 0))), rfl, ⟨(show (c_tool t = 0) ∧ c_tool t = 0 ∧ (u_4, (vp_updL zf 0 (lI 0))).2 0 = lI (b2 (m_has g (t - 97))) from ⟨hu_4, hz9, (by show lI _ = lI _; rw [c_8]; rfl)⟩), (congrArg iI hfin)⟩, by rw [ht_]; exact hP, hD⟩, hS.F ht_⟩) hS.2.2 dX0_hasRecipe_23
    · refine lv_lconst (v := lI 1) hx hb dX0_hasRecipe_10 rfl ?_
      refine lv_goto (tgt := 15) hx hb dX0_hasRecipe_11 (by decide) ?_
      refine n_last1 hx hb hK.1 hP hD hS 18 rfl dX0_hasRecipe_15 (ws2 := ([(cw, .inr (1, [.ref (o 0), .ref oaA, .ref osA, iv hsn, .ref hdA, .ref spA, .ref bfA, .ref lnA, .ref prA, iv ep, va_rf lt]))] : va_W) ++ (SW E o sc ar) ++ ([(la, loA (E.2 5) (vp_updL zf 0 (lI 1)))] : va_W)) rfl (fun H locs hP hD hS => ?_)
      have hP : va_P E.1 CL (([(cw, .inr (1, [.ref (o 0), .ref oaA, .ref osA, iv hsn, .ref hdA, .ref spA, .ref bfA, .ref lnA, .ref prA, iv ep, va_rf lt]))] : va_W) ++ (SW E o sc ar) ++ ([(la, loA (E.2 5) (vp_updL zf 0 (lI 1)))] : va_W)) H := hP
      have hD : va_D A (([(cw, .inr (1, [.ref (o 0), .ref oaA, .ref osA, iv hsn, .ref hdA, .ref spA, .ref bfA, .ref lnA, .ref prA, iv ep, va_rf lt]))] : va_W) ++ (SW E o sc ar) ++ ([(la, loA (E.2 5) (vp_updL zf 0 (lI 1)))] : va_W)) := hD
      refine lv_goto (tgt := 22) hx hb dX0_hasRecipe_16 (by decide) ?_
      refine lv_iconst (v := iI 0) hx hb dX0_hasRecipe_22 rfl ?_
      have hfin : 0 = c_tool t := by
        first | exact hz9.symm | exact hk9.symm
      refine vx_ret ?_
      refine W.widen (k := 1) (n := 6) (Nat.le_of_ble_eq_true rfl) (Nat.le_of_ble_eq_true rfl) ?_
      exact W.iret (v := iI 0) hx hb hr (fun tt_ ht_ hW_ => ⟨⟨iI 0, .inl (u_4, (vp_updL zf 0 (lI 1))), rfl, ⟨(show (c_tool t = 0) ∧ c_tool t = 0 ∧ (u_4, (vp_updL zf 0 (lI 1))).2 0 = lI (b2 (m_has g (t - 97))) from ⟨hu_4, hz9, (by show lI _ = lI _; rw [c_8]; rfl)⟩), (congrArg iI hfin)⟩, by rw [ht_]; exact hP, hD⟩, hS.F ht_⟩) hS.2.2 dX0_hasRecipe_23
set_option maxHeartbeats 2000000 in
set_option maxRecDepth 100000 in
theorem mt_X0_scopeOf (l : Launch) (E : EE) (cw : Nat) (oaA : Nat) (osA : Nat) (hsn : Int) (hdA : Nat) (spA : Nat) (bfA : Nat) (lnA : Nat) (prA : Nat) (ep : Int) (lt : Option Nat) (o : Nat → Nat) (sc : Nat → Int) (ar : Nat → Int → Int) (la : Nat) (zf : Nat → Int64) (t : Int) (g : Int → Int) (hst : l.stackTraces = false) (hsr : SR g sc ar) (ht : 0 ≤ t ∧ t < 65536) (hsc : SC g) (sz : Nat) : vx_Met l yX0_scopeOf (wsW_ yX0_scopeOf cX0_scopeOf 4 (some .int) [(0, 9, 12, 13), (0, 9, 15, 21)]) { frames := 10, cells := 2, slots := 12, locals := 176 } (va_Pc [.ref cw, iv t, .ref la] (UX E (([(cw, .inr (1, [.ref (o 0), .ref oaA, .ref osA, iv hsn, .ref hdA, .ref spA, .ref bfA, .ref lnA, .ref prA, iv ep, va_rf lt]))] : va_W) ++ (SW E o sc ar) ++ ([(la, loA (E.2 5) zf)] : va_W)) sz)) (UQx E (Sum.elim (fun u : (Unit) × (Nat → Int64) => (c_none g t = 0) ∧ c_none g t = 0 ∧ u.2 0 = (iI (m_of g (t - 97) 0)).toInt64) (fun u : Unit => 0 < c_none g t ∧ ∃ En : String, 0 < c_none g t ∧ En = nmX "java/lang/IllegalArgumentException" "java/util/NoSuchElementException" "java/lang/IndexOutOfBoundsException" (c_none g t))) (fun _ => c_none g t) (Sum.elim (fun u : (Unit) × (Nat → Int64) => ([(cw, .inr (1, [.ref (o 0), .ref oaA, .ref osA, iv hsn, .ref hdA, .ref spA, .ref bfA, .ref lnA, .ref prA, iv ep, va_rf lt]))] : va_W) ++ (SW E o sc ar) ++ ([(la, loA (E.2 5) u.2)] : va_W)) (fun u : Unit => ([(cw, .inr (1, [.ref (o 0), .ref oaA, .ref osA, iv hsn, .ref hdA, .ref spA, .ref bfA, .ref lnA, .ref prA, iv ep, va_rf lt]))] : va_W) ++ (SW E o sc ar) ++ ([(la, loA (E.2 5) zf)] : va_W))) (va_A (([(cw, .inr (1, [.ref (o 0), .ref oaA, .ref osA, iv hsn, .ref hdA, .ref spA, .ref bfA, .ref lnA, .ref prA, iv ep, va_rf lt]))] : va_W) ++ (SW E o sc ar) ++ ([(la, loA (E.2 5) zf)] : va_W)) sz)) (UXx E (fun (_ : String) (_ : Unit) => False) (fun _ : Unit => []) (fun _ : Unit => none) (va_A (([(cw, .inr (1, [.ref (o 0), .ref oaA, .ref osA, iv hsn, .ref hdA, .ref spA, .ref bfA, .ref lnA, .ref prA, iv ep, va_rf lt]))] : va_W) ++ (SW E o sc ar) ++ ([(la, loA (E.2 5) zf)] : va_W)) sz)) 2 12 (va_A (([(cw, .inr (1, [.ref (o 0), .ref oaA, .ref osA, iv hsn, .ref hdA, .ref spA, .ref bfA, .ref lnA, .ref prA, iv ep, va_rf lt]))] : va_W) ++ (SW E o sc ar) ++ ([(la, loA (E.2 5) zf)] : va_W)) sz) := by
  refine vx_ofWH (hh := [(0, 9, 12, 13), (0, 9, 15, 21)]) (cc := cX0_scopeOf) (maxL := 4) (ret := (some .int)) (by decide) rfl ?_
  intro p e s m args below meth c s₁ B hml hv
  obtain ⟨rfl, hsz, hP, hK, hD0, hE⟩ := hv
  have hx := B.exec
  have hb := B.bytes
  have hr := B.returns
  have hts := atoms_spec (ws := (wsW_ yX0_scopeOf cX0_scopeOf 4 (some .int) [(0, 9, 12, 13), (0, 9, 15, 21)])) B.pre
  have htab : c.exceptionTable.toList = tableOf [(0, 9, 12, 13), (0, 9, 15, 21)] := vx_table (x := yX0_scopeOf) B (hts _ List.mem_cons_self)
  have hts : ∀ w ∈ lw_all, w.before _ s = true := fun w h => hts w (List.mem_cons_of_mem _ h)
  have hown : s.vm.findClass RX0 = some m.cls := findClass_of_methodNamed B.named
  have hlocks := B.notSynchronized
  subst hsz
  have hD := hD0.self (sz := s.heap.size)
  generalize hAe : va_A (([(cw, .inr (1, [.ref (o 0), .ref oaA, .ref osA, iv hsn, .ref hdA, .ref spA, .ref bfA, .ref lnA, .ref prA, iv ep, va_rf lt]))] : va_W) ++ (SW E o sc ar) ++ ([(la, loA (E.2 5) zf)] : va_W)) s.heap.size = A at hD hE ⊢
  have hA : ∀ q : Nat, s.heap.size ≤ q → A q := fun q h => by rw [← hAe]; exact Or.inr h
  have hS : va_S A s.heap s.heap [] := va_S.rf
  have hl := lv_entry ([.ref cw, iv t, .ref la]) (n := 4) (Nat.le_of_ble_eq_true rfl)
  rw [lg_entry_eq]
  generalize (lg_sl ([.ref cw, iv t, .ref la]) ++ List.replicate (4 - (lg_sl ([.ref cw, iv t, .ref la])).length) Slot.unset).toArray = ls at hl ⊢
  have hl : lv_has ls 4 [(0, .ref cw), (1, iv t), (2, .ref la)] := hl
  refine lv_aload_n hx hb dX0_scopeOf_0 rfl (lv_at hl 2 rfl) ?_
  refine lv_iconst (v := iI 0) hx hb dX0_scopeOf_1 rfl ?_
  refine lv_aload_n hx hb dX0_scopeOf_2 rfl (lv_at hl 0 rfl) ?_
  refine lv_iload_n hx hb dX0_scopeOf_3 rfl (lv_at hl 1 rfl) ?_
  have hg_1 : gpick [[(cw, .inr (1, [.ref (o 0), .ref oaA, .ref osA, iv hsn, .ref hdA, .ref spA, .ref bfA, .ref lnA, .ref prA, iv ep, va_rf lt]))], SW E o sc ar, [(la, loA (E.2 5) zf)]] ([[(cw, .inr (1, [.ref (o 0), .ref oaA, .ref osA, iv hsn, .ref hdA, .ref spA, .ref bfA, .ref lnA, .ref prA, iv ep, va_rf lt]))], SW E o sc ar] ++ [[(la, loA (E.2 5) zf)]]) [0, 1, 2] := ⟨rfl, (show List.Perm [0, 1, 2] (List.range 3) from by decide)⟩
  have hg_1P : va_P E.1 CL (([(cw, .inr (1, [.ref (o 0), .ref oaA, .ref osA, iv hsn, .ref hdA, .ref spA, .ref bfA, .ref lnA, .ref prA, iv ep, va_rf lt]))] : va_W) ++ (SW E o sc ar)) s.heap := (g_out hg_1 hP hD).1
  have hg_1D : va_D A (([(cw, .inr (1, [.ref (o 0), .ref oaA, .ref osA, iv hsn, .ref hdA, .ref spA, .ref bfA, .ref lnA, .ref prA, iv ep, va_rf lt]))] : va_W) ++ (SW E o sc ar)) := (g_out hg_1 hP hD).2
  have hg_1F : ∀ q, va_A (([(cw, .inr (1, [.ref (o 0), .ref oaA, .ref osA, iv hsn, .ref hdA, .ref spA, .ref bfA, .ref lnA, .ref prA, iv ep, va_rf lt]))] : va_W) ++ (SW E o sc ar)) s.heap.size q → A q := g_free hg_1 hP hD hS hA
  have hlt_2 := P_lts hP
  have hz_3 : s.heap.size ≤ s.heap.size := hS.1
  have hj_6 : ∀ u_4 : Unit, gpick ([[(cw, .inr (1, [.ref (o 0), .ref oaA, .ref osA, iv hsn, .ref hdA, .ref spA, .ref bfA, .ref lnA, .ref prA, iv ep, va_rf lt]))], SW E o sc ar] ++ [[(la, loA (E.2 5) zf)]]) [[(cw, .inr (1, [.ref (o 0), .ref oaA, .ref osA, iv hsn, .ref hdA, .ref spA, .ref bfA, .ref lnA, .ref prA, iv ep, va_rf lt]))], SW E o sc ar, [(la, loA (E.2 5) zf)]] [0, 1, 2] := fun u_4 => ⟨rfl, (show List.Perm [0, 1, 2] (List.range 3) from by decide)⟩
  have hj_7 : ∀ u_5 : Unit, gpick ([[(cw, .inr (1, [.ref (o 0), .ref oaA, .ref osA, iv hsn, .ref hdA, .ref spA, .ref bfA, .ref lnA, .ref prA, iv ep, va_rf lt]))], SW E o sc ar] ++ [[(la, loA (E.2 5) zf)]]) [[(cw, .inr (1, [.ref (o 0), .ref oaA, .ref osA, iv hsn, .ref hdA, .ref spA, .ref bfA, .ref lnA, .ref prA, iv ep, va_rf lt]))], SW E o sc ar, [(la, loA (E.2 5) zf)]] [0, 1, 2] := fun u_5 => ⟨rfl, (show List.Perm [0, 1, 2] (List.range 3) from by decide)⟩
  refine n_txB (x := fun u_4 => m_of g (t - 97) 0) (w2 := fun u_4 : Unit => ([(cw, .inr (1, [.ref (o 0), .ref oaA, .ref osA, iv hsn, .ref hdA, .ref spA, .ref bfA, .ref lnA, .ref prA, iv ep, va_rf lt]))] : va_W) ++ (SW E o sc ar) ++ ([(la, loA (E.2 5) zf)] : va_W)) (w3 := fun u_5 : Unit => ([(cw, .inr (1, [.ref (o 0), .ref oaA, .ref osA, iv hsn, .ref hdA, .ref spA, .ref bfA, .ref lnA, .ref prA, iv ep, va_rf lt]))] : va_W) ++ (SW E o sc ar) ++ ([(la, loA (E.2 5) zf)] : va_W)) (vx_runV (As := [iv t]) (rest := [iv 0, .ref la]) ⟨hx, hb, hml, hown, hts⟩ (mt_X1_scopeOf l E cw oaA osA hsn hdA spA bfA lnA prA ep lt o sc ar t g (by exact hst) (by assumption) (by omega) (by assumption) _) (cwV 1 hts (lw_V q1056 q1057 q1058 q94 q1059) rfl rfl rfl (by decide +kernel) ⟨Nat.le_of_ble_eq_true rfl, Nat.le_of_ble_eq_true rfl⟩) (UX_V hg_1P hK (hg_1D) hE hS hg_1F (va_recv hK.1 hP (ci := 1) (q0 := 0) rfl rfl)) rfl rfl hl.1 rfl (lv_room (Nat.le_of_ble_eq_true rfl)) dX0_scopeOf_4 ⟨Nat.le_of_ble_eq_true rfl, Nat.le_of_ble_eq_true rfl⟩) hS hg_1F ?_ ?_ ?_ ?_
  · exact (fun u_4 _ hk9 hp9 hd9 => g_back hg_1 (hj_6 u_4) hP hD hg_1F hk9 hp9 hd9)
  · exact (fun u_5 _ hk9 hp9 hd9 => g_back hg_1 (hj_7 u_5) hP hD hg_1F hk9 hp9 hd9)
  · intro En ce q9 u_5 H locs hCx hP hD hS hxf hq9 hce hcv hcl
    have hCx : 0 < c_none g t ∧ En = nmX "java/lang/IllegalArgumentException" "java/util/NoSuchElementException" "java/lang/IndexOutOfBoundsException" (c_none g t) := hCx
    have hP : va_P E.1 CL (([(cw, .inr (1, [.ref (o 0), .ref oaA, .ref osA, iv hsn, .ref hdA, .ref spA, .ref bfA, .ref lnA, .ref prA, iv ep, va_rf lt]))] : va_W) ++ (SW E o sc ar) ++ ([(la, loA (E.2 5) zf)] : va_W)) H := hP
    have hD : va_D A (([(cw, .inr (1, [.ref (o 0), .ref oaA, .ref osA, iv hsn, .ref hdA, .ref spA, .ref bfA, .ref lnA, .ref prA, iv ep, va_rf lt]))] : va_W) ++ (SW E o sc ar) ++ ([(la, loA (E.2 5) zf)] : va_W)) := hD
    have hcx9 := hCx
    obtain ⟨hc0, hEn9⟩ := hCx
    have hcr9 : c_none g t ≤ 2 := by have := c_none_r g t; omega
    rcases (show c_none g t = 1 ∨ c_none g t = 2 by omega) with hk9 | hk9
    · have hEn9 : En = "java/lang/IllegalArgumentException" := by rw [hEn9, hk9]; rfl
      subst hEn9
      refine vx_catch (own := "ClockworkTailorLaw") hown [] _ [_] htab (fun z hz => by cases hz) (by decide) (by decide) (name := "java/lang/IllegalArgumentException") (hts _ q867) (hK.nw q894) hce hcv hcl ?_
      refine lv_astore_n (lv' := [(3, .ref q9), (0, .ref cw), (1, iv t), (2, .ref la)]) hx hb dX0_scopeOf_12 rfl hl (by decide) rfl (fun ls hl => ?_)
      refine lv_iconst (v := iI 1) hx hb dX0_scopeOf_13 rfl ?_
      have hfin : 1 = c_none g t := by
        first | exact hz9.symm | exact hk9.symm
      refine vx_ret ?_
      refine W.widen (k := 2) (n := 12) (Nat.le_of_ble_eq_true rfl) (Nat.le_of_ble_eq_true rfl) ?_
      exact W.iret (v := iI 1) hx hb hr (fun tt_ ht_ hW_ => ⟨⟨iI 1, .inr u_5, rfl, ⟨(show 0 < c_none g t ∧ ∃ En : String, 0 < c_none g t ∧ En = nmX "java/lang/IllegalArgumentException" "java/util/NoSuchElementException" "java/lang/IndexOutOfBoundsException" (c_none g t) from ⟨(by omega), _, hcx9⟩), (congrArg iI hfin)⟩, by rw [ht_]; exact hP, hD⟩, hS.F ht_⟩) hS.2.2 dX0_scopeOf_14
    · have hEn9 : En = "java/util/NoSuchElementException" := by rw [hEn9, hk9]; rfl
      subst hEn9
      refine vx_catch (own := "ClockworkTailorLaw") hown [_] _ [] htab (fun z hz => by
          simp only [List.mem_cons, List.not_mem_nil, or_false] at hz
          rcases hz with rfl
          · exact Or.inr ⟨by decide, "java/lang/IllegalArgumentException", hts _ q867, hK.kx.2.2.2.2.2 (_, _) (by decide)⟩
          ) (by decide) (by decide) (name := "java/util/NoSuchElementException") (hts _ q951) (hK.nw q976) hce hcv hcl ?_
      refine lv_astore_n (lv' := [(3, .ref q9), (0, .ref cw), (1, iv t), (2, .ref la)]) hx hb dX0_scopeOf_15 rfl hl (by decide) rfl (fun ls hl => ?_)
      refine lv_iconst (v := iI 2) hx hb dX0_scopeOf_16 rfl ?_
      have hfin : 2 = c_none g t := by
        first | exact hz9.symm | exact hk9.symm
      refine vx_ret ?_
      refine W.widen (k := 2) (n := 12) (Nat.le_of_ble_eq_true rfl) (Nat.le_of_ble_eq_true rfl) ?_
      exact W.iret (v := iI 2) hx hb hr (fun tt_ ht_ hW_ => ⟨⟨iI 2, .inr u_5, rfl, ⟨(show 0 < c_none g t ∧ ∃ En : String, 0 < c_none g t ∧ En = nmX "java/lang/IllegalArgumentException" "java/util/NoSuchElementException" "java/lang/IndexOutOfBoundsException" (c_none g t) from ⟨(by omega), _, hcx9⟩), (congrArg iI hfin)⟩, by rw [ht_]; exact hP, hD⟩, hS.F ht_⟩) hS.2.2 dX0_scopeOf_17
  · intro u_4 H locs hC hP hD hS
    have hu_4 : c_none g t = 0 := hC
    have hP : va_P E.1 CL (([(cw, .inr (1, [.ref (o 0), .ref oaA, .ref osA, iv hsn, .ref hdA, .ref spA, .ref bfA, .ref lnA, .ref prA, iv ep, va_rf lt]))] : va_W) ++ (SW E o sc ar) ++ ([(la, loA (E.2 5) zf)] : va_W)) H := hP
    have hD : va_D A (([(cw, .inr (1, [.ref (o 0), .ref oaA, .ref osA, iv hsn, .ref hdA, .ref spA, .ref bfA, .ref lnA, .ref prA, iv ep, va_rf lt]))] : va_W) ++ (SW E o sc ar) ++ ([(la, loA (E.2 5) zf)] : va_W)) := hD
    have hz9 : c_none g t = 0 := hu_4
    refine lv_i2l (v := (iI (m_of g (t - 97) 0)).toInt64) hx hb dX0_scopeOf_7 rfl ?_
    refine n_last1 hx hb hK.1 hP hD hS 18 rfl dX0_scopeOf_8 (ws2 := ([(cw, .inr (1, [.ref (o 0), .ref oaA, .ref osA, iv hsn, .ref hdA, .ref spA, .ref bfA, .ref lnA, .ref prA, iv ep, va_rf lt]))] : va_W) ++ (SW E o sc ar) ++ ([(la, loA (E.2 5) (vp_updL zf 0 ((iI (m_of g (t - 97) 0)).toInt64)))] : va_W)) rfl (fun H locs hP hD hS => ?_)
    have hP : va_P E.1 CL (([(cw, .inr (1, [.ref (o 0), .ref oaA, .ref osA, iv hsn, .ref hdA, .ref spA, .ref bfA, .ref lnA, .ref prA, iv ep, va_rf lt]))] : va_W) ++ (SW E o sc ar) ++ ([(la, loA (E.2 5) (vp_updL zf 0 ((iI (m_of g (t - 97) 0)).toInt64)))] : va_W)) H := hP
    have hD : va_D A (([(cw, .inr (1, [.ref (o 0), .ref oaA, .ref osA, iv hsn, .ref hdA, .ref spA, .ref bfA, .ref lnA, .ref prA, iv ep, va_rf lt]))] : va_W) ++ (SW E o sc ar) ++ ([(la, loA (E.2 5) (vp_updL zf 0 ((iI (m_of g (t - 97) 0)).toInt64)))] : va_W)) := hD
    refine lv_goto (tgt := 18) hx hb dX0_scopeOf_9 (by decide) ?_
    refine lv_iconst (v := iI 0) hx hb dX0_scopeOf_18 rfl ?_
    have hfin : 0 = c_none g t := by
      first | exact hz9.symm | exact hk9.symm
    refine vx_ret ?_
    refine W.widen (k := 2) (n := 12) (Nat.le_of_ble_eq_true rfl) (Nat.le_of_ble_eq_true rfl) ?_
    exact W.iret (v := iI 0) hx hb hr (fun tt_ ht_ hW_ => ⟨⟨iI 0, .inl (u_4, (vp_updL zf 0 ((iI (m_of g (t - 97) 0)).toInt64))), rfl, ⟨(show (c_none g t = 0) ∧ c_none g t = 0 ∧ (u_4, (vp_updL zf 0 ((iI (m_of g (t - 97) 0)).toInt64))).2 0 = (iI (m_of g (t - 97) 0)).toInt64 from ⟨hu_4, hz9, rfl⟩), (congrArg iI hfin)⟩, by rw [ht_]; exact hP, hD⟩, hS.F ht_⟩) hS.2.2 dX0_scopeOf_19
set_option maxHeartbeats 2000000 in
set_option maxRecDepth 100000 in
theorem mt_X0_needCount (l : Launch) (E : EE) (cw : Nat) (oaA : Nat) (osA : Nat) (hsn : Int) (hdA : Nat) (spA : Nat) (bfA : Nat) (lnA : Nat) (prA : Nat) (ep : Int) (lt : Option Nat) (o : Nat → Nat) (sc : Nat → Int) (ar : Nat → Int → Int) (la : Nat) (zf : Nat → Int64) (t : Int) (g : Int → Int) (hst : l.stackTraces = false) (hsr : SR g sc ar) (ht : 0 ≤ t ∧ t < 65536) (htw : TW g) (sz : Nat) : vx_Met l yX0_needCount (wsW_ yX0_needCount cX0_needCount 4 (some .int) [(0, 9, 12, 13), (0, 9, 15, 21)]) { frames := 10, cells := 2, slots := 12, locals := 176 } (va_Pc [.ref cw, iv t, .ref la] (UX E (([(cw, .inr (1, [.ref (o 0), .ref oaA, .ref osA, iv hsn, .ref hdA, .ref spA, .ref bfA, .ref lnA, .ref prA, iv ep, va_rf lt]))] : va_W) ++ (SW E o sc ar) ++ ([(la, loA (E.2 5) zf)] : va_W)) sz)) (UQx E (Sum.elim (fun u : (Unit) × (Nat → Int64) => (c_none g t = 0) ∧ c_none g t = 0 ∧ u.2 0 = (iI (m_of g (t - 97) 2)).toInt64) (fun u : Unit => 0 < c_none g t ∧ ∃ En : String, 0 < c_none g t ∧ En = nmX "java/lang/IllegalArgumentException" "java/util/NoSuchElementException" "java/lang/IndexOutOfBoundsException" (c_none g t))) (fun _ => c_none g t) (Sum.elim (fun u : (Unit) × (Nat → Int64) => ([(cw, .inr (1, [.ref (o 0), .ref oaA, .ref osA, iv hsn, .ref hdA, .ref spA, .ref bfA, .ref lnA, .ref prA, iv ep, va_rf lt]))] : va_W) ++ (SW E o sc ar) ++ ([(la, loA (E.2 5) u.2)] : va_W)) (fun u : Unit => ([(cw, .inr (1, [.ref (o 0), .ref oaA, .ref osA, iv hsn, .ref hdA, .ref spA, .ref bfA, .ref lnA, .ref prA, iv ep, va_rf lt]))] : va_W) ++ (SW E o sc ar) ++ ([(la, loA (E.2 5) zf)] : va_W))) (va_A (([(cw, .inr (1, [.ref (o 0), .ref oaA, .ref osA, iv hsn, .ref hdA, .ref spA, .ref bfA, .ref lnA, .ref prA, iv ep, va_rf lt]))] : va_W) ++ (SW E o sc ar) ++ ([(la, loA (E.2 5) zf)] : va_W)) sz)) (UXx E (fun (_ : String) (_ : Unit) => False) (fun _ : Unit => []) (fun _ : Unit => none) (va_A (([(cw, .inr (1, [.ref (o 0), .ref oaA, .ref osA, iv hsn, .ref hdA, .ref spA, .ref bfA, .ref lnA, .ref prA, iv ep, va_rf lt]))] : va_W) ++ (SW E o sc ar) ++ ([(la, loA (E.2 5) zf)] : va_W)) sz)) 2 12 (va_A (([(cw, .inr (1, [.ref (o 0), .ref oaA, .ref osA, iv hsn, .ref hdA, .ref spA, .ref bfA, .ref lnA, .ref prA, iv ep, va_rf lt]))] : va_W) ++ (SW E o sc ar) ++ ([(la, loA (E.2 5) zf)] : va_W)) sz) := by
  refine vx_ofWH (hh := [(0, 9, 12, 13), (0, 9, 15, 21)]) (cc := cX0_needCount) (maxL := 4) (ret := (some .int)) (by decide) rfl ?_
  intro p e s m args below meth c s₁ B hml hv
  obtain ⟨rfl, hsz, hP, hK, hD0, hE⟩ := hv
  have hx := B.exec
  have hb := B.bytes
  have hr := B.returns
  have hts := atoms_spec (ws := (wsW_ yX0_needCount cX0_needCount 4 (some .int) [(0, 9, 12, 13), (0, 9, 15, 21)])) B.pre
  have htab : c.exceptionTable.toList = tableOf [(0, 9, 12, 13), (0, 9, 15, 21)] := vx_table (x := yX0_needCount) B (hts _ List.mem_cons_self)
  have hts : ∀ w ∈ lw_all, w.before _ s = true := fun w h => hts w (List.mem_cons_of_mem _ h)
  have hown : s.vm.findClass RX0 = some m.cls := findClass_of_methodNamed B.named
  have hlocks := B.notSynchronized
  subst hsz
  have hD := hD0.self (sz := s.heap.size)
  generalize hAe : va_A (([(cw, .inr (1, [.ref (o 0), .ref oaA, .ref osA, iv hsn, .ref hdA, .ref spA, .ref bfA, .ref lnA, .ref prA, iv ep, va_rf lt]))] : va_W) ++ (SW E o sc ar) ++ ([(la, loA (E.2 5) zf)] : va_W)) s.heap.size = A at hD hE ⊢
  have hA : ∀ q : Nat, s.heap.size ≤ q → A q := fun q h => by rw [← hAe]; exact Or.inr h
  have hS : va_S A s.heap s.heap [] := va_S.rf
  have hl := lv_entry ([.ref cw, iv t, .ref la]) (n := 4) (Nat.le_of_ble_eq_true rfl)
  rw [lg_entry_eq]
  generalize (lg_sl ([.ref cw, iv t, .ref la]) ++ List.replicate (4 - (lg_sl ([.ref cw, iv t, .ref la])).length) Slot.unset).toArray = ls at hl ⊢
  have hl : lv_has ls 4 [(0, .ref cw), (1, iv t), (2, .ref la)] := hl
  refine lv_aload_n hx hb dX0_needCount_0 rfl (lv_at hl 2 rfl) ?_
  refine lv_iconst (v := iI 0) hx hb dX0_needCount_1 rfl ?_
  refine lv_aload_n hx hb dX0_needCount_2 rfl (lv_at hl 0 rfl) ?_
  refine lv_iload_n hx hb dX0_needCount_3 rfl (lv_at hl 1 rfl) ?_
  have hg_1 : gpick [[(cw, .inr (1, [.ref (o 0), .ref oaA, .ref osA, iv hsn, .ref hdA, .ref spA, .ref bfA, .ref lnA, .ref prA, iv ep, va_rf lt]))], SW E o sc ar, [(la, loA (E.2 5) zf)]] ([[(cw, .inr (1, [.ref (o 0), .ref oaA, .ref osA, iv hsn, .ref hdA, .ref spA, .ref bfA, .ref lnA, .ref prA, iv ep, va_rf lt]))], SW E o sc ar] ++ [[(la, loA (E.2 5) zf)]]) [0, 1, 2] := ⟨rfl, (show List.Perm [0, 1, 2] (List.range 3) from by decide)⟩
  have hg_1P : va_P E.1 CL (([(cw, .inr (1, [.ref (o 0), .ref oaA, .ref osA, iv hsn, .ref hdA, .ref spA, .ref bfA, .ref lnA, .ref prA, iv ep, va_rf lt]))] : va_W) ++ (SW E o sc ar)) s.heap := (g_out hg_1 hP hD).1
  have hg_1D : va_D A (([(cw, .inr (1, [.ref (o 0), .ref oaA, .ref osA, iv hsn, .ref hdA, .ref spA, .ref bfA, .ref lnA, .ref prA, iv ep, va_rf lt]))] : va_W) ++ (SW E o sc ar)) := (g_out hg_1 hP hD).2
  have hg_1F : ∀ q, va_A (([(cw, .inr (1, [.ref (o 0), .ref oaA, .ref osA, iv hsn, .ref hdA, .ref spA, .ref bfA, .ref lnA, .ref prA, iv ep, va_rf lt]))] : va_W) ++ (SW E o sc ar)) s.heap.size q → A q := g_free hg_1 hP hD hS hA
  have hlt_2 := P_lts hP
  have hz_3 : s.heap.size ≤ s.heap.size := hS.1
  have hj_6 : ∀ u_4 : Unit, gpick ([[(cw, .inr (1, [.ref (o 0), .ref oaA, .ref osA, iv hsn, .ref hdA, .ref spA, .ref bfA, .ref lnA, .ref prA, iv ep, va_rf lt]))], SW E o sc ar] ++ [[(la, loA (E.2 5) zf)]]) [[(cw, .inr (1, [.ref (o 0), .ref oaA, .ref osA, iv hsn, .ref hdA, .ref spA, .ref bfA, .ref lnA, .ref prA, iv ep, va_rf lt]))], SW E o sc ar, [(la, loA (E.2 5) zf)]] [0, 1, 2] := fun u_4 => ⟨rfl, (show List.Perm [0, 1, 2] (List.range 3) from by decide)⟩
  have hj_7 : ∀ u_5 : Unit, gpick ([[(cw, .inr (1, [.ref (o 0), .ref oaA, .ref osA, iv hsn, .ref hdA, .ref spA, .ref bfA, .ref lnA, .ref prA, iv ep, va_rf lt]))], SW E o sc ar] ++ [[(la, loA (E.2 5) zf)]]) [[(cw, .inr (1, [.ref (o 0), .ref oaA, .ref osA, iv hsn, .ref hdA, .ref spA, .ref bfA, .ref lnA, .ref prA, iv ep, va_rf lt]))], SW E o sc ar, [(la, loA (E.2 5) zf)]] [0, 1, 2] := fun u_5 => ⟨rfl, (show List.Perm [0, 1, 2] (List.range 3) from by decide)⟩
  refine n_txB (x := fun u_4 => m_of g (t - 97) 2) (w2 := fun u_4 : Unit => ([(cw, .inr (1, [.ref (o 0), .ref oaA, .ref osA, iv hsn, .ref hdA, .ref spA, .ref bfA, .ref lnA, .ref prA, iv ep, va_rf lt]))] : va_W) ++ (SW E o sc ar) ++ ([(la, loA (E.2 5) zf)] : va_W)) (w3 := fun u_5 : Unit => ([(cw, .inr (1, [.ref (o 0), .ref oaA, .ref osA, iv hsn, .ref hdA, .ref spA, .ref bfA, .ref lnA, .ref prA, iv ep, va_rf lt]))] : va_W) ++ (SW E o sc ar) ++ ([(la, loA (E.2 5) zf)] : va_W)) (vx_runV (As := [iv t]) (rest := [iv 0, .ref la]) ⟨hx, hb, hml, hown, hts⟩ (mt_X1_needCount l E cw oaA osA hsn hdA spA bfA lnA prA ep lt o sc ar t g (by exact hst) (by assumption) (by omega) (by assumption) _) (cwV 1 hts (lw_V q1068 q1069 q1070 q94 q1071) rfl rfl rfl (by decide +kernel) ⟨Nat.le_of_ble_eq_true rfl, Nat.le_of_ble_eq_true rfl⟩) (UX_V hg_1P hK (hg_1D) hE hS hg_1F (va_recv hK.1 hP (ci := 1) (q0 := 0) rfl rfl)) rfl rfl hl.1 rfl (lv_room (Nat.le_of_ble_eq_true rfl)) dX0_needCount_4 ⟨Nat.le_of_ble_eq_true rfl, Nat.le_of_ble_eq_true rfl⟩) hS hg_1F ?_ ?_ ?_ ?_
  · exact (fun u_4 _ hk9 hp9 hd9 => g_back hg_1 (hj_6 u_4) hP hD hg_1F hk9 hp9 hd9)
  · exact (fun u_5 _ hk9 hp9 hd9 => g_back hg_1 (hj_7 u_5) hP hD hg_1F hk9 hp9 hd9)
  · intro En ce q9 u_5 H locs hCx hP hD hS hxf hq9 hce hcv hcl
    have hCx : 0 < c_none g t ∧ En = nmX "java/lang/IllegalArgumentException" "java/util/NoSuchElementException" "java/lang/IndexOutOfBoundsException" (c_none g t) := hCx
    have hP : va_P E.1 CL (([(cw, .inr (1, [.ref (o 0), .ref oaA, .ref osA, iv hsn, .ref hdA, .ref spA, .ref bfA, .ref lnA, .ref prA, iv ep, va_rf lt]))] : va_W) ++ (SW E o sc ar) ++ ([(la, loA (E.2 5) zf)] : va_W)) H := hP
    have hD : va_D A (([(cw, .inr (1, [.ref (o 0), .ref oaA, .ref osA, iv hsn, .ref hdA, .ref spA, .ref bfA, .ref lnA, .ref prA, iv ep, va_rf lt]))] : va_W) ++ (SW E o sc ar) ++ ([(la, loA (E.2 5) zf)] : va_W)) := hD
    have hcx9 := hCx
    obtain ⟨hc0, hEn9⟩ := hCx
    have hcr9 : c_none g t ≤ 2 := by have := c_none_r g t; omega
    rcases (show c_none g t = 1 ∨ c_none g t = 2 by omega) with hk9 | hk9
    · have hEn9 : En = "java/lang/IllegalArgumentException" := by rw [hEn9, hk9]; rfl
      subst hEn9
      refine vx_catch (own := "ClockworkTailorLaw") hown [] _ [_] htab (fun z hz => by cases hz) (by decide) (by decide) (name := "java/lang/IllegalArgumentException") (hts _ q867) (hK.nw q894) hce hcv hcl ?_
      refine lv_astore_n (lv' := [(3, .ref q9), (0, .ref cw), (1, iv t), (2, .ref la)]) hx hb dX0_needCount_12 rfl hl (by decide) rfl (fun ls hl => ?_)
      refine lv_iconst (v := iI 1) hx hb dX0_needCount_13 rfl ?_
      have hfin : 1 = c_none g t := by
        first | exact hz9.symm | exact hk9.symm
      refine vx_ret ?_
      refine W.widen (k := 2) (n := 12) (Nat.le_of_ble_eq_true rfl) (Nat.le_of_ble_eq_true rfl) ?_
      exact W.iret (v := iI 1) hx hb hr (fun tt_ ht_ hW_ => ⟨⟨iI 1, .inr u_5, rfl, ⟨(show 0 < c_none g t ∧ ∃ En : String, 0 < c_none g t ∧ En = nmX "java/lang/IllegalArgumentException" "java/util/NoSuchElementException" "java/lang/IndexOutOfBoundsException" (c_none g t) from ⟨(by omega), _, hcx9⟩), (congrArg iI hfin)⟩, by rw [ht_]; exact hP, hD⟩, hS.F ht_⟩) hS.2.2 dX0_needCount_14
    · have hEn9 : En = "java/util/NoSuchElementException" := by rw [hEn9, hk9]; rfl
      subst hEn9
      refine vx_catch (own := "ClockworkTailorLaw") hown [_] _ [] htab (fun z hz => by
          simp only [List.mem_cons, List.not_mem_nil, or_false] at hz
          rcases hz with rfl
          · exact Or.inr ⟨by decide, "java/lang/IllegalArgumentException", hts _ q867, hK.kx.2.2.2.2.2 (_, _) (by decide)⟩
          ) (by decide) (by decide) (name := "java/util/NoSuchElementException") (hts _ q951) (hK.nw q976) hce hcv hcl ?_
      refine lv_astore_n (lv' := [(3, .ref q9), (0, .ref cw), (1, iv t), (2, .ref la)]) hx hb dX0_needCount_15 rfl hl (by decide) rfl (fun ls hl => ?_)
      refine lv_iconst (v := iI 2) hx hb dX0_needCount_16 rfl ?_
      have hfin : 2 = c_none g t := by
        first | exact hz9.symm | exact hk9.symm
      refine vx_ret ?_
      refine W.widen (k := 2) (n := 12) (Nat.le_of_ble_eq_true rfl) (Nat.le_of_ble_eq_true rfl) ?_
      exact W.iret (v := iI 2) hx hb hr (fun tt_ ht_ hW_ => ⟨⟨iI 2, .inr u_5, rfl, ⟨(show 0 < c_none g t ∧ ∃ En : String, 0 < c_none g t ∧ En = nmX "java/lang/IllegalArgumentException" "java/util/NoSuchElementException" "java/lang/IndexOutOfBoundsException" (c_none g t) from ⟨(by omega), _, hcx9⟩), (congrArg iI hfin)⟩, by rw [ht_]; exact hP, hD⟩, hS.F ht_⟩) hS.2.2 dX0_needCount_17
  · intro u_4 H locs hC hP hD hS
    have hu_4 : c_none g t = 0 := hC
    have hP : va_P E.1 CL (([(cw, .inr (1, [.ref (o 0), .ref oaA, .ref osA, iv hsn, .ref hdA, .ref spA, .ref bfA, .ref lnA, .ref prA, iv ep, va_rf lt]))] : va_W) ++ (SW E o sc ar) ++ ([(la, loA (E.2 5) zf)] : va_W)) H := hP
    have hD : va_D A (([(cw, .inr (1, [.ref (o 0), .ref oaA, .ref osA, iv hsn, .ref hdA, .ref spA, .ref bfA, .ref lnA, .ref prA, iv ep, va_rf lt]))] : va_W) ++ (SW E o sc ar) ++ ([(la, loA (E.2 5) zf)] : va_W)) := hD
    have hz9 : c_none g t = 0 := hu_4
    refine lv_i2l (v := (iI (m_of g (t - 97) 2)).toInt64) hx hb dX0_needCount_7 rfl ?_
    refine n_last1 hx hb hK.1 hP hD hS 18 rfl dX0_needCount_8 (ws2 := ([(cw, .inr (1, [.ref (o 0), .ref oaA, .ref osA, iv hsn, .ref hdA, .ref spA, .ref bfA, .ref lnA, .ref prA, iv ep, va_rf lt]))] : va_W) ++ (SW E o sc ar) ++ ([(la, loA (E.2 5) (vp_updL zf 0 ((iI (m_of g (t - 97) 2)).toInt64)))] : va_W)) rfl (fun H locs hP hD hS => ?_)
    have hP : va_P E.1 CL (([(cw, .inr (1, [.ref (o 0), .ref oaA, .ref osA, iv hsn, .ref hdA, .ref spA, .ref bfA, .ref lnA, .ref prA, iv ep, va_rf lt]))] : va_W) ++ (SW E o sc ar) ++ ([(la, loA (E.2 5) (vp_updL zf 0 ((iI (m_of g (t - 97) 2)).toInt64)))] : va_W)) H := hP
    have hD : va_D A (([(cw, .inr (1, [.ref (o 0), .ref oaA, .ref osA, iv hsn, .ref hdA, .ref spA, .ref bfA, .ref lnA, .ref prA, iv ep, va_rf lt]))] : va_W) ++ (SW E o sc ar) ++ ([(la, loA (E.2 5) (vp_updL zf 0 ((iI (m_of g (t - 97) 2)).toInt64)))] : va_W)) := hD
    refine lv_goto (tgt := 18) hx hb dX0_needCount_9 (by decide) ?_
    refine lv_iconst (v := iI 0) hx hb dX0_needCount_18 rfl ?_
    have hfin : 0 = c_none g t := by
      first | exact hz9.symm | exact hk9.symm
    refine vx_ret ?_
    refine W.widen (k := 2) (n := 12) (Nat.le_of_ble_eq_true rfl) (Nat.le_of_ble_eq_true rfl) ?_
    exact W.iret (v := iI 0) hx hb hr (fun tt_ ht_ hW_ => ⟨⟨iI 0, .inl (u_4, (vp_updL zf 0 ((iI (m_of g (t - 97) 2)).toInt64))), rfl, ⟨(show (c_none g t = 0) ∧ c_none g t = 0 ∧ (u_4, (vp_updL zf 0 ((iI (m_of g (t - 97) 2)).toInt64))).2 0 = (iI (m_of g (t - 97) 2)).toInt64 from ⟨hu_4, hz9, rfl⟩), (congrArg iI hfin)⟩, by rw [ht_]; exact hP, hD⟩, hS.F ht_⟩) hS.2.2 dX0_needCount_19
set_option maxHeartbeats 2000000 in
set_option maxRecDepth 100000 in
theorem mt_X0_needAt (l : Launch) (E : EE) (cw : Nat) (oaA : Nat) (osA : Nat) (hsn : Int) (hdA : Nat) (spA : Nat) (bfA : Nat) (lnA : Nat) (prA : Nat) (ep : Int) (lt : Option Nat) (o : Nat → Nat) (sc : Nat → Int) (ar : Nat → Int → Int) (la : Nat) (zf : Nat → Int64) (t : Int) (q : Int) (g : Int → Int) (hst : l.stackTraces = false) (hsr : SR g sc ar) (ht : 0 ≤ t ∧ t < 65536) (hq : -2147483648 ≤ q ∧ q < 2147483648) (htw : TW g) (sz : Nat) : vx_Met l yX0_needAt (wsW_ yX0_needAt cX0_needAt 5 (some .int) [(0, 10, 13, 13), (0, 10, 17, 21), (0, 10, 21, 48)]) { frames := 11, cells := 3, slots := 18, locals := 200 } (va_Pc [.ref cw, iv t, iv q, .ref la] (UX E (([(cw, .inr (1, [.ref (o 0), .ref oaA, .ref osA, iv hsn, .ref hdA, .ref spA, .ref bfA, .ref lnA, .ref prA, iv ep, va_rf lt]))] : va_W) ++ (SW E o sc ar) ++ ([(la, loA (E.2 5) zf)] : va_W)) sz)) (UQx E (Sum.elim (fun u : (Unit) × (Nat → Int64) => (c_need g t q = 0) ∧ c_need g t q = 0 ∧ u.2 0 = (iI (97 + m_need g (t - 97) q)).toInt64) (fun u : Unit => 0 < c_need g t q ∧ ∃ En : String, 0 < c_need g t q ∧ En = nmX "java/lang/IllegalArgumentException" "java/util/NoSuchElementException" "java/lang/IndexOutOfBoundsException" (c_need g t q))) (fun _ => c_need g t q) (Sum.elim (fun u : (Unit) × (Nat → Int64) => ([(cw, .inr (1, [.ref (o 0), .ref oaA, .ref osA, iv hsn, .ref hdA, .ref spA, .ref bfA, .ref lnA, .ref prA, iv ep, va_rf lt]))] : va_W) ++ (SW E o sc ar) ++ ([(la, loA (E.2 5) u.2)] : va_W)) (fun u : Unit => ([(cw, .inr (1, [.ref (o 0), .ref oaA, .ref osA, iv hsn, .ref hdA, .ref spA, .ref bfA, .ref lnA, .ref prA, iv ep, va_rf lt]))] : va_W) ++ (SW E o sc ar) ++ ([(la, loA (E.2 5) zf)] : va_W))) (va_A (([(cw, .inr (1, [.ref (o 0), .ref oaA, .ref osA, iv hsn, .ref hdA, .ref spA, .ref bfA, .ref lnA, .ref prA, iv ep, va_rf lt]))] : va_W) ++ (SW E o sc ar) ++ ([(la, loA (E.2 5) zf)] : va_W)) sz)) (UXx E (fun (_ : String) (_ : Unit) => False) (fun _ : Unit => []) (fun _ : Unit => none) (va_A (([(cw, .inr (1, [.ref (o 0), .ref oaA, .ref osA, iv hsn, .ref hdA, .ref spA, .ref bfA, .ref lnA, .ref prA, iv ep, va_rf lt]))] : va_W) ++ (SW E o sc ar) ++ ([(la, loA (E.2 5) zf)] : va_W)) sz)) 3 18 (va_A (([(cw, .inr (1, [.ref (o 0), .ref oaA, .ref osA, iv hsn, .ref hdA, .ref spA, .ref bfA, .ref lnA, .ref prA, iv ep, va_rf lt]))] : va_W) ++ (SW E o sc ar) ++ ([(la, loA (E.2 5) zf)] : va_W)) sz) := by
  refine vx_ofWH (hh := [(0, 10, 13, 13), (0, 10, 17, 21), (0, 10, 21, 48)]) (cc := cX0_needAt) (maxL := 5) (ret := (some .int)) (by decide) rfl ?_
  intro p e s m args below meth c s₁ B hml hv
  obtain ⟨rfl, hsz, hP, hK, hD0, hE⟩ := hv
  have hx := B.exec
  have hb := B.bytes
  have hr := B.returns
  have hts := atoms_spec (ws := (wsW_ yX0_needAt cX0_needAt 5 (some .int) [(0, 10, 13, 13), (0, 10, 17, 21), (0, 10, 21, 48)])) B.pre
  have htab : c.exceptionTable.toList = tableOf [(0, 10, 13, 13), (0, 10, 17, 21), (0, 10, 21, 48)] := vx_table (x := yX0_needAt) B (hts _ List.mem_cons_self)
  have hts : ∀ w ∈ lw_all, w.before _ s = true := fun w h => hts w (List.mem_cons_of_mem _ h)
  have hown : s.vm.findClass RX0 = some m.cls := findClass_of_methodNamed B.named
  have hlocks := B.notSynchronized
  subst hsz
  have hD := hD0.self (sz := s.heap.size)
  generalize hAe : va_A (([(cw, .inr (1, [.ref (o 0), .ref oaA, .ref osA, iv hsn, .ref hdA, .ref spA, .ref bfA, .ref lnA, .ref prA, iv ep, va_rf lt]))] : va_W) ++ (SW E o sc ar) ++ ([(la, loA (E.2 5) zf)] : va_W)) s.heap.size = A at hD hE ⊢
  have hA : ∀ q : Nat, s.heap.size ≤ q → A q := fun q h => by rw [← hAe]; exact Or.inr h
  have hS : va_S A s.heap s.heap [] := va_S.rf
  have hl := lv_entry ([.ref cw, iv t, iv q, .ref la]) (n := 5) (Nat.le_of_ble_eq_true rfl)
  rw [lg_entry_eq]
  generalize (lg_sl ([.ref cw, iv t, iv q, .ref la]) ++ List.replicate (5 - (lg_sl ([.ref cw, iv t, iv q, .ref la])).length) Slot.unset).toArray = ls at hl ⊢
  have hl : lv_has ls 5 [(0, .ref cw), (1, iv t), (2, iv q), (3, .ref la)] := hl
  refine lv_aload_n hx hb dX0_needAt_0 rfl (lv_at hl 3 rfl) ?_
  refine lv_iconst (v := iI 0) hx hb dX0_needAt_1 rfl ?_
  refine lv_aload_n hx hb dX0_needAt_2 rfl (lv_at hl 0 rfl) ?_
  refine lv_iload_n hx hb dX0_needAt_3 rfl (lv_at hl 1 rfl) ?_
  refine lv_iload_n hx hb dX0_needAt_4 rfl (lv_at hl 2 rfl) ?_
  have hg_1 : gpick [[(cw, .inr (1, [.ref (o 0), .ref oaA, .ref osA, iv hsn, .ref hdA, .ref spA, .ref bfA, .ref lnA, .ref prA, iv ep, va_rf lt]))], SW E o sc ar, [(la, loA (E.2 5) zf)]] ([[(cw, .inr (1, [.ref (o 0), .ref oaA, .ref osA, iv hsn, .ref hdA, .ref spA, .ref bfA, .ref lnA, .ref prA, iv ep, va_rf lt]))], SW E o sc ar] ++ [[(la, loA (E.2 5) zf)]]) [0, 1, 2] := ⟨rfl, (show List.Perm [0, 1, 2] (List.range 3) from by decide)⟩
  have hg_1P : va_P E.1 CL (([(cw, .inr (1, [.ref (o 0), .ref oaA, .ref osA, iv hsn, .ref hdA, .ref spA, .ref bfA, .ref lnA, .ref prA, iv ep, va_rf lt]))] : va_W) ++ (SW E o sc ar)) s.heap := (g_out hg_1 hP hD).1
  have hg_1D : va_D A (([(cw, .inr (1, [.ref (o 0), .ref oaA, .ref osA, iv hsn, .ref hdA, .ref spA, .ref bfA, .ref lnA, .ref prA, iv ep, va_rf lt]))] : va_W) ++ (SW E o sc ar)) := (g_out hg_1 hP hD).2
  have hg_1F : ∀ q, va_A (([(cw, .inr (1, [.ref (o 0), .ref oaA, .ref osA, iv hsn, .ref hdA, .ref spA, .ref bfA, .ref lnA, .ref prA, iv ep, va_rf lt]))] : va_W) ++ (SW E o sc ar)) s.heap.size q → A q := g_free hg_1 hP hD hS hA
  have hlt_2 := P_lts hP
  have hz_3 : s.heap.size ≤ s.heap.size := hS.1
  have hj_6 : ∀ u_4 : Unit, gpick ([[(cw, .inr (1, [.ref (o 0), .ref oaA, .ref osA, iv hsn, .ref hdA, .ref spA, .ref bfA, .ref lnA, .ref prA, iv ep, va_rf lt]))], SW E o sc ar] ++ [[(la, loA (E.2 5) zf)]]) [[(cw, .inr (1, [.ref (o 0), .ref oaA, .ref osA, iv hsn, .ref hdA, .ref spA, .ref bfA, .ref lnA, .ref prA, iv ep, va_rf lt]))], SW E o sc ar, [(la, loA (E.2 5) zf)]] [0, 1, 2] := fun u_4 => ⟨rfl, (show List.Perm [0, 1, 2] (List.range 3) from by decide)⟩
  have hj_7 : ∀ u_5 : Unit, gpick ([[(cw, .inr (1, [.ref (o 0), .ref oaA, .ref osA, iv hsn, .ref hdA, .ref spA, .ref bfA, .ref lnA, .ref prA, iv ep, va_rf lt]))], SW E o sc ar] ++ [[(la, loA (E.2 5) zf)]]) [[(cw, .inr (1, [.ref (o 0), .ref oaA, .ref osA, iv hsn, .ref hdA, .ref spA, .ref bfA, .ref lnA, .ref prA, iv ep, va_rf lt]))], SW E o sc ar, [(la, loA (E.2 5) zf)]] [0, 1, 2] := fun u_5 => ⟨rfl, (show List.Perm [0, 1, 2] (List.range 3) from by decide)⟩
  refine n_txB (x := fun u_4 => 97 + m_need g (t - 97) q) (w2 := fun u_4 : Unit => ([(cw, .inr (1, [.ref (o 0), .ref oaA, .ref osA, iv hsn, .ref hdA, .ref spA, .ref bfA, .ref lnA, .ref prA, iv ep, va_rf lt]))] : va_W) ++ (SW E o sc ar) ++ ([(la, loA (E.2 5) zf)] : va_W)) (w3 := fun u_5 : Unit => ([(cw, .inr (1, [.ref (o 0), .ref oaA, .ref osA, iv hsn, .ref hdA, .ref spA, .ref bfA, .ref lnA, .ref prA, iv ep, va_rf lt]))] : va_W) ++ (SW E o sc ar) ++ ([(la, loA (E.2 5) zf)] : va_W)) (vx_runV (As := [iv t, iv q]) (rest := [iv 0, .ref la]) ⟨hx, hb, hml, hown, hts⟩ (mt_X1_needAt l E cw oaA osA hsn hdA spA bfA lnA prA ep lt o sc ar t q g (by exact hst) (by assumption) (by omega) (by omega) (by assumption) _) (cwV 2 hts (lw_V q1099 q1100 q1101 q94 q1102) rfl rfl rfl (by decide +kernel) ⟨Nat.le_of_ble_eq_true rfl, Nat.le_of_ble_eq_true rfl⟩) (UX_V hg_1P hK (hg_1D) hE hS hg_1F (va_recv hK.1 hP (ci := 1) (q0 := 0) rfl rfl)) rfl rfl hl.1 rfl (lv_room (Nat.le_of_ble_eq_true rfl)) dX0_needAt_5 ⟨Nat.le_of_ble_eq_true rfl, Nat.le_of_ble_eq_true rfl⟩) hS hg_1F ?_ ?_ ?_ ?_
  · exact (fun u_4 _ hk9 hp9 hd9 => g_back hg_1 (hj_6 u_4) hP hD hg_1F hk9 hp9 hd9)
  · exact (fun u_5 _ hk9 hp9 hd9 => g_back hg_1 (hj_7 u_5) hP hD hg_1F hk9 hp9 hd9)
  · intro En ce q9 u_5 H locs hCx hP hD hS hxf hq9 hce hcv hcl
    have hCx : 0 < c_need g t q ∧ En = nmX "java/lang/IllegalArgumentException" "java/util/NoSuchElementException" "java/lang/IndexOutOfBoundsException" (c_need g t q) := hCx
    have hP : va_P E.1 CL (([(cw, .inr (1, [.ref (o 0), .ref oaA, .ref osA, iv hsn, .ref hdA, .ref spA, .ref bfA, .ref lnA, .ref prA, iv ep, va_rf lt]))] : va_W) ++ (SW E o sc ar) ++ ([(la, loA (E.2 5) zf)] : va_W)) H := hP
    have hD : va_D A (([(cw, .inr (1, [.ref (o 0), .ref oaA, .ref osA, iv hsn, .ref hdA, .ref spA, .ref bfA, .ref lnA, .ref prA, iv ep, va_rf lt]))] : va_W) ++ (SW E o sc ar) ++ ([(la, loA (E.2 5) zf)] : va_W)) := hD
    have hcx9 := hCx
    obtain ⟨hc0, hEn9⟩ := hCx
    have hcr9 : c_need g t q ≤ 3 := by have := c_need_r g t q; omega
    rcases (show c_need g t q = 1 ∨ c_need g t q = 2 ∨ c_need g t q = 3 by omega) with hk9 | hk9 | hk9
    · have hEn9 : En = "java/lang/IllegalArgumentException" := by rw [hEn9, hk9]; rfl
      subst hEn9
      refine vx_catch (own := "ClockworkTailorLaw") hown [] _ [_, _] htab (fun z hz => by cases hz) (by decide) (by decide) (name := "java/lang/IllegalArgumentException") (hts _ q867) (hK.nw q894) hce hcv hcl ?_
      refine lv_astore (lv' := [(4, .ref q9), (0, .ref cw), (1, iv t), (2, iv q), (3, .ref la)]) hx hb dX0_needAt_13 hl (by decide) rfl (fun ls hl => ?_)
      refine lv_iconst (v := iI 1) hx hb dX0_needAt_15 rfl ?_
      have hfin : 1 = c_need g t q := by
        first | exact hz9.symm | exact hk9.symm
      refine vx_ret ?_
      refine W.widen (k := 3) (n := 18) (Nat.le_of_ble_eq_true rfl) (Nat.le_of_ble_eq_true rfl) ?_
      exact W.iret (v := iI 1) hx hb hr (fun tt_ ht_ hW_ => ⟨⟨iI 1, .inr u_5, rfl, ⟨(show 0 < c_need g t q ∧ ∃ En : String, 0 < c_need g t q ∧ En = nmX "java/lang/IllegalArgumentException" "java/util/NoSuchElementException" "java/lang/IndexOutOfBoundsException" (c_need g t q) from ⟨(by omega), _, hcx9⟩), (congrArg iI hfin)⟩, by rw [ht_]; exact hP, hD⟩, hS.F ht_⟩) hS.2.2 dX0_needAt_16
    · have hEn9 : En = "java/util/NoSuchElementException" := by rw [hEn9, hk9]; rfl
      subst hEn9
      refine vx_catch (own := "ClockworkTailorLaw") hown [_] _ [_] htab (fun z hz => by
          simp only [List.mem_cons, List.not_mem_nil, or_false] at hz
          rcases hz with rfl
          · exact Or.inr ⟨by decide, "java/lang/IllegalArgumentException", hts _ q867, hK.kx.2.2.2.2.2 (_, _) (by decide)⟩
          ) (by decide) (by decide) (name := "java/util/NoSuchElementException") (hts _ q951) (hK.nw q976) hce hcv hcl ?_
      refine lv_astore (lv' := [(4, .ref q9), (0, .ref cw), (1, iv t), (2, iv q), (3, .ref la)]) hx hb dX0_needAt_17 hl (by decide) rfl (fun ls hl => ?_)
      refine lv_iconst (v := iI 2) hx hb dX0_needAt_19 rfl ?_
      have hfin : 2 = c_need g t q := by
        first | exact hz9.symm | exact hk9.symm
      refine vx_ret ?_
      refine W.widen (k := 3) (n := 18) (Nat.le_of_ble_eq_true rfl) (Nat.le_of_ble_eq_true rfl) ?_
      exact W.iret (v := iI 2) hx hb hr (fun tt_ ht_ hW_ => ⟨⟨iI 2, .inr u_5, rfl, ⟨(show 0 < c_need g t q ∧ ∃ En : String, 0 < c_need g t q ∧ En = nmX "java/lang/IllegalArgumentException" "java/util/NoSuchElementException" "java/lang/IndexOutOfBoundsException" (c_need g t q) from ⟨(by omega), _, hcx9⟩), (congrArg iI hfin)⟩, by rw [ht_]; exact hP, hD⟩, hS.F ht_⟩) hS.2.2 dX0_needAt_20
    · have hEn9 : En = "java/lang/IndexOutOfBoundsException" := by rw [hEn9, hk9]; rfl
      subst hEn9
      refine vx_catch (own := "ClockworkTailorLaw") hown [_, _] _ [] htab (fun z hz => by
          simp only [List.mem_cons, List.not_mem_nil, or_false] at hz
          rcases hz with rfl | rfl
          · exact Or.inr ⟨by decide, "java/lang/IllegalArgumentException", hts _ q867, hK.kx.2.2.2.2.2 (_, _) (by decide)⟩
          · exact Or.inr ⟨by decide, "java/util/NoSuchElementException", hts _ q951, hK.kx.2.2.2.2.2 (_, _) (by decide)⟩
          ) (by decide) (by decide) (name := "java/lang/IndexOutOfBoundsException") (hts _ q1075) (hK.nw q1112) hce hcv hcl ?_
      refine lv_astore (lv' := [(4, .ref q9), (0, .ref cw), (1, iv t), (2, iv q), (3, .ref la)]) hx hb dX0_needAt_21 hl (by decide) rfl (fun ls hl => ?_)
      refine lv_iconst (v := iI 3) hx hb dX0_needAt_23 rfl ?_
      have hfin : 3 = c_need g t q := by
        first | exact hz9.symm | exact hk9.symm
      refine vx_ret ?_
      refine W.widen (k := 3) (n := 18) (Nat.le_of_ble_eq_true rfl) (Nat.le_of_ble_eq_true rfl) ?_
      exact W.iret (v := iI 3) hx hb hr (fun tt_ ht_ hW_ => ⟨⟨iI 3, .inr u_5, rfl, ⟨(show 0 < c_need g t q ∧ ∃ En : String, 0 < c_need g t q ∧ En = nmX "java/lang/IllegalArgumentException" "java/util/NoSuchElementException" "java/lang/IndexOutOfBoundsException" (c_need g t q) from ⟨(by omega), _, hcx9⟩), (congrArg iI hfin)⟩, by rw [ht_]; exact hP, hD⟩, hS.F ht_⟩) hS.2.2 dX0_needAt_24
  · intro u_4 H locs hC hP hD hS
    have hu_4 : c_need g t q = 0 := hC
    have hP : va_P E.1 CL (([(cw, .inr (1, [.ref (o 0), .ref oaA, .ref osA, iv hsn, .ref hdA, .ref spA, .ref bfA, .ref lnA, .ref prA, iv ep, va_rf lt]))] : va_W) ++ (SW E o sc ar) ++ ([(la, loA (E.2 5) zf)] : va_W)) H := hP
    have hD : va_D A (([(cw, .inr (1, [.ref (o 0), .ref oaA, .ref osA, iv hsn, .ref hdA, .ref spA, .ref bfA, .ref lnA, .ref prA, iv ep, va_rf lt]))] : va_W) ++ (SW E o sc ar) ++ ([(la, loA (E.2 5) zf)] : va_W)) := hD
    have hz9 : c_need g t q = 0 := hu_4
    refine lv_i2l (v := (iI (97 + m_need g (t - 97) q)).toInt64) hx hb dX0_needAt_8 rfl ?_
    refine n_last1 hx hb hK.1 hP hD hS 18 rfl dX0_needAt_9 (ws2 := ([(cw, .inr (1, [.ref (o 0), .ref oaA, .ref osA, iv hsn, .ref hdA, .ref spA, .ref bfA, .ref lnA, .ref prA, iv ep, va_rf lt]))] : va_W) ++ (SW E o sc ar) ++ ([(la, loA (E.2 5) (vp_updL zf 0 ((iI (97 + m_need g (t - 97) q)).toInt64)))] : va_W)) rfl (fun H locs hP hD hS => ?_)
    have hP : va_P E.1 CL (([(cw, .inr (1, [.ref (o 0), .ref oaA, .ref osA, iv hsn, .ref hdA, .ref spA, .ref bfA, .ref lnA, .ref prA, iv ep, va_rf lt]))] : va_W) ++ (SW E o sc ar) ++ ([(la, loA (E.2 5) (vp_updL zf 0 ((iI (97 + m_need g (t - 97) q)).toInt64)))] : va_W)) H := hP
    have hD : va_D A (([(cw, .inr (1, [.ref (o 0), .ref oaA, .ref osA, iv hsn, .ref hdA, .ref spA, .ref bfA, .ref lnA, .ref prA, iv ep, va_rf lt]))] : va_W) ++ (SW E o sc ar) ++ ([(la, loA (E.2 5) (vp_updL zf 0 ((iI (97 + m_need g (t - 97) q)).toInt64)))] : va_W)) := hD
    refine lv_goto (tgt := 25) hx hb dX0_needAt_10 (by decide) ?_
    refine lv_iconst (v := iI 0) hx hb dX0_needAt_25 rfl ?_
    have hfin : 0 = c_need g t q := by
      first | exact hz9.symm | exact hk9.symm
    refine vx_ret ?_
    refine W.widen (k := 3) (n := 18) (Nat.le_of_ble_eq_true rfl) (Nat.le_of_ble_eq_true rfl) ?_
    exact W.iret (v := iI 0) hx hb hr (fun tt_ ht_ hW_ => ⟨⟨iI 0, .inl (u_4, (vp_updL zf 0 ((iI (97 + m_need g (t - 97) q)).toInt64))), rfl, ⟨(show (c_need g t q = 0) ∧ c_need g t q = 0 ∧ (u_4, (vp_updL zf 0 ((iI (97 + m_need g (t - 97) q)).toInt64))).2 0 = (iI (97 + m_need g (t - 97) q)).toInt64 from ⟨hu_4, hz9, rfl⟩), (congrArg iI hfin)⟩, by rw [ht_]; exact hP, hD⟩, hS.F ht_⟩) hS.2.2 dX0_needAt_26
set_option maxHeartbeats 2000000 in
set_option maxRecDepth 100000 in
theorem mt_X0_isLazyNeed (l : Launch) (E : EE) (cw : Nat) (oaA : Nat) (osA : Nat) (hsn : Int) (hdA : Nat) (spA : Nat) (bfA : Nat) (lnA : Nat) (prA : Nat) (ep : Int) (lt : Option Nat) (o : Nat → Nat) (sc : Nat → Int) (ar : Nat → Int → Int) (la : Nat) (zf : Nat → Int64) (t : Int) (q : Int) (g : Int → Int) (hst : l.stackTraces = false) (hsr : SR g sc ar) (ht : 0 ≤ t ∧ t < 65536) (hq : -2147483648 ≤ q ∧ q < 2147483648) (htw : TW g) (sz : Nat) : vx_Met l yX0_isLazyNeed (wsW_ yX0_isLazyNeed cX0_isLazyNeed 5 (some .int) [(0, 17, 20, 13), (0, 17, 24, 21), (0, 17, 28, 48)]) { frames := 11, cells := 3, slots := 18, locals := 200 } (va_Pc [.ref cw, iv t, iv q, .ref la] (UX E (([(cw, .inr (1, [.ref (o 0), .ref oaA, .ref osA, iv hsn, .ref hdA, .ref spA, .ref bfA, .ref lnA, .ref prA, iv ep, va_rf lt]))] : va_W) ++ (SW E o sc ar) ++ ([(la, loA (E.2 5) zf)] : va_W)) sz)) (UQx E (Sum.elim (fun u : (Unit) × (Nat → Int64) => (c_need g t q = 0) ∧ c_need g t q = 0 ∧ u.2 0 = lI (b2 (!(m_dir g (t - 97) q)))) (fun u : Unit => 0 < c_need g t q ∧ ∃ En : String, 0 < c_need g t q ∧ En = nmX "java/lang/IllegalArgumentException" "java/util/NoSuchElementException" "java/lang/IndexOutOfBoundsException" (c_need g t q))) (fun _ => c_need g t q) (Sum.elim (fun u : (Unit) × (Nat → Int64) => ([(cw, .inr (1, [.ref (o 0), .ref oaA, .ref osA, iv hsn, .ref hdA, .ref spA, .ref bfA, .ref lnA, .ref prA, iv ep, va_rf lt]))] : va_W) ++ (SW E o sc ar) ++ ([(la, loA (E.2 5) u.2)] : va_W)) (fun u : Unit => ([(cw, .inr (1, [.ref (o 0), .ref oaA, .ref osA, iv hsn, .ref hdA, .ref spA, .ref bfA, .ref lnA, .ref prA, iv ep, va_rf lt]))] : va_W) ++ (SW E o sc ar) ++ ([(la, loA (E.2 5) zf)] : va_W))) (va_A (([(cw, .inr (1, [.ref (o 0), .ref oaA, .ref osA, iv hsn, .ref hdA, .ref spA, .ref bfA, .ref lnA, .ref prA, iv ep, va_rf lt]))] : va_W) ++ (SW E o sc ar) ++ ([(la, loA (E.2 5) zf)] : va_W)) sz)) (UXx E (fun (_ : String) (_ : Unit) => False) (fun _ : Unit => []) (fun _ : Unit => none) (va_A (([(cw, .inr (1, [.ref (o 0), .ref oaA, .ref osA, iv hsn, .ref hdA, .ref spA, .ref bfA, .ref lnA, .ref prA, iv ep, va_rf lt]))] : va_W) ++ (SW E o sc ar) ++ ([(la, loA (E.2 5) zf)] : va_W)) sz)) 3 18 (va_A (([(cw, .inr (1, [.ref (o 0), .ref oaA, .ref osA, iv hsn, .ref hdA, .ref spA, .ref bfA, .ref lnA, .ref prA, iv ep, va_rf lt]))] : va_W) ++ (SW E o sc ar) ++ ([(la, loA (E.2 5) zf)] : va_W)) sz) := by
  refine vx_ofWH (hh := [(0, 17, 20, 13), (0, 17, 24, 21), (0, 17, 28, 48)]) (cc := cX0_isLazyNeed) (maxL := 5) (ret := (some .int)) (by decide) rfl ?_
  intro p e s m args below meth c s₁ B hml hv
  obtain ⟨rfl, hsz, hP, hK, hD0, hE⟩ := hv
  have hx := B.exec
  have hb := B.bytes
  have hr := B.returns
  have hts := atoms_spec (ws := (wsW_ yX0_isLazyNeed cX0_isLazyNeed 5 (some .int) [(0, 17, 20, 13), (0, 17, 24, 21), (0, 17, 28, 48)])) B.pre
  have htab : c.exceptionTable.toList = tableOf [(0, 17, 20, 13), (0, 17, 24, 21), (0, 17, 28, 48)] := vx_table (x := yX0_isLazyNeed) B (hts _ List.mem_cons_self)
  have hts : ∀ w ∈ lw_all, w.before _ s = true := fun w h => hts w (List.mem_cons_of_mem _ h)
  have hown : s.vm.findClass RX0 = some m.cls := findClass_of_methodNamed B.named
  have hlocks := B.notSynchronized
  subst hsz
  have hD := hD0.self (sz := s.heap.size)
  generalize hAe : va_A (([(cw, .inr (1, [.ref (o 0), .ref oaA, .ref osA, iv hsn, .ref hdA, .ref spA, .ref bfA, .ref lnA, .ref prA, iv ep, va_rf lt]))] : va_W) ++ (SW E o sc ar) ++ ([(la, loA (E.2 5) zf)] : va_W)) s.heap.size = A at hD hE ⊢
  have hA : ∀ q : Nat, s.heap.size ≤ q → A q := fun q h => by rw [← hAe]; exact Or.inr h
  have hS : va_S A s.heap s.heap [] := va_S.rf
  have hl := lv_entry ([.ref cw, iv t, iv q, .ref la]) (n := 5) (Nat.le_of_ble_eq_true rfl)
  rw [lg_entry_eq]
  generalize (lg_sl ([.ref cw, iv t, iv q, .ref la]) ++ List.replicate (5 - (lg_sl ([.ref cw, iv t, iv q, .ref la])).length) Slot.unset).toArray = ls at hl ⊢
  have hl : lv_has ls 5 [(0, .ref cw), (1, iv t), (2, iv q), (3, .ref la)] := hl
  refine lv_aload_n hx hb dX0_isLazyNeed_0 rfl (lv_at hl 3 rfl) ?_
  refine lv_iconst (v := iI 0) hx hb dX0_isLazyNeed_1 rfl ?_
  refine lv_aload_n hx hb dX0_isLazyNeed_2 rfl (lv_at hl 0 rfl) ?_
  refine lv_iload_n hx hb dX0_isLazyNeed_3 rfl (lv_at hl 1 rfl) ?_
  refine lv_iload_n hx hb dX0_isLazyNeed_4 rfl (lv_at hl 2 rfl) ?_
  have hg_1 : gpick [[(cw, .inr (1, [.ref (o 0), .ref oaA, .ref osA, iv hsn, .ref hdA, .ref spA, .ref bfA, .ref lnA, .ref prA, iv ep, va_rf lt]))], SW E o sc ar, [(la, loA (E.2 5) zf)]] ([[(cw, .inr (1, [.ref (o 0), .ref oaA, .ref osA, iv hsn, .ref hdA, .ref spA, .ref bfA, .ref lnA, .ref prA, iv ep, va_rf lt]))], SW E o sc ar] ++ [[(la, loA (E.2 5) zf)]]) [0, 1, 2] := ⟨rfl, (show List.Perm [0, 1, 2] (List.range 3) from by decide)⟩
  have hg_1P : va_P E.1 CL (([(cw, .inr (1, [.ref (o 0), .ref oaA, .ref osA, iv hsn, .ref hdA, .ref spA, .ref bfA, .ref lnA, .ref prA, iv ep, va_rf lt]))] : va_W) ++ (SW E o sc ar)) s.heap := (g_out hg_1 hP hD).1
  have hg_1D : va_D A (([(cw, .inr (1, [.ref (o 0), .ref oaA, .ref osA, iv hsn, .ref hdA, .ref spA, .ref bfA, .ref lnA, .ref prA, iv ep, va_rf lt]))] : va_W) ++ (SW E o sc ar)) := (g_out hg_1 hP hD).2
  have hg_1F : ∀ q, va_A (([(cw, .inr (1, [.ref (o 0), .ref oaA, .ref osA, iv hsn, .ref hdA, .ref spA, .ref bfA, .ref lnA, .ref prA, iv ep, va_rf lt]))] : va_W) ++ (SW E o sc ar)) s.heap.size q → A q := g_free hg_1 hP hD hS hA
  have hlt_2 := P_lts hP
  have hz_3 : s.heap.size ≤ s.heap.size := hS.1
  have hj_6 : ∀ u_4 : Unit, gpick ([[(cw, .inr (1, [.ref (o 0), .ref oaA, .ref osA, iv hsn, .ref hdA, .ref spA, .ref bfA, .ref lnA, .ref prA, iv ep, va_rf lt]))], SW E o sc ar] ++ [[(la, loA (E.2 5) zf)]]) [[(cw, .inr (1, [.ref (o 0), .ref oaA, .ref osA, iv hsn, .ref hdA, .ref spA, .ref bfA, .ref lnA, .ref prA, iv ep, va_rf lt]))], SW E o sc ar, [(la, loA (E.2 5) zf)]] [0, 1, 2] := fun u_4 => ⟨rfl, (show List.Perm [0, 1, 2] (List.range 3) from by decide)⟩
  have hj_7 : ∀ u_5 : Unit, gpick ([[(cw, .inr (1, [.ref (o 0), .ref oaA, .ref osA, iv hsn, .ref hdA, .ref spA, .ref bfA, .ref lnA, .ref prA, iv ep, va_rf lt]))], SW E o sc ar] ++ [[(la, loA (E.2 5) zf)]]) [[(cw, .inr (1, [.ref (o 0), .ref oaA, .ref osA, iv hsn, .ref hdA, .ref spA, .ref bfA, .ref lnA, .ref prA, iv ep, va_rf lt]))], SW E o sc ar, [(la, loA (E.2 5) zf)]] [0, 1, 2] := fun u_5 => ⟨rfl, (show List.Perm [0, 1, 2] (List.range 3) from by decide)⟩
  refine n_txB (x := fun u_4 => b2 (!(m_dir g (t - 97) q))) (w2 := fun u_4 : Unit => ([(cw, .inr (1, [.ref (o 0), .ref oaA, .ref osA, iv hsn, .ref hdA, .ref spA, .ref bfA, .ref lnA, .ref prA, iv ep, va_rf lt]))] : va_W) ++ (SW E o sc ar) ++ ([(la, loA (E.2 5) zf)] : va_W)) (w3 := fun u_5 : Unit => ([(cw, .inr (1, [.ref (o 0), .ref oaA, .ref osA, iv hsn, .ref hdA, .ref spA, .ref bfA, .ref lnA, .ref prA, iv ep, va_rf lt]))] : va_W) ++ (SW E o sc ar) ++ ([(la, loA (E.2 5) zf)] : va_W)) (vx_runV (As := [iv t, iv q]) (rest := [iv 0, .ref la]) ⟨hx, hb, hml, hown, hts⟩ (mt_X1_isLazyNeed l E cw oaA osA hsn hdA spA bfA lnA prA ep lt o sc ar t q g (by exact hst) (by assumption) (by omega) (by omega) (by assumption) _) (cwV 2 hts (lw_V q1132 q1133 q1134 q94 q1135) rfl rfl rfl (by decide +kernel) ⟨Nat.le_of_ble_eq_true rfl, Nat.le_of_ble_eq_true rfl⟩) (UX_V hg_1P hK (hg_1D) hE hS hg_1F (va_recv hK.1 hP (ci := 1) (q0 := 0) rfl rfl)) rfl rfl hl.1 rfl (lv_room (Nat.le_of_ble_eq_true rfl)) dX0_isLazyNeed_5 ⟨Nat.le_of_ble_eq_true rfl, Nat.le_of_ble_eq_true rfl⟩) hS hg_1F ?_ ?_ ?_ ?_
  · exact (fun u_4 _ hk9 hp9 hd9 => g_back hg_1 (hj_6 u_4) hP hD hg_1F hk9 hp9 hd9)
  · exact (fun u_5 _ hk9 hp9 hd9 => g_back hg_1 (hj_7 u_5) hP hD hg_1F hk9 hp9 hd9)
  · intro En ce q9 u_5 H locs hCx hP hD hS hxf hq9 hce hcv hcl
    have hCx : 0 < c_need g t q ∧ En = nmX "java/lang/IllegalArgumentException" "java/util/NoSuchElementException" "java/lang/IndexOutOfBoundsException" (c_need g t q) := hCx
    have hP : va_P E.1 CL (([(cw, .inr (1, [.ref (o 0), .ref oaA, .ref osA, iv hsn, .ref hdA, .ref spA, .ref bfA, .ref lnA, .ref prA, iv ep, va_rf lt]))] : va_W) ++ (SW E o sc ar) ++ ([(la, loA (E.2 5) zf)] : va_W)) H := hP
    have hD : va_D A (([(cw, .inr (1, [.ref (o 0), .ref oaA, .ref osA, iv hsn, .ref hdA, .ref spA, .ref bfA, .ref lnA, .ref prA, iv ep, va_rf lt]))] : va_W) ++ (SW E o sc ar) ++ ([(la, loA (E.2 5) zf)] : va_W)) := hD
    have hcx9 := hCx
    obtain ⟨hc0, hEn9⟩ := hCx
    have hcr9 : c_need g t q ≤ 3 := by have := c_need_r g t q; omega
    rcases (show c_need g t q = 1 ∨ c_need g t q = 2 ∨ c_need g t q = 3 by omega) with hk9 | hk9 | hk9
    · have hEn9 : En = "java/lang/IllegalArgumentException" := by rw [hEn9, hk9]; rfl
      subst hEn9
      refine vx_catch (own := "ClockworkTailorLaw") hown [] _ [_, _] htab (fun z hz => by cases hz) (by decide) (by decide) (name := "java/lang/IllegalArgumentException") (hts _ q867) (hK.nw q894) hce hcv hcl ?_
      refine lv_astore (lv' := [(4, .ref q9), (0, .ref cw), (1, iv t), (2, iv q), (3, .ref la)]) hx hb dX0_isLazyNeed_20 hl (by decide) rfl (fun ls hl => ?_)
      refine lv_iconst (v := iI 1) hx hb dX0_isLazyNeed_22 rfl ?_
      have hfin : 1 = c_need g t q := by
        first | exact hz9.symm | exact hk9.symm
      refine vx_ret ?_
      refine W.widen (k := 3) (n := 18) (Nat.le_of_ble_eq_true rfl) (Nat.le_of_ble_eq_true rfl) ?_
      exact W.iret (v := iI 1) hx hb hr (fun tt_ ht_ hW_ => ⟨⟨iI 1, .inr u_5, rfl, ⟨(show 0 < c_need g t q ∧ ∃ En : String, 0 < c_need g t q ∧ En = nmX "java/lang/IllegalArgumentException" "java/util/NoSuchElementException" "java/lang/IndexOutOfBoundsException" (c_need g t q) from ⟨(by omega), _, hcx9⟩), (congrArg iI hfin)⟩, by rw [ht_]; exact hP, hD⟩, hS.F ht_⟩) hS.2.2 dX0_isLazyNeed_23
    · have hEn9 : En = "java/util/NoSuchElementException" := by rw [hEn9, hk9]; rfl
      subst hEn9
      refine vx_catch (own := "ClockworkTailorLaw") hown [_] _ [_] htab (fun z hz => by
          simp only [List.mem_cons, List.not_mem_nil, or_false] at hz
          rcases hz with rfl
          · exact Or.inr ⟨by decide, "java/lang/IllegalArgumentException", hts _ q867, hK.kx.2.2.2.2.2 (_, _) (by decide)⟩
          ) (by decide) (by decide) (name := "java/util/NoSuchElementException") (hts _ q951) (hK.nw q976) hce hcv hcl ?_
      refine lv_astore (lv' := [(4, .ref q9), (0, .ref cw), (1, iv t), (2, iv q), (3, .ref la)]) hx hb dX0_isLazyNeed_24 hl (by decide) rfl (fun ls hl => ?_)
      refine lv_iconst (v := iI 2) hx hb dX0_isLazyNeed_26 rfl ?_
      have hfin : 2 = c_need g t q := by
        first | exact hz9.symm | exact hk9.symm
      refine vx_ret ?_
      refine W.widen (k := 3) (n := 18) (Nat.le_of_ble_eq_true rfl) (Nat.le_of_ble_eq_true rfl) ?_
      exact W.iret (v := iI 2) hx hb hr (fun tt_ ht_ hW_ => ⟨⟨iI 2, .inr u_5, rfl, ⟨(show 0 < c_need g t q ∧ ∃ En : String, 0 < c_need g t q ∧ En = nmX "java/lang/IllegalArgumentException" "java/util/NoSuchElementException" "java/lang/IndexOutOfBoundsException" (c_need g t q) from ⟨(by omega), _, hcx9⟩), (congrArg iI hfin)⟩, by rw [ht_]; exact hP, hD⟩, hS.F ht_⟩) hS.2.2 dX0_isLazyNeed_27
    · have hEn9 : En = "java/lang/IndexOutOfBoundsException" := by rw [hEn9, hk9]; rfl
      subst hEn9
      refine vx_catch (own := "ClockworkTailorLaw") hown [_, _] _ [] htab (fun z hz => by
          simp only [List.mem_cons, List.not_mem_nil, or_false] at hz
          rcases hz with rfl | rfl
          · exact Or.inr ⟨by decide, "java/lang/IllegalArgumentException", hts _ q867, hK.kx.2.2.2.2.2 (_, _) (by decide)⟩
          · exact Or.inr ⟨by decide, "java/util/NoSuchElementException", hts _ q951, hK.kx.2.2.2.2.2 (_, _) (by decide)⟩
          ) (by decide) (by decide) (name := "java/lang/IndexOutOfBoundsException") (hts _ q1075) (hK.nw q1112) hce hcv hcl ?_
      refine lv_astore (lv' := [(4, .ref q9), (0, .ref cw), (1, iv t), (2, iv q), (3, .ref la)]) hx hb dX0_isLazyNeed_28 hl (by decide) rfl (fun ls hl => ?_)
      refine lv_iconst (v := iI 3) hx hb dX0_isLazyNeed_30 rfl ?_
      have hfin : 3 = c_need g t q := by
        first | exact hz9.symm | exact hk9.symm
      refine vx_ret ?_
      refine W.widen (k := 3) (n := 18) (Nat.le_of_ble_eq_true rfl) (Nat.le_of_ble_eq_true rfl) ?_
      exact W.iret (v := iI 3) hx hb hr (fun tt_ ht_ hW_ => ⟨⟨iI 3, .inr u_5, rfl, ⟨(show 0 < c_need g t q ∧ ∃ En : String, 0 < c_need g t q ∧ En = nmX "java/lang/IllegalArgumentException" "java/util/NoSuchElementException" "java/lang/IndexOutOfBoundsException" (c_need g t q) from ⟨(by omega), _, hcx9⟩), (congrArg iI hfin)⟩, by rw [ht_]; exact hP, hD⟩, hS.F ht_⟩) hS.2.2 dX0_isLazyNeed_31
  · intro u_4 H locs hC hP hD hS
    have hu_4 : c_need g t q = 0 := hC
    have hP : va_P E.1 CL (([(cw, .inr (1, [.ref (o 0), .ref oaA, .ref osA, iv hsn, .ref hdA, .ref spA, .ref bfA, .ref lnA, .ref prA, iv ep, va_rf lt]))] : va_W) ++ (SW E o sc ar) ++ ([(la, loA (E.2 5) zf)] : va_W)) H := hP
    have hD : va_D A (([(cw, .inr (1, [.ref (o 0), .ref oaA, .ref osA, iv hsn, .ref hdA, .ref spA, .ref bfA, .ref lnA, .ref prA, iv ep, va_rf lt]))] : va_W) ++ (SW E o sc ar) ++ ([(la, loA (E.2 5) zf)] : va_W)) := hD
    have hz9 : c_need g t q = 0 := hu_4
    refine n_ifb_eq (tgt := 15) hx hb dX0_isLazyNeed_8 (by decide) (fun c_8 => ?_) (fun c_8 => ?_)
    · refine lv_lconst (v := lI 0) hx hb dX0_isLazyNeed_15 rfl ?_
      refine n_last1 hx hb hK.1 hP hD hS 18 rfl dX0_isLazyNeed_16 (ws2 := ([(cw, .inr (1, [.ref (o 0), .ref oaA, .ref osA, iv hsn, .ref hdA, .ref spA, .ref bfA, .ref lnA, .ref prA, iv ep, va_rf lt]))] : va_W) ++ (SW E o sc ar) ++ ([(la, loA (E.2 5) (vp_updL zf 0 (lI 0)))] : va_W)) rfl (fun H locs hP hD hS => ?_)
      have hP : va_P E.1 CL (([(cw, .inr (1, [.ref (o 0), .ref oaA, .ref osA, iv hsn, .ref hdA, .ref spA, .ref bfA, .ref lnA, .ref prA, iv ep, va_rf lt]))] : va_W) ++ (SW E o sc ar) ++ ([(la, loA (E.2 5) (vp_updL zf 0 (lI 0)))] : va_W)) H := hP
      have hD : va_D A (([(cw, .inr (1, [.ref (o 0), .ref oaA, .ref osA, iv hsn, .ref hdA, .ref spA, .ref bfA, .ref lnA, .ref prA, iv ep, va_rf lt]))] : va_W) ++ (SW E o sc ar) ++ ([(la, loA (E.2 5) (vp_updL zf 0 (lI 0)))] : va_W)) := hD
      refine lv_goto (tgt := 32) hx hb dX0_isLazyNeed_17 (by decide) ?_
      refine lv_iconst (v := iI 0) hx hb dX0_isLazyNeed_32 rfl ?_
      have hfin : 0 = c_need g t q := by
        first | exact hz9.symm | exact hk9.symm
      refine vx_ret ?_
      refine W.widen (k := 3) (n := 18) (Nat.le_of_ble_eq_true rfl) (Nat.le_of_ble_eq_true rfl) ?_
      exact W.iret (v := iI 0) hx hb hr (fun tt_ ht_ hW_ => ⟨⟨iI 0, .inl (u_4, (vp_updL zf 0 (lI 0))), rfl, ⟨(show (c_need g t q = 0) ∧ c_need g t q = 0 ∧ (u_4, (vp_updL zf 0 (lI 0))).2 0 = lI (b2 (!(m_dir g (t - 97) q))) from ⟨hu_4, hz9, (by show lI _ = lI _; rw [c_8]; rfl)⟩), (congrArg iI hfin)⟩, by rw [ht_]; exact hP, hD⟩, hS.F ht_⟩) hS.2.2 dX0_isLazyNeed_33
    · refine lv_lconst (v := lI 1) hx hb dX0_isLazyNeed_11 rfl ?_
      refine lv_goto (tgt := 16) hx hb dX0_isLazyNeed_12 (by decide) ?_
      refine n_last1 hx hb hK.1 hP hD hS 18 rfl dX0_isLazyNeed_16 (ws2 := ([(cw, .inr (1, [.ref (o 0), .ref oaA, .ref osA, iv hsn, .ref hdA, .ref spA, .ref bfA, .ref lnA, .ref prA, iv ep, va_rf lt]))] : va_W) ++ (SW E o sc ar) ++ ([(la, loA (E.2 5) (vp_updL zf 0 (lI 1)))] : va_W)) rfl (fun H locs hP hD hS => ?_)
      have hP : va_P E.1 CL (([(cw, .inr (1, [.ref (o 0), .ref oaA, .ref osA, iv hsn, .ref hdA, .ref spA, .ref bfA, .ref lnA, .ref prA, iv ep, va_rf lt]))] : va_W) ++ (SW E o sc ar) ++ ([(la, loA (E.2 5) (vp_updL zf 0 (lI 1)))] : va_W)) H := hP
      have hD : va_D A (([(cw, .inr (1, [.ref (o 0), .ref oaA, .ref osA, iv hsn, .ref hdA, .ref spA, .ref bfA, .ref lnA, .ref prA, iv ep, va_rf lt]))] : va_W) ++ (SW E o sc ar) ++ ([(la, loA (E.2 5) (vp_updL zf 0 (lI 1)))] : va_W)) := hD
      refine lv_goto (tgt := 32) hx hb dX0_isLazyNeed_17 (by decide) ?_
      refine lv_iconst (v := iI 0) hx hb dX0_isLazyNeed_32 rfl ?_
      have hfin : 0 = c_need g t q := by
        first | exact hz9.symm | exact hk9.symm
      refine vx_ret ?_
      refine W.widen (k := 3) (n := 18) (Nat.le_of_ble_eq_true rfl) (Nat.le_of_ble_eq_true rfl) ?_
      exact W.iret (v := iI 0) hx hb hr (fun tt_ ht_ hW_ => ⟨⟨iI 0, .inl (u_4, (vp_updL zf 0 (lI 1))), rfl, ⟨(show (c_need g t q = 0) ∧ c_need g t q = 0 ∧ (u_4, (vp_updL zf 0 (lI 1))).2 0 = lI (b2 (!(m_dir g (t - 97) q))) from ⟨hu_4, hz9, (by show lI _ = lI _; rw [c_8]; rfl)⟩), (congrArg iI hfin)⟩, by rw [ht_]; exact hP, hD⟩, hS.F ht_⟩) hS.2.2 dX0_isLazyNeed_33
set_option maxHeartbeats 2000000 in
set_option maxRecDepth 100000 in
theorem mt_X0_standInFor (l : Launch) (E : EE) (cw : Nat) (oaA : Nat) (osA : Nat) (hsn : Int) (hdA : Nat) (spA : Nat) (bfA : Nat) (lnA : Nat) (prA : Nat) (ep : Int) (lt : Option Nat) (o : Nat → Nat) (sc : Nat → Int) (ar : Nat → Int → Int) (la : Nat) (zf : Nat → Int64) (t : Int) (g : Int → Int) (hst : l.stackTraces = false) (hsr : SR g sc ar) (ht : 0 ≤ t ∧ t < 65536) (hsw : SwOK g) (sz : Nat) : vx_Met l yX0_standInFor (wsW_ yX0_standInFor cX0_standInFor 4 (some .int) [(0, 9, 12, 13)]) { frames := 9, cells := 1, slots := 6, locals := 153 } (va_Pc [.ref cw, iv t, .ref la] (UX E (([(cw, .inr (1, [.ref (o 0), .ref oaA, .ref osA, iv hsn, .ref hdA, .ref spA, .ref bfA, .ref lnA, .ref prA, iv ep, va_rf lt]))] : va_W) ++ (SW E o sc ar) ++ ([(la, loA (E.2 5) zf)] : va_W)) sz)) (UQx E (Sum.elim (fun u : (Unit) × (Nat → Int64) => (c_tool t = 0) ∧ c_tool t = 0 ∧ u.2 0 = (iI (97 + m_stands g (t - 97))).toInt64) (fun u : Unit => 0 < c_tool t ∧ ∃ En : String, 0 < c_tool t ∧ En = nmX "java/lang/IllegalArgumentException" "" "" (c_tool t))) (fun _ => c_tool t) (Sum.elim (fun u : (Unit) × (Nat → Int64) => ([(cw, .inr (1, [.ref (o 0), .ref oaA, .ref osA, iv hsn, .ref hdA, .ref spA, .ref bfA, .ref lnA, .ref prA, iv ep, va_rf lt]))] : va_W) ++ (SW E o sc ar) ++ ([(la, loA (E.2 5) u.2)] : va_W)) (fun u : Unit => ([(cw, .inr (1, [.ref (o 0), .ref oaA, .ref osA, iv hsn, .ref hdA, .ref spA, .ref bfA, .ref lnA, .ref prA, iv ep, va_rf lt]))] : va_W) ++ (SW E o sc ar) ++ ([(la, loA (E.2 5) zf)] : va_W))) (va_A (([(cw, .inr (1, [.ref (o 0), .ref oaA, .ref osA, iv hsn, .ref hdA, .ref spA, .ref bfA, .ref lnA, .ref prA, iv ep, va_rf lt]))] : va_W) ++ (SW E o sc ar) ++ ([(la, loA (E.2 5) zf)] : va_W)) sz)) (UXx E (fun (_ : String) (_ : Unit) => False) (fun _ : Unit => []) (fun _ : Unit => none) (va_A (([(cw, .inr (1, [.ref (o 0), .ref oaA, .ref osA, iv hsn, .ref hdA, .ref spA, .ref bfA, .ref lnA, .ref prA, iv ep, va_rf lt]))] : va_W) ++ (SW E o sc ar) ++ ([(la, loA (E.2 5) zf)] : va_W)) sz)) 1 6 (va_A (([(cw, .inr (1, [.ref (o 0), .ref oaA, .ref osA, iv hsn, .ref hdA, .ref spA, .ref bfA, .ref lnA, .ref prA, iv ep, va_rf lt]))] : va_W) ++ (SW E o sc ar) ++ ([(la, loA (E.2 5) zf)] : va_W)) sz) := by
  refine vx_ofWH (hh := [(0, 9, 12, 13)]) (cc := cX0_standInFor) (maxL := 4) (ret := (some .int)) (by decide) rfl ?_
  intro p e s m args below meth c s₁ B hml hv
  obtain ⟨rfl, hsz, hP, hK, hD0, hE⟩ := hv
  have hx := B.exec
  have hb := B.bytes
  have hr := B.returns
  have hts := atoms_spec (ws := (wsW_ yX0_standInFor cX0_standInFor 4 (some .int) [(0, 9, 12, 13)])) B.pre
  have htab : c.exceptionTable.toList = tableOf [(0, 9, 12, 13)] := vx_table (x := yX0_standInFor) B (hts _ List.mem_cons_self)
  have hts : ∀ w ∈ lw_all, w.before _ s = true := fun w h => hts w (List.mem_cons_of_mem _ h)
  have hown : s.vm.findClass RX0 = some m.cls := findClass_of_methodNamed B.named
  have hlocks := B.notSynchronized
  subst hsz
  have hD := hD0.self (sz := s.heap.size)
  generalize hAe : va_A (([(cw, .inr (1, [.ref (o 0), .ref oaA, .ref osA, iv hsn, .ref hdA, .ref spA, .ref bfA, .ref lnA, .ref prA, iv ep, va_rf lt]))] : va_W) ++ (SW E o sc ar) ++ ([(la, loA (E.2 5) zf)] : va_W)) s.heap.size = A at hD hE ⊢
  have hA : ∀ q : Nat, s.heap.size ≤ q → A q := fun q h => by rw [← hAe]; exact Or.inr h
  have hS : va_S A s.heap s.heap [] := va_S.rf
  have hl := lv_entry ([.ref cw, iv t, .ref la]) (n := 4) (Nat.le_of_ble_eq_true rfl)
  rw [lg_entry_eq]
  generalize (lg_sl ([.ref cw, iv t, .ref la]) ++ List.replicate (4 - (lg_sl ([.ref cw, iv t, .ref la])).length) Slot.unset).toArray = ls at hl ⊢
  have hl : lv_has ls 4 [(0, .ref cw), (1, iv t), (2, .ref la)] := hl
  refine lv_aload_n hx hb dX0_standInFor_0 rfl (lv_at hl 2 rfl) ?_
  refine lv_iconst (v := iI 0) hx hb dX0_standInFor_1 rfl ?_
  refine lv_aload_n hx hb dX0_standInFor_2 rfl (lv_at hl 0 rfl) ?_
  refine lv_iload_n hx hb dX0_standInFor_3 rfl (lv_at hl 1 rfl) ?_
  have hg_1 : gpick [[(cw, .inr (1, [.ref (o 0), .ref oaA, .ref osA, iv hsn, .ref hdA, .ref spA, .ref bfA, .ref lnA, .ref prA, iv ep, va_rf lt]))], SW E o sc ar, [(la, loA (E.2 5) zf)]] ([[(cw, .inr (1, [.ref (o 0), .ref oaA, .ref osA, iv hsn, .ref hdA, .ref spA, .ref bfA, .ref lnA, .ref prA, iv ep, va_rf lt]))], SW E o sc ar] ++ [[(la, loA (E.2 5) zf)]]) [0, 1, 2] := ⟨rfl, (show List.Perm [0, 1, 2] (List.range 3) from by decide)⟩
  have hg_1P : va_P E.1 CL (([(cw, .inr (1, [.ref (o 0), .ref oaA, .ref osA, iv hsn, .ref hdA, .ref spA, .ref bfA, .ref lnA, .ref prA, iv ep, va_rf lt]))] : va_W) ++ (SW E o sc ar)) s.heap := (g_out hg_1 hP hD).1
  have hg_1D : va_D A (([(cw, .inr (1, [.ref (o 0), .ref oaA, .ref osA, iv hsn, .ref hdA, .ref spA, .ref bfA, .ref lnA, .ref prA, iv ep, va_rf lt]))] : va_W) ++ (SW E o sc ar)) := (g_out hg_1 hP hD).2
  have hg_1F : ∀ q, va_A (([(cw, .inr (1, [.ref (o 0), .ref oaA, .ref osA, iv hsn, .ref hdA, .ref spA, .ref bfA, .ref lnA, .ref prA, iv ep, va_rf lt]))] : va_W) ++ (SW E o sc ar)) s.heap.size q → A q := g_free hg_1 hP hD hS hA
  have hlt_2 := P_lts hP
  have hz_3 : s.heap.size ≤ s.heap.size := hS.1
  have hj_6 : ∀ u_4 : Unit, gpick ([[(cw, .inr (1, [.ref (o 0), .ref oaA, .ref osA, iv hsn, .ref hdA, .ref spA, .ref bfA, .ref lnA, .ref prA, iv ep, va_rf lt]))], SW E o sc ar] ++ [[(la, loA (E.2 5) zf)]]) [[(cw, .inr (1, [.ref (o 0), .ref oaA, .ref osA, iv hsn, .ref hdA, .ref spA, .ref bfA, .ref lnA, .ref prA, iv ep, va_rf lt]))], SW E o sc ar, [(la, loA (E.2 5) zf)]] [0, 1, 2] := fun u_4 => ⟨rfl, (show List.Perm [0, 1, 2] (List.range 3) from by decide)⟩
  have hj_7 : ∀ u_5 : Unit, gpick ([[(cw, .inr (1, [.ref (o 0), .ref oaA, .ref osA, iv hsn, .ref hdA, .ref spA, .ref bfA, .ref lnA, .ref prA, iv ep, va_rf lt]))], SW E o sc ar] ++ [[(la, loA (E.2 5) zf)]]) [[(cw, .inr (1, [.ref (o 0), .ref oaA, .ref osA, iv hsn, .ref hdA, .ref spA, .ref bfA, .ref lnA, .ref prA, iv ep, va_rf lt]))], SW E o sc ar, [(la, loA (E.2 5) zf)]] [0, 1, 2] := fun u_5 => ⟨rfl, (show List.Perm [0, 1, 2] (List.range 3) from by decide)⟩
  refine n_txB (x := fun u_4 => 97 + m_stands g (t - 97)) (w2 := fun u_4 : Unit => ([(cw, .inr (1, [.ref (o 0), .ref oaA, .ref osA, iv hsn, .ref hdA, .ref spA, .ref bfA, .ref lnA, .ref prA, iv ep, va_rf lt]))] : va_W) ++ (SW E o sc ar) ++ ([(la, loA (E.2 5) zf)] : va_W)) (w3 := fun u_5 : Unit => ([(cw, .inr (1, [.ref (o 0), .ref oaA, .ref osA, iv hsn, .ref hdA, .ref spA, .ref bfA, .ref lnA, .ref prA, iv ep, va_rf lt]))] : va_W) ++ (SW E o sc ar) ++ ([(la, loA (E.2 5) zf)] : va_W)) (vx_runV (As := [iv t]) (rest := [iv 0, .ref la]) ⟨hx, hb, hml, hown, hts⟩ (mt_X1_standInFor l E cw oaA osA hsn hdA spA bfA lnA prA ep lt o sc ar t g (by exact hst) (by assumption) (by omega) (by assumption) _) (cwV 1 hts (lw_V q1175 q1176 q1177 q94 q1178) rfl rfl rfl (by decide +kernel) ⟨Nat.le_of_ble_eq_true rfl, Nat.le_of_ble_eq_true rfl⟩) (UX_V hg_1P hK (hg_1D) hE hS hg_1F (va_recv hK.1 hP (ci := 1) (q0 := 0) rfl rfl)) rfl rfl hl.1 rfl (lv_room (Nat.le_of_ble_eq_true rfl)) dX0_standInFor_4 ⟨Nat.le_of_ble_eq_true rfl, Nat.le_of_ble_eq_true rfl⟩) hS hg_1F ?_ ?_ ?_ ?_
  · exact (fun u_4 _ hk9 hp9 hd9 => g_back hg_1 (hj_6 u_4) hP hD hg_1F hk9 hp9 hd9)
  · exact (fun u_5 _ hk9 hp9 hd9 => g_back hg_1 (hj_7 u_5) hP hD hg_1F hk9 hp9 hd9)
  · intro En ce q9 u_5 H locs hCx hP hD hS hxf hq9 hce hcv hcl
    have hCx : 0 < c_tool t ∧ En = nmX "java/lang/IllegalArgumentException" "" "" (c_tool t) := hCx
    have hP : va_P E.1 CL (([(cw, .inr (1, [.ref (o 0), .ref oaA, .ref osA, iv hsn, .ref hdA, .ref spA, .ref bfA, .ref lnA, .ref prA, iv ep, va_rf lt]))] : va_W) ++ (SW E o sc ar) ++ ([(la, loA (E.2 5) zf)] : va_W)) H := hP
    have hD : va_D A (([(cw, .inr (1, [.ref (o 0), .ref oaA, .ref osA, iv hsn, .ref hdA, .ref spA, .ref bfA, .ref lnA, .ref prA, iv ep, va_rf lt]))] : va_W) ++ (SW E o sc ar) ++ ([(la, loA (E.2 5) zf)] : va_W)) := hD
    have hcx9 := hCx
    obtain ⟨hc0, hEn9⟩ := hCx
    have hcr9 : c_tool t ≤ 1 := by have := c_tool_r t; omega
    have hk9 : c_tool t = 1 := by omega
    have hEn9 : En = "java/lang/IllegalArgumentException" := by rw [hEn9, hk9]; rfl
    subst hEn9
    refine vx_catch (own := "ClockworkTailorLaw") hown [] _ [] htab (fun z hz => by cases hz) (by decide) (by decide) (name := "java/lang/IllegalArgumentException") (hts _ q867) (hK.nw q894) hce hcv hcl ?_
    refine lv_astore_n (lv' := [(3, .ref q9), (0, .ref cw), (1, iv t), (2, .ref la)]) hx hb dX0_standInFor_12 rfl hl (by decide) rfl (fun ls hl => ?_)
    refine lv_iconst (v := iI 1) hx hb dX0_standInFor_13 rfl ?_
    have hfin : 1 = c_tool t := by
      first | exact hz9.symm | exact hk9.symm
    refine vx_ret ?_
    refine W.widen (k := 1) (n := 6) (Nat.le_of_ble_eq_true rfl) (Nat.le_of_ble_eq_true rfl) ?_
    exact W.iret (v := iI 1) hx hb hr (fun tt_ ht_ hW_ => ⟨⟨iI 1, .inr u_5, rfl, ⟨(show 0 < c_tool t ∧ ∃ En : String, 0 < c_tool t ∧ En = nmX "java/lang/IllegalArgumentException" "" "" (c_tool t) from ⟨(by omega), _, hcx9⟩), (congrArg iI hfin)⟩, by rw [ht_]; exact hP, hD⟩, hS.F ht_⟩) hS.2.2 dX0_standInFor_14
  · intro u_4 H locs hC hP hD hS
    have hu_4 : c_tool t = 0 := hC
    have hP : va_P E.1 CL (([(cw, .inr (1, [.ref (o 0), .ref oaA, .ref osA, iv hsn, .ref hdA, .ref spA, .ref bfA, .ref lnA, .ref prA, iv ep, va_rf lt]))] : va_W) ++ (SW E o sc ar) ++ ([(la, loA (E.2 5) zf)] : va_W)) H := hP
    have hD : va_D A (([(cw, .inr (1, [.ref (o 0), .ref oaA, .ref osA, iv hsn, .ref hdA, .ref spA, .ref bfA, .ref lnA, .ref prA, iv ep, va_rf lt]))] : va_W) ++ (SW E o sc ar) ++ ([(la, loA (E.2 5) zf)] : va_W)) := hD
    have hz9 : c_tool t = 0 := hu_4
    refine lv_i2l (v := (iI (97 + m_stands g (t - 97))).toInt64) hx hb dX0_standInFor_7 rfl ?_
    refine n_last1 hx hb hK.1 hP hD hS 18 rfl dX0_standInFor_8 (ws2 := ([(cw, .inr (1, [.ref (o 0), .ref oaA, .ref osA, iv hsn, .ref hdA, .ref spA, .ref bfA, .ref lnA, .ref prA, iv ep, va_rf lt]))] : va_W) ++ (SW E o sc ar) ++ ([(la, loA (E.2 5) (vp_updL zf 0 ((iI (97 + m_stands g (t - 97))).toInt64)))] : va_W)) rfl (fun H locs hP hD hS => ?_)
    have hP : va_P E.1 CL (([(cw, .inr (1, [.ref (o 0), .ref oaA, .ref osA, iv hsn, .ref hdA, .ref spA, .ref bfA, .ref lnA, .ref prA, iv ep, va_rf lt]))] : va_W) ++ (SW E o sc ar) ++ ([(la, loA (E.2 5) (vp_updL zf 0 ((iI (97 + m_stands g (t - 97))).toInt64)))] : va_W)) H := hP
    have hD : va_D A (([(cw, .inr (1, [.ref (o 0), .ref oaA, .ref osA, iv hsn, .ref hdA, .ref spA, .ref bfA, .ref lnA, .ref prA, iv ep, va_rf lt]))] : va_W) ++ (SW E o sc ar) ++ ([(la, loA (E.2 5) (vp_updL zf 0 ((iI (97 + m_stands g (t - 97))).toInt64)))] : va_W)) := hD
    refine lv_goto (tgt := 15) hx hb dX0_standInFor_9 (by decide) ?_
    refine lv_iconst (v := iI 0) hx hb dX0_standInFor_15 rfl ?_
    have hfin : 0 = c_tool t := by
      first | exact hz9.symm | exact hk9.symm
    refine vx_ret ?_
    refine W.widen (k := 1) (n := 6) (Nat.le_of_ble_eq_true rfl) (Nat.le_of_ble_eq_true rfl) ?_
    exact W.iret (v := iI 0) hx hb hr (fun tt_ ht_ hW_ => ⟨⟨iI 0, .inl (u_4, (vp_updL zf 0 ((iI (97 + m_stands g (t - 97))).toInt64))), rfl, ⟨(show (c_tool t = 0) ∧ c_tool t = 0 ∧ (u_4, (vp_updL zf 0 ((iI (97 + m_stands g (t - 97))).toInt64))).2 0 = (iI (97 + m_stands g (t - 97))).toInt64 from ⟨hu_4, hz9, rfl⟩), (congrArg iI hfin)⟩, by rw [ht_]; exact hP, hD⟩, hS.F ht_⟩) hS.2.2 dX0_standInFor_16
set_option maxHeartbeats 2000000 in
set_option maxRecDepth 100000 in
theorem mt_X0_leadsToCount (l : Launch) (E : EE) (cw : Nat) (oaA : Nat) (osA : Nat) (hsn : Int) (hdA : Nat) (spA : Nat) (bfA : Nat) (lnA : Nat) (prA : Nat) (ep : Int) (lt : Option Nat) (o : Nat → Nat) (sc : Nat → Int) (ar : Nat → Int → Int) (la : Nat) (zf : Nat → Int64) (t : Int) (g : Int → Int) (hst : l.stackTraces = false) (hsr : SR g sc ar) (ht : 0 ≤ t ∧ t < 65536) (hhn : HN g) (htw : TW g) (hsw : SwOK g) (sz : Nat) : vx_Met l yX0_leadsToCount (wsW_ yX0_leadsToCount cX0_leadsToCount 4 (some .int) [(0, 9, 12, 13)]) { frames := 9, cells := 6, slots := 43, locals := 3140 } (va_Pc [.ref cw, iv t, .ref la] (UX E (([(cw, .inr (1, [.ref (o 0), .ref oaA, .ref osA, iv hsn, .ref hdA, .ref spA, .ref bfA, .ref lnA, .ref prA, iv ep, va_rf lt]))] : va_W) ++ (SW E o sc ar) ++ ([(la, loA (E.2 5) zf)] : va_W)) sz)) (UQx E (Sum.elim (fun u : (Unit) × (Nat → Int64) => (c_tool t = 0) ∧ c_tool t = 0 ∧ u.2 0 = (iI (sumI (fun k => b2 (m_reach g true (t - 97) k)) 8)).toInt64) (fun u : Unit => 0 < c_tool t ∧ ∃ En : String, 0 < c_tool t ∧ En = nmX "java/lang/IllegalArgumentException" "" "" (c_tool t))) (fun _ => c_tool t) (Sum.elim (fun u : (Unit) × (Nat → Int64) => ([(cw, .inr (1, [.ref (o 0), .ref oaA, .ref osA, iv hsn, .ref hdA, .ref spA, .ref bfA, .ref lnA, .ref prA, iv ep, va_rf lt]))] : va_W) ++ (SW E o sc ar) ++ ([(la, loA (E.2 5) u.2)] : va_W)) (fun u : Unit => ([(cw, .inr (1, [.ref (o 0), .ref oaA, .ref osA, iv hsn, .ref hdA, .ref spA, .ref bfA, .ref lnA, .ref prA, iv ep, va_rf lt]))] : va_W) ++ (SW E o sc ar) ++ ([(la, loA (E.2 5) zf)] : va_W))) (va_A (([(cw, .inr (1, [.ref (o 0), .ref oaA, .ref osA, iv hsn, .ref hdA, .ref spA, .ref bfA, .ref lnA, .ref prA, iv ep, va_rf lt]))] : va_W) ++ (SW E o sc ar) ++ ([(la, loA (E.2 5) zf)] : va_W)) sz)) (UXx E (fun (_ : String) (_ : Unit) => False) (fun _ : Unit => []) (fun _ : Unit => none) (va_A (([(cw, .inr (1, [.ref (o 0), .ref oaA, .ref osA, iv hsn, .ref hdA, .ref spA, .ref bfA, .ref lnA, .ref prA, iv ep, va_rf lt]))] : va_W) ++ (SW E o sc ar) ++ ([(la, loA (E.2 5) zf)] : va_W)) sz)) 6 43 (va_A (([(cw, .inr (1, [.ref (o 0), .ref oaA, .ref osA, iv hsn, .ref hdA, .ref spA, .ref bfA, .ref lnA, .ref prA, iv ep, va_rf lt]))] : va_W) ++ (SW E o sc ar) ++ ([(la, loA (E.2 5) zf)] : va_W)) sz) := by
  refine vx_ofWH (hh := [(0, 9, 12, 13)]) (cc := cX0_leadsToCount) (maxL := 4) (ret := (some .int)) (by decide) rfl ?_
  intro p e s m args below meth c s₁ B hml hv
  obtain ⟨rfl, hsz, hP, hK, hD0, hE⟩ := hv
  have hx := B.exec
  have hb := B.bytes
  have hr := B.returns
  have hts := atoms_spec (ws := (wsW_ yX0_leadsToCount cX0_leadsToCount 4 (some .int) [(0, 9, 12, 13)])) B.pre
  have htab : c.exceptionTable.toList = tableOf [(0, 9, 12, 13)] := vx_table (x := yX0_leadsToCount) B (hts _ List.mem_cons_self)
  have hts : ∀ w ∈ lw_all, w.before _ s = true := fun w h => hts w (List.mem_cons_of_mem _ h)
  have hown : s.vm.findClass RX0 = some m.cls := findClass_of_methodNamed B.named
  have hlocks := B.notSynchronized
  subst hsz
  have hD := hD0.self (sz := s.heap.size)
  generalize hAe : va_A (([(cw, .inr (1, [.ref (o 0), .ref oaA, .ref osA, iv hsn, .ref hdA, .ref spA, .ref bfA, .ref lnA, .ref prA, iv ep, va_rf lt]))] : va_W) ++ (SW E o sc ar) ++ ([(la, loA (E.2 5) zf)] : va_W)) s.heap.size = A at hD hE ⊢
  have hA : ∀ q : Nat, s.heap.size ≤ q → A q := fun q h => by rw [← hAe]; exact Or.inr h
  have hS : va_S A s.heap s.heap [] := va_S.rf
  have hl := lv_entry ([.ref cw, iv t, .ref la]) (n := 4) (Nat.le_of_ble_eq_true rfl)
  rw [lg_entry_eq]
  generalize (lg_sl ([.ref cw, iv t, .ref la]) ++ List.replicate (4 - (lg_sl ([.ref cw, iv t, .ref la])).length) Slot.unset).toArray = ls at hl ⊢
  have hl : lv_has ls 4 [(0, .ref cw), (1, iv t), (2, .ref la)] := hl
  refine lv_aload_n hx hb dX0_leadsToCount_0 rfl (lv_at hl 2 rfl) ?_
  refine lv_iconst (v := iI 0) hx hb dX0_leadsToCount_1 rfl ?_
  refine lv_aload_n hx hb dX0_leadsToCount_2 rfl (lv_at hl 0 rfl) ?_
  refine lv_iload_n hx hb dX0_leadsToCount_3 rfl (lv_at hl 1 rfl) ?_
  have hg_1 : gpick [[(cw, .inr (1, [.ref (o 0), .ref oaA, .ref osA, iv hsn, .ref hdA, .ref spA, .ref bfA, .ref lnA, .ref prA, iv ep, va_rf lt]))], SW E o sc ar, [(la, loA (E.2 5) zf)]] ([[(cw, .inr (1, [.ref (o 0), .ref oaA, .ref osA, iv hsn, .ref hdA, .ref spA, .ref bfA, .ref lnA, .ref prA, iv ep, va_rf lt]))], SW E o sc ar] ++ [[(la, loA (E.2 5) zf)]]) [0, 1, 2] := ⟨rfl, (show List.Perm [0, 1, 2] (List.range 3) from by decide)⟩
  have hg_1P : va_P E.1 CL (([(cw, .inr (1, [.ref (o 0), .ref oaA, .ref osA, iv hsn, .ref hdA, .ref spA, .ref bfA, .ref lnA, .ref prA, iv ep, va_rf lt]))] : va_W) ++ (SW E o sc ar)) s.heap := (g_out hg_1 hP hD).1
  have hg_1D : va_D A (([(cw, .inr (1, [.ref (o 0), .ref oaA, .ref osA, iv hsn, .ref hdA, .ref spA, .ref bfA, .ref lnA, .ref prA, iv ep, va_rf lt]))] : va_W) ++ (SW E o sc ar)) := (g_out hg_1 hP hD).2
  have hg_1F : ∀ q, va_A (([(cw, .inr (1, [.ref (o 0), .ref oaA, .ref osA, iv hsn, .ref hdA, .ref spA, .ref bfA, .ref lnA, .ref prA, iv ep, va_rf lt]))] : va_W) ++ (SW E o sc ar)) s.heap.size q → A q := g_free hg_1 hP hD hS hA
  have hlt_2 := P_lts hP
  have hz_3 : s.heap.size ≤ s.heap.size := hS.1
  have hj_6 : ∀ u_4 : Unit, gpick ([[(cw, .inr (1, [.ref (o 0), .ref oaA, .ref osA, iv hsn, .ref hdA, .ref spA, .ref bfA, .ref lnA, .ref prA, iv ep, va_rf lt]))], SW E o sc ar] ++ [[(la, loA (E.2 5) zf)]]) [[(cw, .inr (1, [.ref (o 0), .ref oaA, .ref osA, iv hsn, .ref hdA, .ref spA, .ref bfA, .ref lnA, .ref prA, iv ep, va_rf lt]))], SW E o sc ar, [(la, loA (E.2 5) zf)]] [0, 1, 2] := fun u_4 => ⟨rfl, (show List.Perm [0, 1, 2] (List.range 3) from by decide)⟩
  have hj_7 : ∀ u_5 : Unit, gpick ([[(cw, .inr (1, [.ref (o 0), .ref oaA, .ref osA, iv hsn, .ref hdA, .ref spA, .ref bfA, .ref lnA, .ref prA, iv ep, va_rf lt]))], SW E o sc ar] ++ [[(la, loA (E.2 5) zf)]]) [[(cw, .inr (1, [.ref (o 0), .ref oaA, .ref osA, iv hsn, .ref hdA, .ref spA, .ref bfA, .ref lnA, .ref prA, iv ep, va_rf lt]))], SW E o sc ar, [(la, loA (E.2 5) zf)]] [0, 1, 2] := fun u_5 => ⟨rfl, (show List.Perm [0, 1, 2] (List.range 3) from by decide)⟩
  refine n_txB (x := fun u_4 => sumI (fun k => b2 (m_reach g true (t - 97) k)) 8) (w2 := fun u_4 : Unit => ([(cw, .inr (1, [.ref (o 0), .ref oaA, .ref osA, iv hsn, .ref hdA, .ref spA, .ref bfA, .ref lnA, .ref prA, iv ep, va_rf lt]))] : va_W) ++ (SW E o sc ar) ++ ([(la, loA (E.2 5) zf)] : va_W)) (w3 := fun u_5 : Unit => ([(cw, .inr (1, [.ref (o 0), .ref oaA, .ref osA, iv hsn, .ref hdA, .ref spA, .ref bfA, .ref lnA, .ref prA, iv ep, va_rf lt]))] : va_W) ++ (SW E o sc ar) ++ ([(la, loA (E.2 5) zf)] : va_W)) (vx_runV (As := [iv t]) (rest := [iv 0, .ref la]) ⟨hx, hb, hml, hown, hts⟩ (mt_X1_leadsToCount l E cw oaA osA hsn hdA spA bfA lnA prA ep lt o sc ar t g (by exact hst) (by assumption) (by omega) (by assumption) (by assumption) (by assumption) _) (cwV 1 hts (lw_V q1183 q1184 q1185 q94 q1186) rfl rfl rfl (by decide +kernel) ⟨Nat.le_of_ble_eq_true rfl, Nat.le_of_ble_eq_true rfl⟩) (UX_V hg_1P hK (hg_1D) hE hS hg_1F (va_recv hK.1 hP (ci := 1) (q0 := 0) rfl rfl)) rfl rfl hl.1 rfl (lv_room (Nat.le_of_ble_eq_true rfl)) dX0_leadsToCount_4 ⟨Nat.le_of_ble_eq_true rfl, Nat.le_of_ble_eq_true rfl⟩) hS hg_1F ?_ ?_ ?_ ?_
  · exact (fun u_4 _ hk9 hp9 hd9 => g_back hg_1 (hj_6 u_4) hP hD hg_1F hk9 hp9 hd9)
  · exact (fun u_5 _ hk9 hp9 hd9 => g_back hg_1 (hj_7 u_5) hP hD hg_1F hk9 hp9 hd9)
  · intro En ce q9 u_5 H locs hCx hP hD hS hxf hq9 hce hcv hcl
    have hCx : 0 < c_tool t ∧ En = nmX "java/lang/IllegalArgumentException" "" "" (c_tool t) := hCx
    have hP : va_P E.1 CL (([(cw, .inr (1, [.ref (o 0), .ref oaA, .ref osA, iv hsn, .ref hdA, .ref spA, .ref bfA, .ref lnA, .ref prA, iv ep, va_rf lt]))] : va_W) ++ (SW E o sc ar) ++ ([(la, loA (E.2 5) zf)] : va_W)) H := hP
    have hD : va_D A (([(cw, .inr (1, [.ref (o 0), .ref oaA, .ref osA, iv hsn, .ref hdA, .ref spA, .ref bfA, .ref lnA, .ref prA, iv ep, va_rf lt]))] : va_W) ++ (SW E o sc ar) ++ ([(la, loA (E.2 5) zf)] : va_W)) := hD
    have hcx9 := hCx
    obtain ⟨hc0, hEn9⟩ := hCx
    have hcr9 : c_tool t ≤ 1 := by have := c_tool_r t; omega
    have hk9 : c_tool t = 1 := by omega
    have hEn9 : En = "java/lang/IllegalArgumentException" := by rw [hEn9, hk9]; rfl
    subst hEn9
    refine vx_catch (own := "ClockworkTailorLaw") hown [] _ [] htab (fun z hz => by cases hz) (by decide) (by decide) (name := "java/lang/IllegalArgumentException") (hts _ q867) (hK.nw q894) hce hcv hcl ?_
    refine lv_astore_n (lv' := [(3, .ref q9), (0, .ref cw), (1, iv t), (2, .ref la)]) hx hb dX0_leadsToCount_12 rfl hl (by decide) rfl (fun ls hl => ?_)
    refine lv_iconst (v := iI 1) hx hb dX0_leadsToCount_13 rfl ?_
    have hfin : 1 = c_tool t := by
      first | exact hz9.symm | exact hk9.symm
    refine vx_ret ?_
    refine W.widen (k := 6) (n := 43) (Nat.le_of_ble_eq_true rfl) (Nat.le_of_ble_eq_true rfl) ?_
    exact W.iret (v := iI 1) hx hb hr (fun tt_ ht_ hW_ => ⟨⟨iI 1, .inr u_5, rfl, ⟨(show 0 < c_tool t ∧ ∃ En : String, 0 < c_tool t ∧ En = nmX "java/lang/IllegalArgumentException" "" "" (c_tool t) from ⟨(by omega), _, hcx9⟩), (congrArg iI hfin)⟩, by rw [ht_]; exact hP, hD⟩, hS.F ht_⟩) hS.2.2 dX0_leadsToCount_14
  · intro u_4 H locs hC hP hD hS
    have hu_4 : c_tool t = 0 := hC
    have hP : va_P E.1 CL (([(cw, .inr (1, [.ref (o 0), .ref oaA, .ref osA, iv hsn, .ref hdA, .ref spA, .ref bfA, .ref lnA, .ref prA, iv ep, va_rf lt]))] : va_W) ++ (SW E o sc ar) ++ ([(la, loA (E.2 5) zf)] : va_W)) H := hP
    have hD : va_D A (([(cw, .inr (1, [.ref (o 0), .ref oaA, .ref osA, iv hsn, .ref hdA, .ref spA, .ref bfA, .ref lnA, .ref prA, iv ep, va_rf lt]))] : va_W) ++ (SW E o sc ar) ++ ([(la, loA (E.2 5) zf)] : va_W)) := hD
    have hz9 : c_tool t = 0 := hu_4
    refine lv_i2l (v := (iI (sumI (fun k => b2 (m_reach g true (t - 97) k)) 8)).toInt64) hx hb dX0_leadsToCount_7 rfl ?_
    refine n_last1 hx hb hK.1 hP hD hS 18 rfl dX0_leadsToCount_8 (ws2 := ([(cw, .inr (1, [.ref (o 0), .ref oaA, .ref osA, iv hsn, .ref hdA, .ref spA, .ref bfA, .ref lnA, .ref prA, iv ep, va_rf lt]))] : va_W) ++ (SW E o sc ar) ++ ([(la, loA (E.2 5) (vp_updL zf 0 ((iI (sumI (fun k => b2 (m_reach g true (t - 97) k)) 8)).toInt64)))] : va_W)) rfl (fun H locs hP hD hS => ?_)
    have hP : va_P E.1 CL (([(cw, .inr (1, [.ref (o 0), .ref oaA, .ref osA, iv hsn, .ref hdA, .ref spA, .ref bfA, .ref lnA, .ref prA, iv ep, va_rf lt]))] : va_W) ++ (SW E o sc ar) ++ ([(la, loA (E.2 5) (vp_updL zf 0 ((iI (sumI (fun k => b2 (m_reach g true (t - 97) k)) 8)).toInt64)))] : va_W)) H := hP
    have hD : va_D A (([(cw, .inr (1, [.ref (o 0), .ref oaA, .ref osA, iv hsn, .ref hdA, .ref spA, .ref bfA, .ref lnA, .ref prA, iv ep, va_rf lt]))] : va_W) ++ (SW E o sc ar) ++ ([(la, loA (E.2 5) (vp_updL zf 0 ((iI (sumI (fun k => b2 (m_reach g true (t - 97) k)) 8)).toInt64)))] : va_W)) := hD
    refine lv_goto (tgt := 15) hx hb dX0_leadsToCount_9 (by decide) ?_
    refine lv_iconst (v := iI 0) hx hb dX0_leadsToCount_15 rfl ?_
    have hfin : 0 = c_tool t := by
      first | exact hz9.symm | exact hk9.symm
    refine vx_ret ?_
    refine W.widen (k := 6) (n := 43) (Nat.le_of_ble_eq_true rfl) (Nat.le_of_ble_eq_true rfl) ?_
    exact W.iret (v := iI 0) hx hb hr (fun tt_ ht_ hW_ => ⟨⟨iI 0, .inl (u_4, (vp_updL zf 0 ((iI (sumI (fun k => b2 (m_reach g true (t - 97) k)) 8)).toInt64))), rfl, ⟨(show (c_tool t = 0) ∧ c_tool t = 0 ∧ (u_4, (vp_updL zf 0 ((iI (sumI (fun k => b2 (m_reach g true (t - 97) k)) 8)).toInt64))).2 0 = (iI (sumI (fun k => b2 (m_reach g true (t - 97) k)) 8)).toInt64 from ⟨hu_4, hz9, rfl⟩), (congrArg iI hfin)⟩, by rw [ht_]; exact hP, hD⟩, hS.F ht_⟩) hS.2.2 dX0_leadsToCount_16
set_option maxHeartbeats 2000000 in
set_option maxRecDepth 100000 in
theorem mt_X0_leadsToByTable (l : Launch) (E : EE) (cw : Nat) (oaA : Nat) (osA : Nat) (hsn : Int) (hdA : Nat) (spA : Nat) (bfA : Nat) (lnA : Nat) (prA : Nat) (ep : Int) (lt : Option Nat) (o : Nat → Nat) (sc : Nat → Int) (ar : Nat → Int → Int) (la : Nat) (zf : Nat → Int64) (t : Int) (g : Int → Int) (hst : l.stackTraces = false) (hsr : SR g sc ar) (ht : 0 ≤ t ∧ t < 65536) (hhn : HN g) (htw : TW g) (hsw : SwOK g) (sz : Nat) : vx_Met l yX0_leadsToByTable (wsW_ yX0_leadsToByTable cX0_leadsToByTable 4 (some .int) [(0, 9, 12, 13)]) { frames := 9, cells := 11, slots := 79, locals := 3142 } (va_Pc [.ref cw, iv t, .ref la] (UX E (([(cw, .inr (1, [.ref (o 0), .ref oaA, .ref osA, iv hsn, .ref hdA, .ref spA, .ref bfA, .ref lnA, .ref prA, iv ep, va_rf lt]))] : va_W) ++ (SW E o sc ar) ++ ([(la, loA (E.2 5) zf)] : va_W)) sz)) (UQx E (Sum.elim (fun u : (Unit) × (Nat → Int64) => (c_tool t = 0) ∧ c_tool t = 0 ∧ u.2 0 = (iI (sumI (fun k => b2 (m_reach g true (t - 97) k)) 8)).toInt64) (fun u : Unit => 0 < c_tool t ∧ ∃ En : String, 0 < c_tool t ∧ En = nmX "java/lang/IllegalArgumentException" "" "" (c_tool t))) (fun _ => c_tool t) (Sum.elim (fun u : (Unit) × (Nat → Int64) => ([(cw, .inr (1, [.ref (o 0), .ref oaA, .ref osA, iv hsn, .ref hdA, .ref spA, .ref bfA, .ref lnA, .ref prA, iv ep, va_rf lt]))] : va_W) ++ (SW E o sc ar) ++ ([(la, loA (E.2 5) u.2)] : va_W)) (fun u : Unit => ([(cw, .inr (1, [.ref (o 0), .ref oaA, .ref osA, iv hsn, .ref hdA, .ref spA, .ref bfA, .ref lnA, .ref prA, iv ep, va_rf lt]))] : va_W) ++ (SW E o sc ar) ++ ([(la, loA (E.2 5) zf)] : va_W))) (va_A (([(cw, .inr (1, [.ref (o 0), .ref oaA, .ref osA, iv hsn, .ref hdA, .ref spA, .ref bfA, .ref lnA, .ref prA, iv ep, va_rf lt]))] : va_W) ++ (SW E o sc ar) ++ ([(la, loA (E.2 5) zf)] : va_W)) sz)) (UXx E (fun (_ : String) (_ : Unit) => False) (fun _ : Unit => []) (fun _ : Unit => none) (va_A (([(cw, .inr (1, [.ref (o 0), .ref oaA, .ref osA, iv hsn, .ref hdA, .ref spA, .ref bfA, .ref lnA, .ref prA, iv ep, va_rf lt]))] : va_W) ++ (SW E o sc ar) ++ ([(la, loA (E.2 5) zf)] : va_W)) sz)) 11 79 (va_A (([(cw, .inr (1, [.ref (o 0), .ref oaA, .ref osA, iv hsn, .ref hdA, .ref spA, .ref bfA, .ref lnA, .ref prA, iv ep, va_rf lt]))] : va_W) ++ (SW E o sc ar) ++ ([(la, loA (E.2 5) zf)] : va_W)) sz) := by
  refine vx_ofWH (hh := [(0, 9, 12, 13)]) (cc := cX0_leadsToByTable) (maxL := 4) (ret := (some .int)) (by decide) rfl ?_
  intro p e s m args below meth c s₁ B hml hv
  obtain ⟨rfl, hsz, hP, hK, hD0, hE⟩ := hv
  have hx := B.exec
  have hb := B.bytes
  have hr := B.returns
  have hts := atoms_spec (ws := (wsW_ yX0_leadsToByTable cX0_leadsToByTable 4 (some .int) [(0, 9, 12, 13)])) B.pre
  have htab : c.exceptionTable.toList = tableOf [(0, 9, 12, 13)] := vx_table (x := yX0_leadsToByTable) B (hts _ List.mem_cons_self)
  have hts : ∀ w ∈ lw_all, w.before _ s = true := fun w h => hts w (List.mem_cons_of_mem _ h)
  have hown : s.vm.findClass RX0 = some m.cls := findClass_of_methodNamed B.named
  have hlocks := B.notSynchronized
  subst hsz
  have hD := hD0.self (sz := s.heap.size)
  generalize hAe : va_A (([(cw, .inr (1, [.ref (o 0), .ref oaA, .ref osA, iv hsn, .ref hdA, .ref spA, .ref bfA, .ref lnA, .ref prA, iv ep, va_rf lt]))] : va_W) ++ (SW E o sc ar) ++ ([(la, loA (E.2 5) zf)] : va_W)) s.heap.size = A at hD hE ⊢
  have hA : ∀ q : Nat, s.heap.size ≤ q → A q := fun q h => by rw [← hAe]; exact Or.inr h
  have hS : va_S A s.heap s.heap [] := va_S.rf
  have hl := lv_entry ([.ref cw, iv t, .ref la]) (n := 4) (Nat.le_of_ble_eq_true rfl)
  rw [lg_entry_eq]
  generalize (lg_sl ([.ref cw, iv t, .ref la]) ++ List.replicate (4 - (lg_sl ([.ref cw, iv t, .ref la])).length) Slot.unset).toArray = ls at hl ⊢
  have hl : lv_has ls 4 [(0, .ref cw), (1, iv t), (2, .ref la)] := hl
  refine lv_aload_n hx hb dX0_leadsToByTable_0 rfl (lv_at hl 2 rfl) ?_
  refine lv_iconst (v := iI 0) hx hb dX0_leadsToByTable_1 rfl ?_
  refine lv_aload_n hx hb dX0_leadsToByTable_2 rfl (lv_at hl 0 rfl) ?_
  refine lv_iload_n hx hb dX0_leadsToByTable_3 rfl (lv_at hl 1 rfl) ?_
  have hg_1 : gpick [[(cw, .inr (1, [.ref (o 0), .ref oaA, .ref osA, iv hsn, .ref hdA, .ref spA, .ref bfA, .ref lnA, .ref prA, iv ep, va_rf lt]))], SW E o sc ar, [(la, loA (E.2 5) zf)]] ([[(cw, .inr (1, [.ref (o 0), .ref oaA, .ref osA, iv hsn, .ref hdA, .ref spA, .ref bfA, .ref lnA, .ref prA, iv ep, va_rf lt]))], SW E o sc ar] ++ [[(la, loA (E.2 5) zf)]]) [0, 1, 2] := ⟨rfl, (show List.Perm [0, 1, 2] (List.range 3) from by decide)⟩
  have hg_1P : va_P E.1 CL (([(cw, .inr (1, [.ref (o 0), .ref oaA, .ref osA, iv hsn, .ref hdA, .ref spA, .ref bfA, .ref lnA, .ref prA, iv ep, va_rf lt]))] : va_W) ++ (SW E o sc ar)) s.heap := (g_out hg_1 hP hD).1
  have hg_1D : va_D A (([(cw, .inr (1, [.ref (o 0), .ref oaA, .ref osA, iv hsn, .ref hdA, .ref spA, .ref bfA, .ref lnA, .ref prA, iv ep, va_rf lt]))] : va_W) ++ (SW E o sc ar)) := (g_out hg_1 hP hD).2
  have hg_1F : ∀ q, va_A (([(cw, .inr (1, [.ref (o 0), .ref oaA, .ref osA, iv hsn, .ref hdA, .ref spA, .ref bfA, .ref lnA, .ref prA, iv ep, va_rf lt]))] : va_W) ++ (SW E o sc ar)) s.heap.size q → A q := g_free hg_1 hP hD hS hA
  have hlt_2 := P_lts hP
  have hz_3 : s.heap.size ≤ s.heap.size := hS.1
  have hj_6 : ∀ u_4 : Unit, gpick ([[(cw, .inr (1, [.ref (o 0), .ref oaA, .ref osA, iv hsn, .ref hdA, .ref spA, .ref bfA, .ref lnA, .ref prA, iv ep, va_rf lt]))], SW E o sc ar] ++ [[(la, loA (E.2 5) zf)]]) [[(cw, .inr (1, [.ref (o 0), .ref oaA, .ref osA, iv hsn, .ref hdA, .ref spA, .ref bfA, .ref lnA, .ref prA, iv ep, va_rf lt]))], SW E o sc ar, [(la, loA (E.2 5) zf)]] [0, 1, 2] := fun u_4 => ⟨rfl, (show List.Perm [0, 1, 2] (List.range 3) from by decide)⟩
  have hj_7 : ∀ u_5 : Unit, gpick ([[(cw, .inr (1, [.ref (o 0), .ref oaA, .ref osA, iv hsn, .ref hdA, .ref spA, .ref bfA, .ref lnA, .ref prA, iv ep, va_rf lt]))], SW E o sc ar] ++ [[(la, loA (E.2 5) zf)]]) [[(cw, .inr (1, [.ref (o 0), .ref oaA, .ref osA, iv hsn, .ref hdA, .ref spA, .ref bfA, .ref lnA, .ref prA, iv ep, va_rf lt]))], SW E o sc ar, [(la, loA (E.2 5) zf)]] [0, 1, 2] := fun u_5 => ⟨rfl, (show List.Perm [0, 1, 2] (List.range 3) from by decide)⟩
  refine n_txB (x := fun u_4 => sumI (fun k => b2 (m_reach g true (t - 97) k)) 8) (w2 := fun u_4 : Unit => ([(cw, .inr (1, [.ref (o 0), .ref oaA, .ref osA, iv hsn, .ref hdA, .ref spA, .ref bfA, .ref lnA, .ref prA, iv ep, va_rf lt]))] : va_W) ++ (SW E o sc ar) ++ ([(la, loA (E.2 5) zf)] : va_W)) (w3 := fun u_5 : Unit => ([(cw, .inr (1, [.ref (o 0), .ref oaA, .ref osA, iv hsn, .ref hdA, .ref spA, .ref bfA, .ref lnA, .ref prA, iv ep, va_rf lt]))] : va_W) ++ (SW E o sc ar) ++ ([(la, loA (E.2 5) zf)] : va_W)) (vx_runV (As := [iv t]) (rest := [iv 0, .ref la]) ⟨hx, hb, hml, hown, hts⟩ (mt_X1_leadsToByTable l E cw oaA osA hsn hdA spA bfA lnA prA ep lt o sc ar t g (by exact hst) (by assumption) (by omega) (by assumption) (by assumption) (by assumption) _) (cwV 1 hts (lw_V q1191 q1192 q1193 q94 q1194) rfl rfl rfl (by decide +kernel) ⟨Nat.le_of_ble_eq_true rfl, Nat.le_of_ble_eq_true rfl⟩) (UX_V hg_1P hK (hg_1D) hE hS hg_1F (va_recv hK.1 hP (ci := 1) (q0 := 0) rfl rfl)) rfl rfl hl.1 rfl (lv_room (Nat.le_of_ble_eq_true rfl)) dX0_leadsToByTable_4 ⟨Nat.le_of_ble_eq_true rfl, Nat.le_of_ble_eq_true rfl⟩) hS hg_1F ?_ ?_ ?_ ?_
  · exact (fun u_4 _ hk9 hp9 hd9 => g_back hg_1 (hj_6 u_4) hP hD hg_1F hk9 hp9 hd9)
  · exact (fun u_5 _ hk9 hp9 hd9 => g_back hg_1 (hj_7 u_5) hP hD hg_1F hk9 hp9 hd9)
  · intro En ce q9 u_5 H locs hCx hP hD hS hxf hq9 hce hcv hcl
    have hCx : 0 < c_tool t ∧ En = nmX "java/lang/IllegalArgumentException" "" "" (c_tool t) := hCx
    have hP : va_P E.1 CL (([(cw, .inr (1, [.ref (o 0), .ref oaA, .ref osA, iv hsn, .ref hdA, .ref spA, .ref bfA, .ref lnA, .ref prA, iv ep, va_rf lt]))] : va_W) ++ (SW E o sc ar) ++ ([(la, loA (E.2 5) zf)] : va_W)) H := hP
    have hD : va_D A (([(cw, .inr (1, [.ref (o 0), .ref oaA, .ref osA, iv hsn, .ref hdA, .ref spA, .ref bfA, .ref lnA, .ref prA, iv ep, va_rf lt]))] : va_W) ++ (SW E o sc ar) ++ ([(la, loA (E.2 5) zf)] : va_W)) := hD
    have hcx9 := hCx
    obtain ⟨hc0, hEn9⟩ := hCx
    have hcr9 : c_tool t ≤ 1 := by have := c_tool_r t; omega
    have hk9 : c_tool t = 1 := by omega
    have hEn9 : En = "java/lang/IllegalArgumentException" := by rw [hEn9, hk9]; rfl
    subst hEn9
    refine vx_catch (own := "ClockworkTailorLaw") hown [] _ [] htab (fun z hz => by cases hz) (by decide) (by decide) (name := "java/lang/IllegalArgumentException") (hts _ q867) (hK.nw q894) hce hcv hcl ?_
    refine lv_astore_n (lv' := [(3, .ref q9), (0, .ref cw), (1, iv t), (2, .ref la)]) hx hb dX0_leadsToByTable_12 rfl hl (by decide) rfl (fun ls hl => ?_)
    refine lv_iconst (v := iI 1) hx hb dX0_leadsToByTable_13 rfl ?_
    have hfin : 1 = c_tool t := by
      first | exact hz9.symm | exact hk9.symm
    refine vx_ret ?_
    refine W.widen (k := 11) (n := 79) (Nat.le_of_ble_eq_true rfl) (Nat.le_of_ble_eq_true rfl) ?_
    exact W.iret (v := iI 1) hx hb hr (fun tt_ ht_ hW_ => ⟨⟨iI 1, .inr u_5, rfl, ⟨(show 0 < c_tool t ∧ ∃ En : String, 0 < c_tool t ∧ En = nmX "java/lang/IllegalArgumentException" "" "" (c_tool t) from ⟨(by omega), _, hcx9⟩), (congrArg iI hfin)⟩, by rw [ht_]; exact hP, hD⟩, hS.F ht_⟩) hS.2.2 dX0_leadsToByTable_14
  · intro u_4 H locs hC hP hD hS
    have hu_4 : c_tool t = 0 := hC
    have hP : va_P E.1 CL (([(cw, .inr (1, [.ref (o 0), .ref oaA, .ref osA, iv hsn, .ref hdA, .ref spA, .ref bfA, .ref lnA, .ref prA, iv ep, va_rf lt]))] : va_W) ++ (SW E o sc ar) ++ ([(la, loA (E.2 5) zf)] : va_W)) H := hP
    have hD : va_D A (([(cw, .inr (1, [.ref (o 0), .ref oaA, .ref osA, iv hsn, .ref hdA, .ref spA, .ref bfA, .ref lnA, .ref prA, iv ep, va_rf lt]))] : va_W) ++ (SW E o sc ar) ++ ([(la, loA (E.2 5) zf)] : va_W)) := hD
    have hz9 : c_tool t = 0 := hu_4
    refine lv_i2l (v := (iI (sumI (fun k => b2 (m_reach g true (t - 97) k)) 8)).toInt64) hx hb dX0_leadsToByTable_7 rfl ?_
    refine n_last1 hx hb hK.1 hP hD hS 18 rfl dX0_leadsToByTable_8 (ws2 := ([(cw, .inr (1, [.ref (o 0), .ref oaA, .ref osA, iv hsn, .ref hdA, .ref spA, .ref bfA, .ref lnA, .ref prA, iv ep, va_rf lt]))] : va_W) ++ (SW E o sc ar) ++ ([(la, loA (E.2 5) (vp_updL zf 0 ((iI (sumI (fun k => b2 (m_reach g true (t - 97) k)) 8)).toInt64)))] : va_W)) rfl (fun H locs hP hD hS => ?_)
    have hP : va_P E.1 CL (([(cw, .inr (1, [.ref (o 0), .ref oaA, .ref osA, iv hsn, .ref hdA, .ref spA, .ref bfA, .ref lnA, .ref prA, iv ep, va_rf lt]))] : va_W) ++ (SW E o sc ar) ++ ([(la, loA (E.2 5) (vp_updL zf 0 ((iI (sumI (fun k => b2 (m_reach g true (t - 97) k)) 8)).toInt64)))] : va_W)) H := hP
    have hD : va_D A (([(cw, .inr (1, [.ref (o 0), .ref oaA, .ref osA, iv hsn, .ref hdA, .ref spA, .ref bfA, .ref lnA, .ref prA, iv ep, va_rf lt]))] : va_W) ++ (SW E o sc ar) ++ ([(la, loA (E.2 5) (vp_updL zf 0 ((iI (sumI (fun k => b2 (m_reach g true (t - 97) k)) 8)).toInt64)))] : va_W)) := hD
    refine lv_goto (tgt := 15) hx hb dX0_leadsToByTable_9 (by decide) ?_
    refine lv_iconst (v := iI 0) hx hb dX0_leadsToByTable_15 rfl ?_
    have hfin : 0 = c_tool t := by
      first | exact hz9.symm | exact hk9.symm
    refine vx_ret ?_
    refine W.widen (k := 11) (n := 79) (Nat.le_of_ble_eq_true rfl) (Nat.le_of_ble_eq_true rfl) ?_
    exact W.iret (v := iI 0) hx hb hr (fun tt_ ht_ hW_ => ⟨⟨iI 0, .inl (u_4, (vp_updL zf 0 ((iI (sumI (fun k => b2 (m_reach g true (t - 97) k)) 8)).toInt64))), rfl, ⟨(show (c_tool t = 0) ∧ c_tool t = 0 ∧ (u_4, (vp_updL zf 0 ((iI (sumI (fun k => b2 (m_reach g true (t - 97) k)) 8)).toInt64))).2 0 = (iI (sumI (fun k => b2 (m_reach g true (t - 97) k)) 8)).toInt64 from ⟨hu_4, hz9, rfl⟩), (congrArg iI hfin)⟩, by rw [ht_]; exact hP, hD⟩, hS.F ht_⟩) hS.2.2 dX0_leadsToByTable_16
set_option maxHeartbeats 2000000 in
set_option maxRecDepth 100000 in
theorem mt_X0_longestWay (l : Launch) (E : EE) (cw : Nat) (oaA : Nat) (osA : Nat) (hsn : Int) (hdA : Nat) (spA : Nat) (bfA : Nat) (lnA : Nat) (prA : Nat) (ep : Int) (lt : Option Nat) (o : Nat → Nat) (sc : Nat → Int) (ar : Nat → Int → Int) (la : Nat) (zf : Nat → Int64) (t : Int) (g : Int → Int) (r : Int → Nat) (hst : l.stackTraces = false) (hsr : SR g sc ar) (ht : 0 ≤ t ∧ t < 65536) (hhn : HN g) (htw : TW g) (hsw : SwOK g) (htm : TM g) (hrk : RK g r) (hr8 : ∀ t, 0 ≤ t → t < 8 → r t < 8) (sz : Nat) : vx_Met l yX0_longestWay (wsW_ yX0_longestWay cX0_longestWay 4 (some .int) [(0, 9, 12, 13), (0, 9, 15, 21)]) { frames := 11, cells := 2, slots := 12, locals := 259 } (va_Pc [.ref cw, iv t, .ref la] (UX E (([(cw, .inr (1, [.ref (o 0), .ref oaA, .ref osA, iv hsn, .ref hdA, .ref spA, .ref bfA, .ref lnA, .ref prA, iv ep, va_rf lt]))] : va_W) ++ (SW E o sc ar) ++ ([(la, loA (E.2 5) zf)] : va_W)) sz)) (UQx E (Sum.elim (fun u : (Unit) × (Nat → Int64) => (c_way g t = 0) ∧ c_way g t = 0 ∧ u.2 0 = (iI (m_lng g 8 (t - 97))).toInt64) (fun u : Unit => 0 < c_way g t ∧ ∃ En : String, 0 < c_way g t ∧ En = nmX "java/lang/IllegalArgumentException" "java/util/NoSuchElementException" "" (c_way g t))) (fun _ => c_way g t) (Sum.elim (fun u : (Unit) × (Nat → Int64) => ([(cw, .inr (1, [.ref (o 0), .ref oaA, .ref osA, iv hsn, .ref hdA, .ref spA, .ref bfA, .ref lnA, .ref prA, iv ep, va_rf lt]))] : va_W) ++ (SW E o sc ar) ++ ([(la, loA (E.2 5) u.2)] : va_W)) (fun u : Unit => ([(cw, .inr (1, [.ref (o 0), .ref oaA, .ref osA, iv hsn, .ref hdA, .ref spA, .ref bfA, .ref lnA, .ref prA, iv ep, va_rf lt]))] : va_W) ++ (SW E o sc ar) ++ ([(la, loA (E.2 5) zf)] : va_W))) (va_A (([(cw, .inr (1, [.ref (o 0), .ref oaA, .ref osA, iv hsn, .ref hdA, .ref spA, .ref bfA, .ref lnA, .ref prA, iv ep, va_rf lt]))] : va_W) ++ (SW E o sc ar) ++ ([(la, loA (E.2 5) zf)] : va_W)) sz)) (UXx E (fun (_ : String) (_ : Unit) => False) (fun _ : Unit => []) (fun _ : Unit => none) (va_A (([(cw, .inr (1, [.ref (o 0), .ref oaA, .ref osA, iv hsn, .ref hdA, .ref spA, .ref bfA, .ref lnA, .ref prA, iv ep, va_rf lt]))] : va_W) ++ (SW E o sc ar) ++ ([(la, loA (E.2 5) zf)] : va_W)) sz)) 2 12 (va_A (([(cw, .inr (1, [.ref (o 0), .ref oaA, .ref osA, iv hsn, .ref hdA, .ref spA, .ref bfA, .ref lnA, .ref prA, iv ep, va_rf lt]))] : va_W) ++ (SW E o sc ar) ++ ([(la, loA (E.2 5) zf)] : va_W)) sz) := by
  refine vx_ofWH (hh := [(0, 9, 12, 13), (0, 9, 15, 21)]) (cc := cX0_longestWay) (maxL := 4) (ret := (some .int)) (by decide) rfl ?_
  intro p e s m args below meth c s₁ B hml hv
  obtain ⟨rfl, hsz, hP, hK, hD0, hE⟩ := hv
  have hx := B.exec
  have hb := B.bytes
  have hr := B.returns
  have hts := atoms_spec (ws := (wsW_ yX0_longestWay cX0_longestWay 4 (some .int) [(0, 9, 12, 13), (0, 9, 15, 21)])) B.pre
  have htab : c.exceptionTable.toList = tableOf [(0, 9, 12, 13), (0, 9, 15, 21)] := vx_table (x := yX0_longestWay) B (hts _ List.mem_cons_self)
  have hts : ∀ w ∈ lw_all, w.before _ s = true := fun w h => hts w (List.mem_cons_of_mem _ h)
  have hown : s.vm.findClass RX0 = some m.cls := findClass_of_methodNamed B.named
  have hlocks := B.notSynchronized
  subst hsz
  have hD := hD0.self (sz := s.heap.size)
  generalize hAe : va_A (([(cw, .inr (1, [.ref (o 0), .ref oaA, .ref osA, iv hsn, .ref hdA, .ref spA, .ref bfA, .ref lnA, .ref prA, iv ep, va_rf lt]))] : va_W) ++ (SW E o sc ar) ++ ([(la, loA (E.2 5) zf)] : va_W)) s.heap.size = A at hD hE ⊢
  have hA : ∀ q : Nat, s.heap.size ≤ q → A q := fun q h => by rw [← hAe]; exact Or.inr h
  have hS : va_S A s.heap s.heap [] := va_S.rf
  have hl := lv_entry ([.ref cw, iv t, .ref la]) (n := 4) (Nat.le_of_ble_eq_true rfl)
  rw [lg_entry_eq]
  generalize (lg_sl ([.ref cw, iv t, .ref la]) ++ List.replicate (4 - (lg_sl ([.ref cw, iv t, .ref la])).length) Slot.unset).toArray = ls at hl ⊢
  have hl : lv_has ls 4 [(0, .ref cw), (1, iv t), (2, .ref la)] := hl
  refine lv_aload_n hx hb dX0_longestWay_0 rfl (lv_at hl 2 rfl) ?_
  refine lv_iconst (v := iI 0) hx hb dX0_longestWay_1 rfl ?_
  refine lv_aload_n hx hb dX0_longestWay_2 rfl (lv_at hl 0 rfl) ?_
  refine lv_iload_n hx hb dX0_longestWay_3 rfl (lv_at hl 1 rfl) ?_
  have hg_1 : gpick [[(cw, .inr (1, [.ref (o 0), .ref oaA, .ref osA, iv hsn, .ref hdA, .ref spA, .ref bfA, .ref lnA, .ref prA, iv ep, va_rf lt]))], SW E o sc ar, [(la, loA (E.2 5) zf)]] ([[(cw, .inr (1, [.ref (o 0), .ref oaA, .ref osA, iv hsn, .ref hdA, .ref spA, .ref bfA, .ref lnA, .ref prA, iv ep, va_rf lt]))], SW E o sc ar] ++ [[(la, loA (E.2 5) zf)]]) [0, 1, 2] := ⟨rfl, (show List.Perm [0, 1, 2] (List.range 3) from by decide)⟩
  have hg_1P : va_P E.1 CL (([(cw, .inr (1, [.ref (o 0), .ref oaA, .ref osA, iv hsn, .ref hdA, .ref spA, .ref bfA, .ref lnA, .ref prA, iv ep, va_rf lt]))] : va_W) ++ (SW E o sc ar)) s.heap := (g_out hg_1 hP hD).1
  have hg_1D : va_D A (([(cw, .inr (1, [.ref (o 0), .ref oaA, .ref osA, iv hsn, .ref hdA, .ref spA, .ref bfA, .ref lnA, .ref prA, iv ep, va_rf lt]))] : va_W) ++ (SW E o sc ar)) := (g_out hg_1 hP hD).2
  have hg_1F : ∀ q, va_A (([(cw, .inr (1, [.ref (o 0), .ref oaA, .ref osA, iv hsn, .ref hdA, .ref spA, .ref bfA, .ref lnA, .ref prA, iv ep, va_rf lt]))] : va_W) ++ (SW E o sc ar)) s.heap.size q → A q := g_free hg_1 hP hD hS hA
  have hlt_2 := P_lts hP
  have hz_3 : s.heap.size ≤ s.heap.size := hS.1
  have hj_6 : ∀ u_4 : Unit, gpick ([[(cw, .inr (1, [.ref (o 0), .ref oaA, .ref osA, iv hsn, .ref hdA, .ref spA, .ref bfA, .ref lnA, .ref prA, iv ep, va_rf lt]))], SW E o sc ar] ++ [[(la, loA (E.2 5) zf)]]) [[(cw, .inr (1, [.ref (o 0), .ref oaA, .ref osA, iv hsn, .ref hdA, .ref spA, .ref bfA, .ref lnA, .ref prA, iv ep, va_rf lt]))], SW E o sc ar, [(la, loA (E.2 5) zf)]] [0, 1, 2] := fun u_4 => ⟨rfl, (show List.Perm [0, 1, 2] (List.range 3) from by decide)⟩
  have hj_7 : ∀ u_5 : Unit, gpick ([[(cw, .inr (1, [.ref (o 0), .ref oaA, .ref osA, iv hsn, .ref hdA, .ref spA, .ref bfA, .ref lnA, .ref prA, iv ep, va_rf lt]))], SW E o sc ar] ++ [[(la, loA (E.2 5) zf)]]) [[(cw, .inr (1, [.ref (o 0), .ref oaA, .ref osA, iv hsn, .ref hdA, .ref spA, .ref bfA, .ref lnA, .ref prA, iv ep, va_rf lt]))], SW E o sc ar, [(la, loA (E.2 5) zf)]] [0, 1, 2] := fun u_5 => ⟨rfl, (show List.Perm [0, 1, 2] (List.range 3) from by decide)⟩
  refine n_txB (x := fun u_4 => m_lng g 8 (t - 97)) (w2 := fun u_4 : Unit => ([(cw, .inr (1, [.ref (o 0), .ref oaA, .ref osA, iv hsn, .ref hdA, .ref spA, .ref bfA, .ref lnA, .ref prA, iv ep, va_rf lt]))] : va_W) ++ (SW E o sc ar) ++ ([(la, loA (E.2 5) zf)] : va_W)) (w3 := fun u_5 : Unit => ([(cw, .inr (1, [.ref (o 0), .ref oaA, .ref osA, iv hsn, .ref hdA, .ref spA, .ref bfA, .ref lnA, .ref prA, iv ep, va_rf lt]))] : va_W) ++ (SW E o sc ar) ++ ([(la, loA (E.2 5) zf)] : va_W)) (vx_runV (As := [iv t]) (rest := [iv 0, .ref la]) ⟨hx, hb, hml, hown, hts⟩ (mt_X1_longestWay l E cw oaA osA hsn hdA spA bfA lnA prA ep lt o sc ar t g r (by exact hst) (by assumption) (by omega) (by assumption) (by assumption) (by assumption) (by assumption) (by assumption) (by assumption) _) (cwV 1 hts (lw_V q1199 q1200 q1201 q94 q1202) rfl rfl rfl (by decide +kernel) ⟨Nat.le_of_ble_eq_true rfl, Nat.le_of_ble_eq_true rfl⟩) (UX_V hg_1P hK (hg_1D) hE hS hg_1F (va_recv hK.1 hP (ci := 1) (q0 := 0) rfl rfl)) rfl rfl hl.1 rfl (lv_room (Nat.le_of_ble_eq_true rfl)) dX0_longestWay_4 ⟨Nat.le_of_ble_eq_true rfl, Nat.le_of_ble_eq_true rfl⟩) hS hg_1F ?_ ?_ ?_ ?_
  · exact (fun u_4 _ hk9 hp9 hd9 => g_back hg_1 (hj_6 u_4) hP hD hg_1F hk9 hp9 hd9)
  · exact (fun u_5 _ hk9 hp9 hd9 => g_back hg_1 (hj_7 u_5) hP hD hg_1F hk9 hp9 hd9)
  · intro En ce q9 u_5 H locs hCx hP hD hS hxf hq9 hce hcv hcl
    have hCx : 0 < c_way g t ∧ En = nmX "java/lang/IllegalArgumentException" "java/util/NoSuchElementException" "" (c_way g t) := hCx
    have hP : va_P E.1 CL (([(cw, .inr (1, [.ref (o 0), .ref oaA, .ref osA, iv hsn, .ref hdA, .ref spA, .ref bfA, .ref lnA, .ref prA, iv ep, va_rf lt]))] : va_W) ++ (SW E o sc ar) ++ ([(la, loA (E.2 5) zf)] : va_W)) H := hP
    have hD : va_D A (([(cw, .inr (1, [.ref (o 0), .ref oaA, .ref osA, iv hsn, .ref hdA, .ref spA, .ref bfA, .ref lnA, .ref prA, iv ep, va_rf lt]))] : va_W) ++ (SW E o sc ar) ++ ([(la, loA (E.2 5) zf)] : va_W)) := hD
    have hcx9 := hCx
    obtain ⟨hc0, hEn9⟩ := hCx
    have hcr9 : c_way g t ≤ 2 := by have := c_way_r g t; omega
    rcases (show c_way g t = 1 ∨ c_way g t = 2 by omega) with hk9 | hk9
    · have hEn9 : En = "java/lang/IllegalArgumentException" := by rw [hEn9, hk9]; rfl
      subst hEn9
      refine vx_catch (own := "ClockworkTailorLaw") hown [] _ [_] htab (fun z hz => by cases hz) (by decide) (by decide) (name := "java/lang/IllegalArgumentException") (hts _ q867) (hK.nw q894) hce hcv hcl ?_
      refine lv_astore_n (lv' := [(3, .ref q9), (0, .ref cw), (1, iv t), (2, .ref la)]) hx hb dX0_longestWay_12 rfl hl (by decide) rfl (fun ls hl => ?_)
      refine lv_iconst (v := iI 1) hx hb dX0_longestWay_13 rfl ?_
      have hfin : 1 = c_way g t := by
        first | exact hz9.symm | exact hk9.symm
      refine vx_ret ?_
      refine W.widen (k := 2) (n := 12) (Nat.le_of_ble_eq_true rfl) (Nat.le_of_ble_eq_true rfl) ?_
      exact W.iret (v := iI 1) hx hb hr (fun tt_ ht_ hW_ => ⟨⟨iI 1, .inr u_5, rfl, ⟨(show 0 < c_way g t ∧ ∃ En : String, 0 < c_way g t ∧ En = nmX "java/lang/IllegalArgumentException" "java/util/NoSuchElementException" "" (c_way g t) from ⟨(by omega), _, hcx9⟩), (congrArg iI hfin)⟩, by rw [ht_]; exact hP, hD⟩, hS.F ht_⟩) hS.2.2 dX0_longestWay_14
    · have hEn9 : En = "java/util/NoSuchElementException" := by rw [hEn9, hk9]; rfl
      subst hEn9
      refine vx_catch (own := "ClockworkTailorLaw") hown [_] _ [] htab (fun z hz => by
          simp only [List.mem_cons, List.not_mem_nil, or_false] at hz
          rcases hz with rfl
          · exact Or.inr ⟨by decide, "java/lang/IllegalArgumentException", hts _ q867, hK.kx.2.2.2.2.2 (_, _) (by decide)⟩
          ) (by decide) (by decide) (name := "java/util/NoSuchElementException") (hts _ q951) (hK.nw q976) hce hcv hcl ?_
      refine lv_astore_n (lv' := [(3, .ref q9), (0, .ref cw), (1, iv t), (2, .ref la)]) hx hb dX0_longestWay_15 rfl hl (by decide) rfl (fun ls hl => ?_)
      refine lv_iconst (v := iI 2) hx hb dX0_longestWay_16 rfl ?_
      have hfin : 2 = c_way g t := by
        first | exact hz9.symm | exact hk9.symm
      refine vx_ret ?_
      refine W.widen (k := 2) (n := 12) (Nat.le_of_ble_eq_true rfl) (Nat.le_of_ble_eq_true rfl) ?_
      exact W.iret (v := iI 2) hx hb hr (fun tt_ ht_ hW_ => ⟨⟨iI 2, .inr u_5, rfl, ⟨(show 0 < c_way g t ∧ ∃ En : String, 0 < c_way g t ∧ En = nmX "java/lang/IllegalArgumentException" "java/util/NoSuchElementException" "" (c_way g t) from ⟨(by omega), _, hcx9⟩), (congrArg iI hfin)⟩, by rw [ht_]; exact hP, hD⟩, hS.F ht_⟩) hS.2.2 dX0_longestWay_17
  · intro u_4 H locs hC hP hD hS
    have hu_4 : c_way g t = 0 := hC
    have hP : va_P E.1 CL (([(cw, .inr (1, [.ref (o 0), .ref oaA, .ref osA, iv hsn, .ref hdA, .ref spA, .ref bfA, .ref lnA, .ref prA, iv ep, va_rf lt]))] : va_W) ++ (SW E o sc ar) ++ ([(la, loA (E.2 5) zf)] : va_W)) H := hP
    have hD : va_D A (([(cw, .inr (1, [.ref (o 0), .ref oaA, .ref osA, iv hsn, .ref hdA, .ref spA, .ref bfA, .ref lnA, .ref prA, iv ep, va_rf lt]))] : va_W) ++ (SW E o sc ar) ++ ([(la, loA (E.2 5) zf)] : va_W)) := hD
    have hz9 : c_way g t = 0 := hu_4
    refine lv_i2l (v := (iI (m_lng g 8 (t - 97))).toInt64) hx hb dX0_longestWay_7 rfl ?_
    refine n_last1 hx hb hK.1 hP hD hS 18 rfl dX0_longestWay_8 (ws2 := ([(cw, .inr (1, [.ref (o 0), .ref oaA, .ref osA, iv hsn, .ref hdA, .ref spA, .ref bfA, .ref lnA, .ref prA, iv ep, va_rf lt]))] : va_W) ++ (SW E o sc ar) ++ ([(la, loA (E.2 5) (vp_updL zf 0 ((iI (m_lng g 8 (t - 97))).toInt64)))] : va_W)) rfl (fun H locs hP hD hS => ?_)
    have hP : va_P E.1 CL (([(cw, .inr (1, [.ref (o 0), .ref oaA, .ref osA, iv hsn, .ref hdA, .ref spA, .ref bfA, .ref lnA, .ref prA, iv ep, va_rf lt]))] : va_W) ++ (SW E o sc ar) ++ ([(la, loA (E.2 5) (vp_updL zf 0 ((iI (m_lng g 8 (t - 97))).toInt64)))] : va_W)) H := hP
    have hD : va_D A (([(cw, .inr (1, [.ref (o 0), .ref oaA, .ref osA, iv hsn, .ref hdA, .ref spA, .ref bfA, .ref lnA, .ref prA, iv ep, va_rf lt]))] : va_W) ++ (SW E o sc ar) ++ ([(la, loA (E.2 5) (vp_updL zf 0 ((iI (m_lng g 8 (t - 97))).toInt64)))] : va_W)) := hD
    refine lv_goto (tgt := 18) hx hb dX0_longestWay_9 (by decide) ?_
    refine lv_iconst (v := iI 0) hx hb dX0_longestWay_18 rfl ?_
    have hfin : 0 = c_way g t := by
      first | exact hz9.symm | exact hk9.symm
    refine vx_ret ?_
    refine W.widen (k := 2) (n := 12) (Nat.le_of_ble_eq_true rfl) (Nat.le_of_ble_eq_true rfl) ?_
    exact W.iret (v := iI 0) hx hb hr (fun tt_ ht_ hW_ => ⟨⟨iI 0, .inl (u_4, (vp_updL zf 0 ((iI (m_lng g 8 (t - 97))).toInt64))), rfl, ⟨(show (c_way g t = 0) ∧ c_way g t = 0 ∧ (u_4, (vp_updL zf 0 ((iI (m_lng g 8 (t - 97))).toInt64))).2 0 = (iI (m_lng g 8 (t - 97))).toInt64 from ⟨hu_4, hz9, rfl⟩), (congrArg iI hfin)⟩, by rw [ht_]; exact hP, hD⟩, hS.F ht_⟩) hS.2.2 dX0_longestWay_19
set_option maxHeartbeats 2000000 in
set_option maxRecDepth 100000 in
theorem mt_X0_longestByRounds (l : Launch) (E : EE) (cw : Nat) (oaA : Nat) (osA : Nat) (hsn : Int) (hdA : Nat) (spA : Nat) (bfA : Nat) (lnA : Nat) (prA : Nat) (ep : Int) (lt : Option Nat) (o : Nat → Nat) (sc : Nat → Int) (ar : Nat → Int → Int) (la : Nat) (zf : Nat → Int64) (t : Int) (g : Int → Int) (r : Int → Nat) (hst : l.stackTraces = false) (hsr : SR g sc ar) (ht : 0 ≤ t ∧ t < 65536) (hhn : HN g) (htw : TW g) (hsw : SwOK g) (htm : TM g) (hrk : RK g r) (hr8 : ∀ t, 0 ≤ t → t < 8 → r t < 8) (sz : Nat) : vx_Met l yX0_longestByRounds (wsW_ yX0_longestByRounds cX0_longestByRounds 4 (some .int) [(0, 9, 12, 13), (0, 9, 15, 21)]) { frames := 9, cells := 12, slots := 85, locals := 3144 } (va_Pc [.ref cw, iv t, .ref la] (UX E (([(cw, .inr (1, [.ref (o 0), .ref oaA, .ref osA, iv hsn, .ref hdA, .ref spA, .ref bfA, .ref lnA, .ref prA, iv ep, va_rf lt]))] : va_W) ++ (SW E o sc ar) ++ ([(la, loA (E.2 5) zf)] : va_W)) sz)) (UQx E (Sum.elim (fun u : (Unit) × (Nat → Int64) => (c_way g t = 0) ∧ c_way g t = 0 ∧ u.2 0 = (iI (m_lng g 8 (t - 97))).toInt64) (fun u : Unit => 0 < c_way g t ∧ ∃ En : String, 0 < c_way g t ∧ En = nmX "java/lang/IllegalArgumentException" "java/util/NoSuchElementException" "" (c_way g t))) (fun _ => c_way g t) (Sum.elim (fun u : (Unit) × (Nat → Int64) => ([(cw, .inr (1, [.ref (o 0), .ref oaA, .ref osA, iv hsn, .ref hdA, .ref spA, .ref bfA, .ref lnA, .ref prA, iv ep, va_rf lt]))] : va_W) ++ (SW E o sc ar) ++ ([(la, loA (E.2 5) u.2)] : va_W)) (fun u : Unit => ([(cw, .inr (1, [.ref (o 0), .ref oaA, .ref osA, iv hsn, .ref hdA, .ref spA, .ref bfA, .ref lnA, .ref prA, iv ep, va_rf lt]))] : va_W) ++ (SW E o sc ar) ++ ([(la, loA (E.2 5) zf)] : va_W))) (va_A (([(cw, .inr (1, [.ref (o 0), .ref oaA, .ref osA, iv hsn, .ref hdA, .ref spA, .ref bfA, .ref lnA, .ref prA, iv ep, va_rf lt]))] : va_W) ++ (SW E o sc ar) ++ ([(la, loA (E.2 5) zf)] : va_W)) sz)) (UXx E (fun (_ : String) (_ : Unit) => False) (fun _ : Unit => []) (fun _ : Unit => none) (va_A (([(cw, .inr (1, [.ref (o 0), .ref oaA, .ref osA, iv hsn, .ref hdA, .ref spA, .ref bfA, .ref lnA, .ref prA, iv ep, va_rf lt]))] : va_W) ++ (SW E o sc ar) ++ ([(la, loA (E.2 5) zf)] : va_W)) sz)) 12 85 (va_A (([(cw, .inr (1, [.ref (o 0), .ref oaA, .ref osA, iv hsn, .ref hdA, .ref spA, .ref bfA, .ref lnA, .ref prA, iv ep, va_rf lt]))] : va_W) ++ (SW E o sc ar) ++ ([(la, loA (E.2 5) zf)] : va_W)) sz) := by
  refine vx_ofWH (hh := [(0, 9, 12, 13), (0, 9, 15, 21)]) (cc := cX0_longestByRounds) (maxL := 4) (ret := (some .int)) (by decide) rfl ?_
  intro p e s m args below meth c s₁ B hml hv
  obtain ⟨rfl, hsz, hP, hK, hD0, hE⟩ := hv
  have hx := B.exec
  have hb := B.bytes
  have hr := B.returns
  have hts := atoms_spec (ws := (wsW_ yX0_longestByRounds cX0_longestByRounds 4 (some .int) [(0, 9, 12, 13), (0, 9, 15, 21)])) B.pre
  have htab : c.exceptionTable.toList = tableOf [(0, 9, 12, 13), (0, 9, 15, 21)] := vx_table (x := yX0_longestByRounds) B (hts _ List.mem_cons_self)
  have hts : ∀ w ∈ lw_all, w.before _ s = true := fun w h => hts w (List.mem_cons_of_mem _ h)
  have hown : s.vm.findClass RX0 = some m.cls := findClass_of_methodNamed B.named
  have hlocks := B.notSynchronized
  subst hsz
  have hD := hD0.self (sz := s.heap.size)
  generalize hAe : va_A (([(cw, .inr (1, [.ref (o 0), .ref oaA, .ref osA, iv hsn, .ref hdA, .ref spA, .ref bfA, .ref lnA, .ref prA, iv ep, va_rf lt]))] : va_W) ++ (SW E o sc ar) ++ ([(la, loA (E.2 5) zf)] : va_W)) s.heap.size = A at hD hE ⊢
  have hA : ∀ q : Nat, s.heap.size ≤ q → A q := fun q h => by rw [← hAe]; exact Or.inr h
  have hS : va_S A s.heap s.heap [] := va_S.rf
  have hl := lv_entry ([.ref cw, iv t, .ref la]) (n := 4) (Nat.le_of_ble_eq_true rfl)
  rw [lg_entry_eq]
  generalize (lg_sl ([.ref cw, iv t, .ref la]) ++ List.replicate (4 - (lg_sl ([.ref cw, iv t, .ref la])).length) Slot.unset).toArray = ls at hl ⊢
  have hl : lv_has ls 4 [(0, .ref cw), (1, iv t), (2, .ref la)] := hl
  refine lv_aload_n hx hb dX0_longestByRounds_0 rfl (lv_at hl 2 rfl) ?_
  refine lv_iconst (v := iI 0) hx hb dX0_longestByRounds_1 rfl ?_
  refine lv_aload_n hx hb dX0_longestByRounds_2 rfl (lv_at hl 0 rfl) ?_
  refine lv_iload_n hx hb dX0_longestByRounds_3 rfl (lv_at hl 1 rfl) ?_
  have hg_1 : gpick [[(cw, .inr (1, [.ref (o 0), .ref oaA, .ref osA, iv hsn, .ref hdA, .ref spA, .ref bfA, .ref lnA, .ref prA, iv ep, va_rf lt]))], SW E o sc ar, [(la, loA (E.2 5) zf)]] ([[(cw, .inr (1, [.ref (o 0), .ref oaA, .ref osA, iv hsn, .ref hdA, .ref spA, .ref bfA, .ref lnA, .ref prA, iv ep, va_rf lt]))], SW E o sc ar] ++ [[(la, loA (E.2 5) zf)]]) [0, 1, 2] := ⟨rfl, (show List.Perm [0, 1, 2] (List.range 3) from by decide)⟩
  have hg_1P : va_P E.1 CL (([(cw, .inr (1, [.ref (o 0), .ref oaA, .ref osA, iv hsn, .ref hdA, .ref spA, .ref bfA, .ref lnA, .ref prA, iv ep, va_rf lt]))] : va_W) ++ (SW E o sc ar)) s.heap := (g_out hg_1 hP hD).1
  have hg_1D : va_D A (([(cw, .inr (1, [.ref (o 0), .ref oaA, .ref osA, iv hsn, .ref hdA, .ref spA, .ref bfA, .ref lnA, .ref prA, iv ep, va_rf lt]))] : va_W) ++ (SW E o sc ar)) := (g_out hg_1 hP hD).2
  have hg_1F : ∀ q, va_A (([(cw, .inr (1, [.ref (o 0), .ref oaA, .ref osA, iv hsn, .ref hdA, .ref spA, .ref bfA, .ref lnA, .ref prA, iv ep, va_rf lt]))] : va_W) ++ (SW E o sc ar)) s.heap.size q → A q := g_free hg_1 hP hD hS hA
  have hlt_2 := P_lts hP
  have hz_3 : s.heap.size ≤ s.heap.size := hS.1
  have hj_6 : ∀ u_4 : Unit, gpick ([[(cw, .inr (1, [.ref (o 0), .ref oaA, .ref osA, iv hsn, .ref hdA, .ref spA, .ref bfA, .ref lnA, .ref prA, iv ep, va_rf lt]))], SW E o sc ar] ++ [[(la, loA (E.2 5) zf)]]) [[(cw, .inr (1, [.ref (o 0), .ref oaA, .ref osA, iv hsn, .ref hdA, .ref spA, .ref bfA, .ref lnA, .ref prA, iv ep, va_rf lt]))], SW E o sc ar, [(la, loA (E.2 5) zf)]] [0, 1, 2] := fun u_4 => ⟨rfl, (show List.Perm [0, 1, 2] (List.range 3) from by decide)⟩
  have hj_7 : ∀ u_5 : Unit, gpick ([[(cw, .inr (1, [.ref (o 0), .ref oaA, .ref osA, iv hsn, .ref hdA, .ref spA, .ref bfA, .ref lnA, .ref prA, iv ep, va_rf lt]))], SW E o sc ar] ++ [[(la, loA (E.2 5) zf)]]) [[(cw, .inr (1, [.ref (o 0), .ref oaA, .ref osA, iv hsn, .ref hdA, .ref spA, .ref bfA, .ref lnA, .ref prA, iv ep, va_rf lt]))], SW E o sc ar, [(la, loA (E.2 5) zf)]] [0, 1, 2] := fun u_5 => ⟨rfl, (show List.Perm [0, 1, 2] (List.range 3) from by decide)⟩
  refine n_txB (x := fun u_4 => m_lng g 8 (t - 97)) (w2 := fun u_4 : Unit => ([(cw, .inr (1, [.ref (o 0), .ref oaA, .ref osA, iv hsn, .ref hdA, .ref spA, .ref bfA, .ref lnA, .ref prA, iv ep, va_rf lt]))] : va_W) ++ (SW E o sc ar) ++ ([(la, loA (E.2 5) zf)] : va_W)) (w3 := fun u_5 : Unit => ([(cw, .inr (1, [.ref (o 0), .ref oaA, .ref osA, iv hsn, .ref hdA, .ref spA, .ref bfA, .ref lnA, .ref prA, iv ep, va_rf lt]))] : va_W) ++ (SW E o sc ar) ++ ([(la, loA (E.2 5) zf)] : va_W)) (vx_runV (As := [iv t]) (rest := [iv 0, .ref la]) ⟨hx, hb, hml, hown, hts⟩ (mt_X1_longestByRounds l E cw oaA osA hsn hdA spA bfA lnA prA ep lt o sc ar t g r (by exact hst) (by assumption) (by omega) (by assumption) (by assumption) (by assumption) (by assumption) (by assumption) (by assumption) _) (cwV 1 hts (lw_V q1208 q1209 q1210 q94 q1211) rfl rfl rfl (by decide +kernel) ⟨Nat.le_of_ble_eq_true rfl, Nat.le_of_ble_eq_true rfl⟩) (UX_V hg_1P hK (hg_1D) hE hS hg_1F (va_recv hK.1 hP (ci := 1) (q0 := 0) rfl rfl)) rfl rfl hl.1 rfl (lv_room (Nat.le_of_ble_eq_true rfl)) dX0_longestByRounds_4 ⟨Nat.le_of_ble_eq_true rfl, Nat.le_of_ble_eq_true rfl⟩) hS hg_1F ?_ ?_ ?_ ?_
  · exact (fun u_4 _ hk9 hp9 hd9 => g_back hg_1 (hj_6 u_4) hP hD hg_1F hk9 hp9 hd9)
  · exact (fun u_5 _ hk9 hp9 hd9 => g_back hg_1 (hj_7 u_5) hP hD hg_1F hk9 hp9 hd9)
  · intro En ce q9 u_5 H locs hCx hP hD hS hxf hq9 hce hcv hcl
    have hCx : 0 < c_way g t ∧ En = nmX "java/lang/IllegalArgumentException" "java/util/NoSuchElementException" "" (c_way g t) := hCx
    have hP : va_P E.1 CL (([(cw, .inr (1, [.ref (o 0), .ref oaA, .ref osA, iv hsn, .ref hdA, .ref spA, .ref bfA, .ref lnA, .ref prA, iv ep, va_rf lt]))] : va_W) ++ (SW E o sc ar) ++ ([(la, loA (E.2 5) zf)] : va_W)) H := hP
    have hD : va_D A (([(cw, .inr (1, [.ref (o 0), .ref oaA, .ref osA, iv hsn, .ref hdA, .ref spA, .ref bfA, .ref lnA, .ref prA, iv ep, va_rf lt]))] : va_W) ++ (SW E o sc ar) ++ ([(la, loA (E.2 5) zf)] : va_W)) := hD
    have hcx9 := hCx
    obtain ⟨hc0, hEn9⟩ := hCx
    have hcr9 : c_way g t ≤ 2 := by have := c_way_r g t; omega
    rcases (show c_way g t = 1 ∨ c_way g t = 2 by omega) with hk9 | hk9
    · have hEn9 : En = "java/lang/IllegalArgumentException" := by rw [hEn9, hk9]; rfl
      subst hEn9
      refine vx_catch (own := "ClockworkTailorLaw") hown [] _ [_] htab (fun z hz => by cases hz) (by decide) (by decide) (name := "java/lang/IllegalArgumentException") (hts _ q867) (hK.nw q894) hce hcv hcl ?_
      refine lv_astore_n (lv' := [(3, .ref q9), (0, .ref cw), (1, iv t), (2, .ref la)]) hx hb dX0_longestByRounds_12 rfl hl (by decide) rfl (fun ls hl => ?_)
      refine lv_iconst (v := iI 1) hx hb dX0_longestByRounds_13 rfl ?_
      have hfin : 1 = c_way g t := by
        first | exact hz9.symm | exact hk9.symm
      refine vx_ret ?_
      refine W.widen (k := 12) (n := 85) (Nat.le_of_ble_eq_true rfl) (Nat.le_of_ble_eq_true rfl) ?_
      exact W.iret (v := iI 1) hx hb hr (fun tt_ ht_ hW_ => ⟨⟨iI 1, .inr u_5, rfl, ⟨(show 0 < c_way g t ∧ ∃ En : String, 0 < c_way g t ∧ En = nmX "java/lang/IllegalArgumentException" "java/util/NoSuchElementException" "" (c_way g t) from ⟨(by omega), _, hcx9⟩), (congrArg iI hfin)⟩, by rw [ht_]; exact hP, hD⟩, hS.F ht_⟩) hS.2.2 dX0_longestByRounds_14
    · have hEn9 : En = "java/util/NoSuchElementException" := by rw [hEn9, hk9]; rfl
      subst hEn9
      refine vx_catch (own := "ClockworkTailorLaw") hown [_] _ [] htab (fun z hz => by
          simp only [List.mem_cons, List.not_mem_nil, or_false] at hz
          rcases hz with rfl
          · exact Or.inr ⟨by decide, "java/lang/IllegalArgumentException", hts _ q867, hK.kx.2.2.2.2.2 (_, _) (by decide)⟩
          ) (by decide) (by decide) (name := "java/util/NoSuchElementException") (hts _ q951) (hK.nw q976) hce hcv hcl ?_
      refine lv_astore_n (lv' := [(3, .ref q9), (0, .ref cw), (1, iv t), (2, .ref la)]) hx hb dX0_longestByRounds_15 rfl hl (by decide) rfl (fun ls hl => ?_)
      refine lv_iconst (v := iI 2) hx hb dX0_longestByRounds_16 rfl ?_
      have hfin : 2 = c_way g t := by
        first | exact hz9.symm | exact hk9.symm
      refine vx_ret ?_
      refine W.widen (k := 12) (n := 85) (Nat.le_of_ble_eq_true rfl) (Nat.le_of_ble_eq_true rfl) ?_
      exact W.iret (v := iI 2) hx hb hr (fun tt_ ht_ hW_ => ⟨⟨iI 2, .inr u_5, rfl, ⟨(show 0 < c_way g t ∧ ∃ En : String, 0 < c_way g t ∧ En = nmX "java/lang/IllegalArgumentException" "java/util/NoSuchElementException" "" (c_way g t) from ⟨(by omega), _, hcx9⟩), (congrArg iI hfin)⟩, by rw [ht_]; exact hP, hD⟩, hS.F ht_⟩) hS.2.2 dX0_longestByRounds_17
  · intro u_4 H locs hC hP hD hS
    have hu_4 : c_way g t = 0 := hC
    have hP : va_P E.1 CL (([(cw, .inr (1, [.ref (o 0), .ref oaA, .ref osA, iv hsn, .ref hdA, .ref spA, .ref bfA, .ref lnA, .ref prA, iv ep, va_rf lt]))] : va_W) ++ (SW E o sc ar) ++ ([(la, loA (E.2 5) zf)] : va_W)) H := hP
    have hD : va_D A (([(cw, .inr (1, [.ref (o 0), .ref oaA, .ref osA, iv hsn, .ref hdA, .ref spA, .ref bfA, .ref lnA, .ref prA, iv ep, va_rf lt]))] : va_W) ++ (SW E o sc ar) ++ ([(la, loA (E.2 5) zf)] : va_W)) := hD
    have hz9 : c_way g t = 0 := hu_4
    refine lv_i2l (v := (iI (m_lng g 8 (t - 97))).toInt64) hx hb dX0_longestByRounds_7 rfl ?_
    refine n_last1 hx hb hK.1 hP hD hS 18 rfl dX0_longestByRounds_8 (ws2 := ([(cw, .inr (1, [.ref (o 0), .ref oaA, .ref osA, iv hsn, .ref hdA, .ref spA, .ref bfA, .ref lnA, .ref prA, iv ep, va_rf lt]))] : va_W) ++ (SW E o sc ar) ++ ([(la, loA (E.2 5) (vp_updL zf 0 ((iI (m_lng g 8 (t - 97))).toInt64)))] : va_W)) rfl (fun H locs hP hD hS => ?_)
    have hP : va_P E.1 CL (([(cw, .inr (1, [.ref (o 0), .ref oaA, .ref osA, iv hsn, .ref hdA, .ref spA, .ref bfA, .ref lnA, .ref prA, iv ep, va_rf lt]))] : va_W) ++ (SW E o sc ar) ++ ([(la, loA (E.2 5) (vp_updL zf 0 ((iI (m_lng g 8 (t - 97))).toInt64)))] : va_W)) H := hP
    have hD : va_D A (([(cw, .inr (1, [.ref (o 0), .ref oaA, .ref osA, iv hsn, .ref hdA, .ref spA, .ref bfA, .ref lnA, .ref prA, iv ep, va_rf lt]))] : va_W) ++ (SW E o sc ar) ++ ([(la, loA (E.2 5) (vp_updL zf 0 ((iI (m_lng g 8 (t - 97))).toInt64)))] : va_W)) := hD
    refine lv_goto (tgt := 18) hx hb dX0_longestByRounds_9 (by decide) ?_
    refine lv_iconst (v := iI 0) hx hb dX0_longestByRounds_18 rfl ?_
    have hfin : 0 = c_way g t := by
      first | exact hz9.symm | exact hk9.symm
    refine vx_ret ?_
    refine W.widen (k := 12) (n := 85) (Nat.le_of_ble_eq_true rfl) (Nat.le_of_ble_eq_true rfl) ?_
    exact W.iret (v := iI 0) hx hb hr (fun tt_ ht_ hW_ => ⟨⟨iI 0, .inl (u_4, (vp_updL zf 0 ((iI (m_lng g 8 (t - 97))).toInt64))), rfl, ⟨(show (c_way g t = 0) ∧ c_way g t = 0 ∧ (u_4, (vp_updL zf 0 ((iI (m_lng g 8 (t - 97))).toInt64))).2 0 = (iI (m_lng g 8 (t - 97))).toInt64 from ⟨hu_4, hz9, rfl⟩), (congrArg iI hfin)⟩, by rw [ht_]; exact hP, hD⟩, hS.F ht_⟩) hS.2.2 dX0_longestByRounds_19
set_option maxHeartbeats 2000000 in
set_option maxRecDepth 100000 in
theorem mt_X0_isOpen (l : Launch) (E : EE) (cw : Nat) (oaA : Nat) (osA : Nat) (hsn : Int) (hdA : Nat) (spA : Nat) (bfA : Nat) (lnA : Nat) (prA : Nat) (ep : Int) (lt : Option Nat) (o : Nat → Nat) (sc : Nat → Int) (ar : Nat → Int → Int) (la : Nat) (zf : Nat → Int64) (k : Int) (g : Int → Int) (hst : l.stackTraces = false) (hsr : SR g sc ar) (hk : -2147483648 ≤ k ∧ k < 2147483648) (sz : Nat) : vx_Met l yX0_isOpen (wsW_ yX0_isOpen cX0_isOpen 4 (some .int) [(0, 16, 19, 48)]) { frames := 8, cells := 1, slots := 6, locals := 133 } (va_Pc [.ref cw, iv k, .ref la] (UX E (([(cw, .inr (1, [.ref (o 0), .ref oaA, .ref osA, iv hsn, .ref hdA, .ref spA, .ref bfA, .ref lnA, .ref prA, iv ep, va_rf lt]))] : va_W) ++ (SW E o sc ar) ++ ([(la, loA (E.2 5) zf)] : va_W)) sz)) (UQx E (Sum.elim (fun u : (Unit) × (Nat → Int64) => (c_in k 0 3 1 = 0) ∧ c_in k 0 3 1 = 0 ∧ u.2 0 = lI (b2 (m_opened g k))) (fun u : Unit => 0 < c_in k 0 3 1 ∧ ∃ En : String, 0 < c_in k 0 3 1 ∧ En = nmX "java/lang/IndexOutOfBoundsException" "" "" (c_in k 0 3 1))) (fun _ => c_in k 0 3 1) (Sum.elim (fun u : (Unit) × (Nat → Int64) => ([(cw, .inr (1, [.ref (o 0), .ref oaA, .ref osA, iv hsn, .ref hdA, .ref spA, .ref bfA, .ref lnA, .ref prA, iv ep, va_rf lt]))] : va_W) ++ (SW E o sc ar) ++ ([(la, loA (E.2 5) u.2)] : va_W)) (fun u : Unit => ([(cw, .inr (1, [.ref (o 0), .ref oaA, .ref osA, iv hsn, .ref hdA, .ref spA, .ref bfA, .ref lnA, .ref prA, iv ep, va_rf lt]))] : va_W) ++ (SW E o sc ar) ++ ([(la, loA (E.2 5) zf)] : va_W))) (va_A (([(cw, .inr (1, [.ref (o 0), .ref oaA, .ref osA, iv hsn, .ref hdA, .ref spA, .ref bfA, .ref lnA, .ref prA, iv ep, va_rf lt]))] : va_W) ++ (SW E o sc ar) ++ ([(la, loA (E.2 5) zf)] : va_W)) sz)) (UXx E (fun (_ : String) (_ : Unit) => False) (fun _ : Unit => []) (fun _ : Unit => none) (va_A (([(cw, .inr (1, [.ref (o 0), .ref oaA, .ref osA, iv hsn, .ref hdA, .ref spA, .ref bfA, .ref lnA, .ref prA, iv ep, va_rf lt]))] : va_W) ++ (SW E o sc ar) ++ ([(la, loA (E.2 5) zf)] : va_W)) sz)) 1 6 (va_A (([(cw, .inr (1, [.ref (o 0), .ref oaA, .ref osA, iv hsn, .ref hdA, .ref spA, .ref bfA, .ref lnA, .ref prA, iv ep, va_rf lt]))] : va_W) ++ (SW E o sc ar) ++ ([(la, loA (E.2 5) zf)] : va_W)) sz) := by
  refine vx_ofWH (hh := [(0, 16, 19, 48)]) (cc := cX0_isOpen) (maxL := 4) (ret := (some .int)) (by decide) rfl ?_
  intro p e s m args below meth c s₁ B hml hv
  obtain ⟨rfl, hsz, hP, hK, hD0, hE⟩ := hv
  have hx := B.exec
  have hb := B.bytes
  have hr := B.returns
  have hts := atoms_spec (ws := (wsW_ yX0_isOpen cX0_isOpen 4 (some .int) [(0, 16, 19, 48)])) B.pre
  have htab : c.exceptionTable.toList = tableOf [(0, 16, 19, 48)] := vx_table (x := yX0_isOpen) B (hts _ List.mem_cons_self)
  have hts : ∀ w ∈ lw_all, w.before _ s = true := fun w h => hts w (List.mem_cons_of_mem _ h)
  have hown : s.vm.findClass RX0 = some m.cls := findClass_of_methodNamed B.named
  have hlocks := B.notSynchronized
  subst hsz
  have hD := hD0.self (sz := s.heap.size)
  generalize hAe : va_A (([(cw, .inr (1, [.ref (o 0), .ref oaA, .ref osA, iv hsn, .ref hdA, .ref spA, .ref bfA, .ref lnA, .ref prA, iv ep, va_rf lt]))] : va_W) ++ (SW E o sc ar) ++ ([(la, loA (E.2 5) zf)] : va_W)) s.heap.size = A at hD hE ⊢
  have hA : ∀ q : Nat, s.heap.size ≤ q → A q := fun q h => by rw [← hAe]; exact Or.inr h
  have hS : va_S A s.heap s.heap [] := va_S.rf
  have hl := lv_entry ([.ref cw, iv k, .ref la]) (n := 4) (Nat.le_of_ble_eq_true rfl)
  rw [lg_entry_eq]
  generalize (lg_sl ([.ref cw, iv k, .ref la]) ++ List.replicate (4 - (lg_sl ([.ref cw, iv k, .ref la])).length) Slot.unset).toArray = ls at hl ⊢
  have hl : lv_has ls 4 [(0, .ref cw), (1, iv k), (2, .ref la)] := hl
  refine lv_aload_n hx hb dX0_isOpen_0 rfl (lv_at hl 2 rfl) ?_
  refine lv_iconst (v := iI 0) hx hb dX0_isOpen_1 rfl ?_
  refine lv_aload_n hx hb dX0_isOpen_2 rfl (lv_at hl 0 rfl) ?_
  refine lv_iload_n hx hb dX0_isOpen_3 rfl (lv_at hl 1 rfl) ?_
  have hg_1 : gpick [[(cw, .inr (1, [.ref (o 0), .ref oaA, .ref osA, iv hsn, .ref hdA, .ref spA, .ref bfA, .ref lnA, .ref prA, iv ep, va_rf lt]))], SW E o sc ar, [(la, loA (E.2 5) zf)]] ([[(cw, .inr (1, [.ref (o 0), .ref oaA, .ref osA, iv hsn, .ref hdA, .ref spA, .ref bfA, .ref lnA, .ref prA, iv ep, va_rf lt]))], SW E o sc ar] ++ [[(la, loA (E.2 5) zf)]]) [0, 1, 2] := ⟨rfl, (show List.Perm [0, 1, 2] (List.range 3) from by decide)⟩
  have hg_1P : va_P E.1 CL (([(cw, .inr (1, [.ref (o 0), .ref oaA, .ref osA, iv hsn, .ref hdA, .ref spA, .ref bfA, .ref lnA, .ref prA, iv ep, va_rf lt]))] : va_W) ++ (SW E o sc ar)) s.heap := (g_out hg_1 hP hD).1
  have hg_1D : va_D A (([(cw, .inr (1, [.ref (o 0), .ref oaA, .ref osA, iv hsn, .ref hdA, .ref spA, .ref bfA, .ref lnA, .ref prA, iv ep, va_rf lt]))] : va_W) ++ (SW E o sc ar)) := (g_out hg_1 hP hD).2
  have hg_1F : ∀ q, va_A (([(cw, .inr (1, [.ref (o 0), .ref oaA, .ref osA, iv hsn, .ref hdA, .ref spA, .ref bfA, .ref lnA, .ref prA, iv ep, va_rf lt]))] : va_W) ++ (SW E o sc ar)) s.heap.size q → A q := g_free hg_1 hP hD hS hA
  have hlt_2 := P_lts hP
  have hz_3 : s.heap.size ≤ s.heap.size := hS.1
  have hj_6 : ∀ u_4 : Unit, gpick ([[(cw, .inr (1, [.ref (o 0), .ref oaA, .ref osA, iv hsn, .ref hdA, .ref spA, .ref bfA, .ref lnA, .ref prA, iv ep, va_rf lt]))], SW E o sc ar] ++ [[(la, loA (E.2 5) zf)]]) [[(cw, .inr (1, [.ref (o 0), .ref oaA, .ref osA, iv hsn, .ref hdA, .ref spA, .ref bfA, .ref lnA, .ref prA, iv ep, va_rf lt]))], SW E o sc ar, [(la, loA (E.2 5) zf)]] [0, 1, 2] := fun u_4 => ⟨rfl, (show List.Perm [0, 1, 2] (List.range 3) from by decide)⟩
  have hj_7 : ∀ u_5 : Unit, gpick ([[(cw, .inr (1, [.ref (o 0), .ref oaA, .ref osA, iv hsn, .ref hdA, .ref spA, .ref bfA, .ref lnA, .ref prA, iv ep, va_rf lt]))], SW E o sc ar] ++ [[(la, loA (E.2 5) zf)]]) [[(cw, .inr (1, [.ref (o 0), .ref oaA, .ref osA, iv hsn, .ref hdA, .ref spA, .ref bfA, .ref lnA, .ref prA, iv ep, va_rf lt]))], SW E o sc ar, [(la, loA (E.2 5) zf)]] [0, 1, 2] := fun u_5 => ⟨rfl, (show List.Perm [0, 1, 2] (List.range 3) from by decide)⟩
  refine n_txB (x := fun u_4 => b2 (m_opened g k)) (w2 := fun u_4 : Unit => ([(cw, .inr (1, [.ref (o 0), .ref oaA, .ref osA, iv hsn, .ref hdA, .ref spA, .ref bfA, .ref lnA, .ref prA, iv ep, va_rf lt]))] : va_W) ++ (SW E o sc ar) ++ ([(la, loA (E.2 5) zf)] : va_W)) (w3 := fun u_5 : Unit => ([(cw, .inr (1, [.ref (o 0), .ref oaA, .ref osA, iv hsn, .ref hdA, .ref spA, .ref bfA, .ref lnA, .ref prA, iv ep, va_rf lt]))] : va_W) ++ (SW E o sc ar) ++ ([(la, loA (E.2 5) zf)] : va_W)) (vx_runV (As := [iv k]) (rest := [iv 0, .ref la]) ⟨hx, hb, hml, hown, hts⟩ (mt_X1_isOpen l E cw oaA osA hsn hdA spA bfA lnA prA ep lt o sc ar k g (by exact hst) (by assumption) (by omega) _) (cwV 1 hts (lw_V q1250 q1251 q1252 q94 q1253) rfl rfl rfl (by decide +kernel) ⟨Nat.le_of_ble_eq_true rfl, Nat.le_of_ble_eq_true rfl⟩) (UX_V hg_1P hK (hg_1D) hE hS hg_1F (va_recv hK.1 hP (ci := 1) (q0 := 0) rfl rfl)) rfl rfl hl.1 rfl (lv_room (Nat.le_of_ble_eq_true rfl)) dX0_isOpen_4 ⟨Nat.le_of_ble_eq_true rfl, Nat.le_of_ble_eq_true rfl⟩) hS hg_1F ?_ ?_ ?_ ?_
  · exact (fun u_4 _ hk9 hp9 hd9 => g_back hg_1 (hj_6 u_4) hP hD hg_1F hk9 hp9 hd9)
  · exact (fun u_5 _ hk9 hp9 hd9 => g_back hg_1 (hj_7 u_5) hP hD hg_1F hk9 hp9 hd9)
  · intro En ce q9 u_5 H locs hCx hP hD hS hxf hq9 hce hcv hcl
    have hCx : 0 < c_in k 0 3 1 ∧ En = nmX "java/lang/IndexOutOfBoundsException" "" "" (c_in k 0 3 1) := hCx
    have hP : va_P E.1 CL (([(cw, .inr (1, [.ref (o 0), .ref oaA, .ref osA, iv hsn, .ref hdA, .ref spA, .ref bfA, .ref lnA, .ref prA, iv ep, va_rf lt]))] : va_W) ++ (SW E o sc ar) ++ ([(la, loA (E.2 5) zf)] : va_W)) H := hP
    have hD : va_D A (([(cw, .inr (1, [.ref (o 0), .ref oaA, .ref osA, iv hsn, .ref hdA, .ref spA, .ref bfA, .ref lnA, .ref prA, iv ep, va_rf lt]))] : va_W) ++ (SW E o sc ar) ++ ([(la, loA (E.2 5) zf)] : va_W)) := hD
    have hcx9 := hCx
    obtain ⟨hc0, hEn9⟩ := hCx
    have hcr9 : c_in k 0 3 1 ≤ 1 := by unfold c_in; split <;> omega
    have hk9 : c_in k 0 3 1 = 1 := by omega
    have hEn9 : En = "java/lang/IndexOutOfBoundsException" := by rw [hEn9, hk9]; rfl
    subst hEn9
    refine vx_catch (own := "ClockworkTailorLaw") hown [] _ [] htab (fun z hz => by cases hz) (by decide) (by decide) (name := "java/lang/IndexOutOfBoundsException") (hts _ q1075) (hK.nw q1112) hce hcv hcl ?_
    refine lv_astore_n (lv' := [(3, .ref q9), (0, .ref cw), (1, iv k), (2, .ref la)]) hx hb dX0_isOpen_19 rfl hl (by decide) rfl (fun ls hl => ?_)
    refine lv_iconst (v := iI 1) hx hb dX0_isOpen_20 rfl ?_
    have hfin : 1 = c_in k 0 3 1 := by
      first | exact hz9.symm | exact hk9.symm
    refine vx_ret ?_
    refine W.widen (k := 1) (n := 6) (Nat.le_of_ble_eq_true rfl) (Nat.le_of_ble_eq_true rfl) ?_
    exact W.iret (v := iI 1) hx hb hr (fun tt_ ht_ hW_ => ⟨⟨iI 1, .inr u_5, rfl, ⟨(show 0 < c_in k 0 3 1 ∧ ∃ En : String, 0 < c_in k 0 3 1 ∧ En = nmX "java/lang/IndexOutOfBoundsException" "" "" (c_in k 0 3 1) from ⟨(by omega), _, hcx9⟩), (congrArg iI hfin)⟩, by rw [ht_]; exact hP, hD⟩, hS.F ht_⟩) hS.2.2 dX0_isOpen_21
  · intro u_4 H locs hC hP hD hS
    have hu_4 : c_in k 0 3 1 = 0 := hC
    have hP : va_P E.1 CL (([(cw, .inr (1, [.ref (o 0), .ref oaA, .ref osA, iv hsn, .ref hdA, .ref spA, .ref bfA, .ref lnA, .ref prA, iv ep, va_rf lt]))] : va_W) ++ (SW E o sc ar) ++ ([(la, loA (E.2 5) zf)] : va_W)) H := hP
    have hD : va_D A (([(cw, .inr (1, [.ref (o 0), .ref oaA, .ref osA, iv hsn, .ref hdA, .ref spA, .ref bfA, .ref lnA, .ref prA, iv ep, va_rf lt]))] : va_W) ++ (SW E o sc ar) ++ ([(la, loA (E.2 5) zf)] : va_W)) := hD
    have hz9 : c_in k 0 3 1 = 0 := hu_4
    refine n_ifb_eq (tgt := 14) hx hb dX0_isOpen_7 (by decide) (fun c_8 => ?_) (fun c_8 => ?_)
    · refine lv_lconst (v := lI 0) hx hb dX0_isOpen_14 rfl ?_
      refine n_last1 hx hb hK.1 hP hD hS 18 rfl dX0_isOpen_15 (ws2 := ([(cw, .inr (1, [.ref (o 0), .ref oaA, .ref osA, iv hsn, .ref hdA, .ref spA, .ref bfA, .ref lnA, .ref prA, iv ep, va_rf lt]))] : va_W) ++ (SW E o sc ar) ++ ([(la, loA (E.2 5) (vp_updL zf 0 (lI 0)))] : va_W)) rfl (fun H locs hP hD hS => ?_)
      have hP : va_P E.1 CL (([(cw, .inr (1, [.ref (o 0), .ref oaA, .ref osA, iv hsn, .ref hdA, .ref spA, .ref bfA, .ref lnA, .ref prA, iv ep, va_rf lt]))] : va_W) ++ (SW E o sc ar) ++ ([(la, loA (E.2 5) (vp_updL zf 0 (lI 0)))] : va_W)) H := hP
      have hD : va_D A (([(cw, .inr (1, [.ref (o 0), .ref oaA, .ref osA, iv hsn, .ref hdA, .ref spA, .ref bfA, .ref lnA, .ref prA, iv ep, va_rf lt]))] : va_W) ++ (SW E o sc ar) ++ ([(la, loA (E.2 5) (vp_updL zf 0 (lI 0)))] : va_W)) := hD
      refine lv_goto (tgt := 22) hx hb dX0_isOpen_16 (by decide) ?_
      refine lv_iconst (v := iI 0) hx hb dX0_isOpen_22 rfl ?_
      have hfin : 0 = c_in k 0 3 1 := by
        first | exact hz9.symm | exact hk9.symm
      refine vx_ret ?_
      refine W.widen (k := 1) (n := 6) (Nat.le_of_ble_eq_true rfl) (Nat.le_of_ble_eq_true rfl) ?_
      exact W.iret (v := iI 0) hx hb hr (fun tt_ ht_ hW_ => ⟨⟨iI 0, .inl (u_4, (vp_updL zf 0 (lI 0))), rfl, ⟨(show (c_in k 0 3 1 = 0) ∧ c_in k 0 3 1 = 0 ∧ (u_4, (vp_updL zf 0 (lI 0))).2 0 = lI (b2 (m_opened g k)) from ⟨hu_4, hz9, (by show lI _ = lI _; rw [c_8]; rfl)⟩), (congrArg iI hfin)⟩, by rw [ht_]; exact hP, hD⟩, hS.F ht_⟩) hS.2.2 dX0_isOpen_23
    · refine lv_lconst (v := lI 1) hx hb dX0_isOpen_10 rfl ?_
      refine lv_goto (tgt := 15) hx hb dX0_isOpen_11 (by decide) ?_
      refine n_last1 hx hb hK.1 hP hD hS 18 rfl dX0_isOpen_15 (ws2 := ([(cw, .inr (1, [.ref (o 0), .ref oaA, .ref osA, iv hsn, .ref hdA, .ref spA, .ref bfA, .ref lnA, .ref prA, iv ep, va_rf lt]))] : va_W) ++ (SW E o sc ar) ++ ([(la, loA (E.2 5) (vp_updL zf 0 (lI 1)))] : va_W)) rfl (fun H locs hP hD hS => ?_)
      have hP : va_P E.1 CL (([(cw, .inr (1, [.ref (o 0), .ref oaA, .ref osA, iv hsn, .ref hdA, .ref spA, .ref bfA, .ref lnA, .ref prA, iv ep, va_rf lt]))] : va_W) ++ (SW E o sc ar) ++ ([(la, loA (E.2 5) (vp_updL zf 0 (lI 1)))] : va_W)) H := hP
      have hD : va_D A (([(cw, .inr (1, [.ref (o 0), .ref oaA, .ref osA, iv hsn, .ref hdA, .ref spA, .ref bfA, .ref lnA, .ref prA, iv ep, va_rf lt]))] : va_W) ++ (SW E o sc ar) ++ ([(la, loA (E.2 5) (vp_updL zf 0 (lI 1)))] : va_W)) := hD
      refine lv_goto (tgt := 22) hx hb dX0_isOpen_16 (by decide) ?_
      refine lv_iconst (v := iI 0) hx hb dX0_isOpen_22 rfl ?_
      have hfin : 0 = c_in k 0 3 1 := by
        first | exact hz9.symm | exact hk9.symm
      refine vx_ret ?_
      refine W.widen (k := 1) (n := 6) (Nat.le_of_ble_eq_true rfl) (Nat.le_of_ble_eq_true rfl) ?_
      exact W.iret (v := iI 0) hx hb hr (fun tt_ ht_ hW_ => ⟨⟨iI 0, .inl (u_4, (vp_updL zf 0 (lI 1))), rfl, ⟨(show (c_in k 0 3 1 = 0) ∧ c_in k 0 3 1 = 0 ∧ (u_4, (vp_updL zf 0 (lI 1))).2 0 = lI (b2 (m_opened g k)) from ⟨hu_4, hz9, (by show lI _ = lI _; rw [c_8]; rfl)⟩), (congrArg iI hfin)⟩, by rw [ht_]; exact hP, hD⟩, hS.F ht_⟩) hS.2.2 dX0_isOpen_23
set_option maxHeartbeats 2000000 in
set_option maxRecDepth 100000 in
theorem mt_X0_isThere (l : Launch) (E : EE) (cw : Nat) (oaA : Nat) (osA : Nat) (hsn : Int) (hdA : Nat) (spA : Nat) (bfA : Nat) (lnA : Nat) (prA : Nat) (ep : Int) (lt : Option Nat) (o : Nat → Nat) (sc : Nat → Int) (ar : Nat → Int → Int) (la : Nat) (zf : Nat → Int64) (k : Int) (g : Int → Int) (hst : l.stackTraces = false) (hsr : SR g sc ar) (hk : -2147483648 ≤ k ∧ k < 2147483648) (how : OY g) (sz : Nat) : vx_Met l yX0_isThere (wsW_ yX0_isThere cX0_isThere 4 (some .int) [(0, 16, 19, 48)]) { frames := 8, cells := 1, slots := 6, locals := 133 } (va_Pc [.ref cw, iv k, .ref la] (UX E (([(cw, .inr (1, [.ref (o 0), .ref oaA, .ref osA, iv hsn, .ref hdA, .ref spA, .ref bfA, .ref lnA, .ref prA, iv ep, va_rf lt]))] : va_W) ++ (SW E o sc ar) ++ ([(la, loA (E.2 5) zf)] : va_W)) sz)) (UQx E (Sum.elim (fun u : (Unit) × (Nat → Int64) => (c_in k 0 (g 1 - 1) 1 = 0) ∧ c_in k 0 (g 1 - 1) 1 = 0 ∧ u.2 0 = lI (b2 (m_here g k))) (fun u : Unit => 0 < c_in k 0 (g 1 - 1) 1 ∧ ∃ En : String, 0 < c_in k 0 (g 1 - 1) 1 ∧ En = nmX "java/lang/IndexOutOfBoundsException" "" "" (c_in k 0 (g 1 - 1) 1))) (fun _ => c_in k 0 (g 1 - 1) 1) (Sum.elim (fun u : (Unit) × (Nat → Int64) => ([(cw, .inr (1, [.ref (o 0), .ref oaA, .ref osA, iv hsn, .ref hdA, .ref spA, .ref bfA, .ref lnA, .ref prA, iv ep, va_rf lt]))] : va_W) ++ (SW E o sc ar) ++ ([(la, loA (E.2 5) u.2)] : va_W)) (fun u : Unit => ([(cw, .inr (1, [.ref (o 0), .ref oaA, .ref osA, iv hsn, .ref hdA, .ref spA, .ref bfA, .ref lnA, .ref prA, iv ep, va_rf lt]))] : va_W) ++ (SW E o sc ar) ++ ([(la, loA (E.2 5) zf)] : va_W))) (va_A (([(cw, .inr (1, [.ref (o 0), .ref oaA, .ref osA, iv hsn, .ref hdA, .ref spA, .ref bfA, .ref lnA, .ref prA, iv ep, va_rf lt]))] : va_W) ++ (SW E o sc ar) ++ ([(la, loA (E.2 5) zf)] : va_W)) sz)) (UXx E (fun (_ : String) (_ : Unit) => False) (fun _ : Unit => []) (fun _ : Unit => none) (va_A (([(cw, .inr (1, [.ref (o 0), .ref oaA, .ref osA, iv hsn, .ref hdA, .ref spA, .ref bfA, .ref lnA, .ref prA, iv ep, va_rf lt]))] : va_W) ++ (SW E o sc ar) ++ ([(la, loA (E.2 5) zf)] : va_W)) sz)) 1 6 (va_A (([(cw, .inr (1, [.ref (o 0), .ref oaA, .ref osA, iv hsn, .ref hdA, .ref spA, .ref bfA, .ref lnA, .ref prA, iv ep, va_rf lt]))] : va_W) ++ (SW E o sc ar) ++ ([(la, loA (E.2 5) zf)] : va_W)) sz) := by
  refine vx_ofWH (hh := [(0, 16, 19, 48)]) (cc := cX0_isThere) (maxL := 4) (ret := (some .int)) (by decide) rfl ?_
  intro p e s m args below meth c s₁ B hml hv
  obtain ⟨rfl, hsz, hP, hK, hD0, hE⟩ := hv
  have hx := B.exec
  have hb := B.bytes
  have hr := B.returns
  have hts := atoms_spec (ws := (wsW_ yX0_isThere cX0_isThere 4 (some .int) [(0, 16, 19, 48)])) B.pre
  have htab : c.exceptionTable.toList = tableOf [(0, 16, 19, 48)] := vx_table (x := yX0_isThere) B (hts _ List.mem_cons_self)
  have hts : ∀ w ∈ lw_all, w.before _ s = true := fun w h => hts w (List.mem_cons_of_mem _ h)
  have hown : s.vm.findClass RX0 = some m.cls := findClass_of_methodNamed B.named
  have hlocks := B.notSynchronized
  subst hsz
  have hD := hD0.self (sz := s.heap.size)
  generalize hAe : va_A (([(cw, .inr (1, [.ref (o 0), .ref oaA, .ref osA, iv hsn, .ref hdA, .ref spA, .ref bfA, .ref lnA, .ref prA, iv ep, va_rf lt]))] : va_W) ++ (SW E o sc ar) ++ ([(la, loA (E.2 5) zf)] : va_W)) s.heap.size = A at hD hE ⊢
  have hA : ∀ q : Nat, s.heap.size ≤ q → A q := fun q h => by rw [← hAe]; exact Or.inr h
  have hS : va_S A s.heap s.heap [] := va_S.rf
  have hl := lv_entry ([.ref cw, iv k, .ref la]) (n := 4) (Nat.le_of_ble_eq_true rfl)
  rw [lg_entry_eq]
  generalize (lg_sl ([.ref cw, iv k, .ref la]) ++ List.replicate (4 - (lg_sl ([.ref cw, iv k, .ref la])).length) Slot.unset).toArray = ls at hl ⊢
  have hl : lv_has ls 4 [(0, .ref cw), (1, iv k), (2, .ref la)] := hl
  refine lv_aload_n hx hb dX0_isThere_0 rfl (lv_at hl 2 rfl) ?_
  refine lv_iconst (v := iI 0) hx hb dX0_isThere_1 rfl ?_
  refine lv_aload_n hx hb dX0_isThere_2 rfl (lv_at hl 0 rfl) ?_
  refine lv_iload_n hx hb dX0_isThere_3 rfl (lv_at hl 1 rfl) ?_
  have hg_1 : gpick [[(cw, .inr (1, [.ref (o 0), .ref oaA, .ref osA, iv hsn, .ref hdA, .ref spA, .ref bfA, .ref lnA, .ref prA, iv ep, va_rf lt]))], SW E o sc ar, [(la, loA (E.2 5) zf)]] ([[(cw, .inr (1, [.ref (o 0), .ref oaA, .ref osA, iv hsn, .ref hdA, .ref spA, .ref bfA, .ref lnA, .ref prA, iv ep, va_rf lt]))], SW E o sc ar] ++ [[(la, loA (E.2 5) zf)]]) [0, 1, 2] := ⟨rfl, (show List.Perm [0, 1, 2] (List.range 3) from by decide)⟩
  have hg_1P : va_P E.1 CL (([(cw, .inr (1, [.ref (o 0), .ref oaA, .ref osA, iv hsn, .ref hdA, .ref spA, .ref bfA, .ref lnA, .ref prA, iv ep, va_rf lt]))] : va_W) ++ (SW E o sc ar)) s.heap := (g_out hg_1 hP hD).1
  have hg_1D : va_D A (([(cw, .inr (1, [.ref (o 0), .ref oaA, .ref osA, iv hsn, .ref hdA, .ref spA, .ref bfA, .ref lnA, .ref prA, iv ep, va_rf lt]))] : va_W) ++ (SW E o sc ar)) := (g_out hg_1 hP hD).2
  have hg_1F : ∀ q, va_A (([(cw, .inr (1, [.ref (o 0), .ref oaA, .ref osA, iv hsn, .ref hdA, .ref spA, .ref bfA, .ref lnA, .ref prA, iv ep, va_rf lt]))] : va_W) ++ (SW E o sc ar)) s.heap.size q → A q := g_free hg_1 hP hD hS hA
  have hlt_2 := P_lts hP
  have hz_3 : s.heap.size ≤ s.heap.size := hS.1
  have hj_6 : ∀ u_4 : Unit, gpick ([[(cw, .inr (1, [.ref (o 0), .ref oaA, .ref osA, iv hsn, .ref hdA, .ref spA, .ref bfA, .ref lnA, .ref prA, iv ep, va_rf lt]))], SW E o sc ar] ++ [[(la, loA (E.2 5) zf)]]) [[(cw, .inr (1, [.ref (o 0), .ref oaA, .ref osA, iv hsn, .ref hdA, .ref spA, .ref bfA, .ref lnA, .ref prA, iv ep, va_rf lt]))], SW E o sc ar, [(la, loA (E.2 5) zf)]] [0, 1, 2] := fun u_4 => ⟨rfl, (show List.Perm [0, 1, 2] (List.range 3) from by decide)⟩
  have hj_7 : ∀ u_5 : Unit, gpick ([[(cw, .inr (1, [.ref (o 0), .ref oaA, .ref osA, iv hsn, .ref hdA, .ref spA, .ref bfA, .ref lnA, .ref prA, iv ep, va_rf lt]))], SW E o sc ar] ++ [[(la, loA (E.2 5) zf)]]) [[(cw, .inr (1, [.ref (o 0), .ref oaA, .ref osA, iv hsn, .ref hdA, .ref spA, .ref bfA, .ref lnA, .ref prA, iv ep, va_rf lt]))], SW E o sc ar, [(la, loA (E.2 5) zf)]] [0, 1, 2] := fun u_5 => ⟨rfl, (show List.Perm [0, 1, 2] (List.range 3) from by decide)⟩
  refine n_txB (x := fun u_4 => b2 (m_here g k)) (w2 := fun u_4 : Unit => ([(cw, .inr (1, [.ref (o 0), .ref oaA, .ref osA, iv hsn, .ref hdA, .ref spA, .ref bfA, .ref lnA, .ref prA, iv ep, va_rf lt]))] : va_W) ++ (SW E o sc ar) ++ ([(la, loA (E.2 5) zf)] : va_W)) (w3 := fun u_5 : Unit => ([(cw, .inr (1, [.ref (o 0), .ref oaA, .ref osA, iv hsn, .ref hdA, .ref spA, .ref bfA, .ref lnA, .ref prA, iv ep, va_rf lt]))] : va_W) ++ (SW E o sc ar) ++ ([(la, loA (E.2 5) zf)] : va_W)) (vx_runV (As := [iv k]) (rest := [iv 0, .ref la]) ⟨hx, hb, hml, hown, hts⟩ (mt_X1_isThere l E cw oaA osA hsn hdA spA bfA lnA prA ep lt o sc ar k g (by exact hst) (by assumption) (by omega) (by assumption) _) (cwV 1 hts (lw_V q1311 q1312 q1313 q94 q1314) rfl rfl rfl (by decide +kernel) ⟨Nat.le_of_ble_eq_true rfl, Nat.le_of_ble_eq_true rfl⟩) (UX_V hg_1P hK (hg_1D) hE hS hg_1F (va_recv hK.1 hP (ci := 1) (q0 := 0) rfl rfl)) rfl rfl hl.1 rfl (lv_room (Nat.le_of_ble_eq_true rfl)) dX0_isThere_4 ⟨Nat.le_of_ble_eq_true rfl, Nat.le_of_ble_eq_true rfl⟩) hS hg_1F ?_ ?_ ?_ ?_
  · exact (fun u_4 _ hk9 hp9 hd9 => g_back hg_1 (hj_6 u_4) hP hD hg_1F hk9 hp9 hd9)
  · exact (fun u_5 _ hk9 hp9 hd9 => g_back hg_1 (hj_7 u_5) hP hD hg_1F hk9 hp9 hd9)
  · intro En ce q9 u_5 H locs hCx hP hD hS hxf hq9 hce hcv hcl
    have hCx : 0 < c_in k 0 (g 1 - 1) 1 ∧ En = nmX "java/lang/IndexOutOfBoundsException" "" "" (c_in k 0 (g 1 - 1) 1) := hCx
    have hP : va_P E.1 CL (([(cw, .inr (1, [.ref (o 0), .ref oaA, .ref osA, iv hsn, .ref hdA, .ref spA, .ref bfA, .ref lnA, .ref prA, iv ep, va_rf lt]))] : va_W) ++ (SW E o sc ar) ++ ([(la, loA (E.2 5) zf)] : va_W)) H := hP
    have hD : va_D A (([(cw, .inr (1, [.ref (o 0), .ref oaA, .ref osA, iv hsn, .ref hdA, .ref spA, .ref bfA, .ref lnA, .ref prA, iv ep, va_rf lt]))] : va_W) ++ (SW E o sc ar) ++ ([(la, loA (E.2 5) zf)] : va_W)) := hD
    have hcx9 := hCx
    obtain ⟨hc0, hEn9⟩ := hCx
    have hcr9 : c_in k 0 (g 1 - 1) 1 ≤ 1 := by unfold c_in; split <;> omega
    have hk9 : c_in k 0 (g 1 - 1) 1 = 1 := by omega
    have hEn9 : En = "java/lang/IndexOutOfBoundsException" := by rw [hEn9, hk9]; rfl
    subst hEn9
    refine vx_catch (own := "ClockworkTailorLaw") hown [] _ [] htab (fun z hz => by cases hz) (by decide) (by decide) (name := "java/lang/IndexOutOfBoundsException") (hts _ q1075) (hK.nw q1112) hce hcv hcl ?_
    refine lv_astore_n (lv' := [(3, .ref q9), (0, .ref cw), (1, iv k), (2, .ref la)]) hx hb dX0_isThere_19 rfl hl (by decide) rfl (fun ls hl => ?_)
    refine lv_iconst (v := iI 1) hx hb dX0_isThere_20 rfl ?_
    have hfin : 1 = c_in k 0 (g 1 - 1) 1 := by
      first | exact hz9.symm | exact hk9.symm
    refine vx_ret ?_
    refine W.widen (k := 1) (n := 6) (Nat.le_of_ble_eq_true rfl) (Nat.le_of_ble_eq_true rfl) ?_
    exact W.iret (v := iI 1) hx hb hr (fun tt_ ht_ hW_ => ⟨⟨iI 1, .inr u_5, rfl, ⟨(show 0 < c_in k 0 (g 1 - 1) 1 ∧ ∃ En : String, 0 < c_in k 0 (g 1 - 1) 1 ∧ En = nmX "java/lang/IndexOutOfBoundsException" "" "" (c_in k 0 (g 1 - 1) 1) from ⟨(by omega), _, hcx9⟩), (congrArg iI hfin)⟩, by rw [ht_]; exact hP, hD⟩, hS.F ht_⟩) hS.2.2 dX0_isThere_21
  · intro u_4 H locs hC hP hD hS
    have hu_4 : c_in k 0 (g 1 - 1) 1 = 0 := hC
    have hP : va_P E.1 CL (([(cw, .inr (1, [.ref (o 0), .ref oaA, .ref osA, iv hsn, .ref hdA, .ref spA, .ref bfA, .ref lnA, .ref prA, iv ep, va_rf lt]))] : va_W) ++ (SW E o sc ar) ++ ([(la, loA (E.2 5) zf)] : va_W)) H := hP
    have hD : va_D A (([(cw, .inr (1, [.ref (o 0), .ref oaA, .ref osA, iv hsn, .ref hdA, .ref spA, .ref bfA, .ref lnA, .ref prA, iv ep, va_rf lt]))] : va_W) ++ (SW E o sc ar) ++ ([(la, loA (E.2 5) zf)] : va_W)) := hD
    have hz9 : c_in k 0 (g 1 - 1) 1 = 0 := hu_4
    refine n_ifb_eq (tgt := 14) hx hb dX0_isThere_7 (by decide) (fun c_8 => ?_) (fun c_8 => ?_)
    · refine lv_lconst (v := lI 0) hx hb dX0_isThere_14 rfl ?_
      refine n_last1 hx hb hK.1 hP hD hS 18 rfl dX0_isThere_15 (ws2 := ([(cw, .inr (1, [.ref (o 0), .ref oaA, .ref osA, iv hsn, .ref hdA, .ref spA, .ref bfA, .ref lnA, .ref prA, iv ep, va_rf lt]))] : va_W) ++ (SW E o sc ar) ++ ([(la, loA (E.2 5) (vp_updL zf 0 (lI 0)))] : va_W)) rfl (fun H locs hP hD hS => ?_)
      have hP : va_P E.1 CL (([(cw, .inr (1, [.ref (o 0), .ref oaA, .ref osA, iv hsn, .ref hdA, .ref spA, .ref bfA, .ref lnA, .ref prA, iv ep, va_rf lt]))] : va_W) ++ (SW E o sc ar) ++ ([(la, loA (E.2 5) (vp_updL zf 0 (lI 0)))] : va_W)) H := hP
      have hD : va_D A (([(cw, .inr (1, [.ref (o 0), .ref oaA, .ref osA, iv hsn, .ref hdA, .ref spA, .ref bfA, .ref lnA, .ref prA, iv ep, va_rf lt]))] : va_W) ++ (SW E o sc ar) ++ ([(la, loA (E.2 5) (vp_updL zf 0 (lI 0)))] : va_W)) := hD
      refine lv_goto (tgt := 22) hx hb dX0_isThere_16 (by decide) ?_
      refine lv_iconst (v := iI 0) hx hb dX0_isThere_22 rfl ?_
      have hfin : 0 = c_in k 0 (g 1 - 1) 1 := by
        first | exact hz9.symm | exact hk9.symm
      refine vx_ret ?_
      refine W.widen (k := 1) (n := 6) (Nat.le_of_ble_eq_true rfl) (Nat.le_of_ble_eq_true rfl) ?_
      exact W.iret (v := iI 0) hx hb hr (fun tt_ ht_ hW_ => ⟨⟨iI 0, .inl (u_4, (vp_updL zf 0 (lI 0))), rfl, ⟨(show (c_in k 0 (g 1 - 1) 1 = 0) ∧ c_in k 0 (g 1 - 1) 1 = 0 ∧ (u_4, (vp_updL zf 0 (lI 0))).2 0 = lI (b2 (m_here g k)) from ⟨hu_4, hz9, (by show lI _ = lI _; rw [c_8]; rfl)⟩), (congrArg iI hfin)⟩, by rw [ht_]; exact hP, hD⟩, hS.F ht_⟩) hS.2.2 dX0_isThere_23
    · refine lv_lconst (v := lI 1) hx hb dX0_isThere_10 rfl ?_
      refine lv_goto (tgt := 15) hx hb dX0_isThere_11 (by decide) ?_
      refine n_last1 hx hb hK.1 hP hD hS 18 rfl dX0_isThere_15 (ws2 := ([(cw, .inr (1, [.ref (o 0), .ref oaA, .ref osA, iv hsn, .ref hdA, .ref spA, .ref bfA, .ref lnA, .ref prA, iv ep, va_rf lt]))] : va_W) ++ (SW E o sc ar) ++ ([(la, loA (E.2 5) (vp_updL zf 0 (lI 1)))] : va_W)) rfl (fun H locs hP hD hS => ?_)
      have hP : va_P E.1 CL (([(cw, .inr (1, [.ref (o 0), .ref oaA, .ref osA, iv hsn, .ref hdA, .ref spA, .ref bfA, .ref lnA, .ref prA, iv ep, va_rf lt]))] : va_W) ++ (SW E o sc ar) ++ ([(la, loA (E.2 5) (vp_updL zf 0 (lI 1)))] : va_W)) H := hP
      have hD : va_D A (([(cw, .inr (1, [.ref (o 0), .ref oaA, .ref osA, iv hsn, .ref hdA, .ref spA, .ref bfA, .ref lnA, .ref prA, iv ep, va_rf lt]))] : va_W) ++ (SW E o sc ar) ++ ([(la, loA (E.2 5) (vp_updL zf 0 (lI 1)))] : va_W)) := hD
      refine lv_goto (tgt := 22) hx hb dX0_isThere_16 (by decide) ?_
      refine lv_iconst (v := iI 0) hx hb dX0_isThere_22 rfl ?_
      have hfin : 0 = c_in k 0 (g 1 - 1) 1 := by
        first | exact hz9.symm | exact hk9.symm
      refine vx_ret ?_
      refine W.widen (k := 1) (n := 6) (Nat.le_of_ble_eq_true rfl) (Nat.le_of_ble_eq_true rfl) ?_
      exact W.iret (v := iI 0) hx hb hr (fun tt_ ht_ hW_ => ⟨⟨iI 0, .inl (u_4, (vp_updL zf 0 (lI 1))), rfl, ⟨(show (c_in k 0 (g 1 - 1) 1 = 0) ∧ c_in k 0 (g 1 - 1) 1 = 0 ∧ (u_4, (vp_updL zf 0 (lI 1))).2 0 = lI (b2 (m_here g k)) from ⟨hu_4, hz9, (by show lI _ = lI _; rw [c_8]; rfl)⟩), (congrArg iI hfin)⟩, by rw [ht_]; exact hP, hD⟩, hS.F ht_⟩) hS.2.2 dX0_isThere_23
set_option maxHeartbeats 2000000 in
set_option maxRecDepth 100000 in
theorem mt_X0_toolOf (l : Launch) (E : EE) (cw : Nat) (oaA : Nat) (osA : Nat) (hsn : Int) (hdA : Nat) (spA : Nat) (bfA : Nat) (lnA : Nat) (prA : Nat) (ep : Int) (lt : Option Nat) (o : Nat → Nat) (sc : Nat → Int) (ar : Nat → Int → Int) (la : Nat) (zf : Nat → Int64) (k : Int) (g : Int → Int) (hst : l.stackTraces = false) (hsr : SR g sc ar) (hk : -2147483648 ≤ k ∧ k < 2147483648) (how : OY g) (sz : Nat) : vx_Met l yX0_toolOf (wsW_ yX0_toolOf cX0_toolOf 4 (some .int) [(0, 9, 12, 48)]) { frames := 9, cells := 1, slots := 6, locals := 154 } (va_Pc [.ref cw, iv k, .ref la] (UX E (([(cw, .inr (1, [.ref (o 0), .ref oaA, .ref osA, iv hsn, .ref hdA, .ref spA, .ref bfA, .ref lnA, .ref prA, iv ep, va_rf lt]))] : va_W) ++ (SW E o sc ar) ++ ([(la, loA (E.2 5) zf)] : va_W)) sz)) (UQx E (Sum.elim (fun u : (Unit) × (Nat → Int64) => (c_obj g k = 0) ∧ c_obj g k = 0 ∧ u.2 0 = (iI (97 + m_thing g k 0)).toInt64) (fun u : Unit => 0 < c_obj g k ∧ ∃ En : String, 0 < c_obj g k ∧ En = nmX "java/lang/IndexOutOfBoundsException" "" "" (c_obj g k))) (fun _ => c_obj g k) (Sum.elim (fun u : (Unit) × (Nat → Int64) => ([(cw, .inr (1, [.ref (o 0), .ref oaA, .ref osA, iv hsn, .ref hdA, .ref spA, .ref bfA, .ref lnA, .ref prA, iv ep, va_rf lt]))] : va_W) ++ (SW E o sc ar) ++ ([(la, loA (E.2 5) u.2)] : va_W)) (fun u : Unit => ([(cw, .inr (1, [.ref (o 0), .ref oaA, .ref osA, iv hsn, .ref hdA, .ref spA, .ref bfA, .ref lnA, .ref prA, iv ep, va_rf lt]))] : va_W) ++ (SW E o sc ar) ++ ([(la, loA (E.2 5) zf)] : va_W))) (va_A (([(cw, .inr (1, [.ref (o 0), .ref oaA, .ref osA, iv hsn, .ref hdA, .ref spA, .ref bfA, .ref lnA, .ref prA, iv ep, va_rf lt]))] : va_W) ++ (SW E o sc ar) ++ ([(la, loA (E.2 5) zf)] : va_W)) sz)) (UXx E (fun (_ : String) (_ : Unit) => False) (fun _ : Unit => []) (fun _ : Unit => none) (va_A (([(cw, .inr (1, [.ref (o 0), .ref oaA, .ref osA, iv hsn, .ref hdA, .ref spA, .ref bfA, .ref lnA, .ref prA, iv ep, va_rf lt]))] : va_W) ++ (SW E o sc ar) ++ ([(la, loA (E.2 5) zf)] : va_W)) sz)) 1 6 (va_A (([(cw, .inr (1, [.ref (o 0), .ref oaA, .ref osA, iv hsn, .ref hdA, .ref spA, .ref bfA, .ref lnA, .ref prA, iv ep, va_rf lt]))] : va_W) ++ (SW E o sc ar) ++ ([(la, loA (E.2 5) zf)] : va_W)) sz) := by
  refine vx_ofWH (hh := [(0, 9, 12, 48)]) (cc := cX0_toolOf) (maxL := 4) (ret := (some .int)) (by decide) rfl ?_
  intro p e s m args below meth c s₁ B hml hv
  obtain ⟨rfl, hsz, hP, hK, hD0, hE⟩ := hv
  have hx := B.exec
  have hb := B.bytes
  have hr := B.returns
  have hts := atoms_spec (ws := (wsW_ yX0_toolOf cX0_toolOf 4 (some .int) [(0, 9, 12, 48)])) B.pre
  have htab : c.exceptionTable.toList = tableOf [(0, 9, 12, 48)] := vx_table (x := yX0_toolOf) B (hts _ List.mem_cons_self)
  have hts : ∀ w ∈ lw_all, w.before _ s = true := fun w h => hts w (List.mem_cons_of_mem _ h)
  have hown : s.vm.findClass RX0 = some m.cls := findClass_of_methodNamed B.named
  have hlocks := B.notSynchronized
  subst hsz
  have hD := hD0.self (sz := s.heap.size)
  generalize hAe : va_A (([(cw, .inr (1, [.ref (o 0), .ref oaA, .ref osA, iv hsn, .ref hdA, .ref spA, .ref bfA, .ref lnA, .ref prA, iv ep, va_rf lt]))] : va_W) ++ (SW E o sc ar) ++ ([(la, loA (E.2 5) zf)] : va_W)) s.heap.size = A at hD hE ⊢
  have hA : ∀ q : Nat, s.heap.size ≤ q → A q := fun q h => by rw [← hAe]; exact Or.inr h
  have hS : va_S A s.heap s.heap [] := va_S.rf
  have hl := lv_entry ([.ref cw, iv k, .ref la]) (n := 4) (Nat.le_of_ble_eq_true rfl)
  rw [lg_entry_eq]
  generalize (lg_sl ([.ref cw, iv k, .ref la]) ++ List.replicate (4 - (lg_sl ([.ref cw, iv k, .ref la])).length) Slot.unset).toArray = ls at hl ⊢
  have hl : lv_has ls 4 [(0, .ref cw), (1, iv k), (2, .ref la)] := hl
  refine lv_aload_n hx hb dX0_toolOf_0 rfl (lv_at hl 2 rfl) ?_
  refine lv_iconst (v := iI 0) hx hb dX0_toolOf_1 rfl ?_
  refine lv_aload_n hx hb dX0_toolOf_2 rfl (lv_at hl 0 rfl) ?_
  refine lv_iload_n hx hb dX0_toolOf_3 rfl (lv_at hl 1 rfl) ?_
  have hg_1 : gpick [[(cw, .inr (1, [.ref (o 0), .ref oaA, .ref osA, iv hsn, .ref hdA, .ref spA, .ref bfA, .ref lnA, .ref prA, iv ep, va_rf lt]))], SW E o sc ar, [(la, loA (E.2 5) zf)]] ([[(cw, .inr (1, [.ref (o 0), .ref oaA, .ref osA, iv hsn, .ref hdA, .ref spA, .ref bfA, .ref lnA, .ref prA, iv ep, va_rf lt]))], SW E o sc ar] ++ [[(la, loA (E.2 5) zf)]]) [0, 1, 2] := ⟨rfl, (show List.Perm [0, 1, 2] (List.range 3) from by decide)⟩
  have hg_1P : va_P E.1 CL (([(cw, .inr (1, [.ref (o 0), .ref oaA, .ref osA, iv hsn, .ref hdA, .ref spA, .ref bfA, .ref lnA, .ref prA, iv ep, va_rf lt]))] : va_W) ++ (SW E o sc ar)) s.heap := (g_out hg_1 hP hD).1
  have hg_1D : va_D A (([(cw, .inr (1, [.ref (o 0), .ref oaA, .ref osA, iv hsn, .ref hdA, .ref spA, .ref bfA, .ref lnA, .ref prA, iv ep, va_rf lt]))] : va_W) ++ (SW E o sc ar)) := (g_out hg_1 hP hD).2
  have hg_1F : ∀ q, va_A (([(cw, .inr (1, [.ref (o 0), .ref oaA, .ref osA, iv hsn, .ref hdA, .ref spA, .ref bfA, .ref lnA, .ref prA, iv ep, va_rf lt]))] : va_W) ++ (SW E o sc ar)) s.heap.size q → A q := g_free hg_1 hP hD hS hA
  have hlt_2 := P_lts hP
  have hz_3 : s.heap.size ≤ s.heap.size := hS.1
  have hj_6 : ∀ u_4 : Unit, gpick ([[(cw, .inr (1, [.ref (o 0), .ref oaA, .ref osA, iv hsn, .ref hdA, .ref spA, .ref bfA, .ref lnA, .ref prA, iv ep, va_rf lt]))], SW E o sc ar] ++ [[(la, loA (E.2 5) zf)]]) [[(cw, .inr (1, [.ref (o 0), .ref oaA, .ref osA, iv hsn, .ref hdA, .ref spA, .ref bfA, .ref lnA, .ref prA, iv ep, va_rf lt]))], SW E o sc ar, [(la, loA (E.2 5) zf)]] [0, 1, 2] := fun u_4 => ⟨rfl, (show List.Perm [0, 1, 2] (List.range 3) from by decide)⟩
  have hj_7 : ∀ u_5 : Unit, gpick ([[(cw, .inr (1, [.ref (o 0), .ref oaA, .ref osA, iv hsn, .ref hdA, .ref spA, .ref bfA, .ref lnA, .ref prA, iv ep, va_rf lt]))], SW E o sc ar] ++ [[(la, loA (E.2 5) zf)]]) [[(cw, .inr (1, [.ref (o 0), .ref oaA, .ref osA, iv hsn, .ref hdA, .ref spA, .ref bfA, .ref lnA, .ref prA, iv ep, va_rf lt]))], SW E o sc ar, [(la, loA (E.2 5) zf)]] [0, 1, 2] := fun u_5 => ⟨rfl, (show List.Perm [0, 1, 2] (List.range 3) from by decide)⟩
  refine n_txB (x := fun u_4 => 97 + m_thing g k 0) (w2 := fun u_4 : Unit => ([(cw, .inr (1, [.ref (o 0), .ref oaA, .ref osA, iv hsn, .ref hdA, .ref spA, .ref bfA, .ref lnA, .ref prA, iv ep, va_rf lt]))] : va_W) ++ (SW E o sc ar) ++ ([(la, loA (E.2 5) zf)] : va_W)) (w3 := fun u_5 : Unit => ([(cw, .inr (1, [.ref (o 0), .ref oaA, .ref osA, iv hsn, .ref hdA, .ref spA, .ref bfA, .ref lnA, .ref prA, iv ep, va_rf lt]))] : va_W) ++ (SW E o sc ar) ++ ([(la, loA (E.2 5) zf)] : va_W)) (vx_runV (As := [iv k]) (rest := [iv 0, .ref la]) ⟨hx, hb, hml, hown, hts⟩ (mt_X1_toolOf l E cw oaA osA hsn hdA spA bfA lnA prA ep lt o sc ar k g (by exact hst) (by assumption) (by omega) (by assumption) _) (cwV 1 hts (lw_V q1318 q1319 q1320 q94 q1321) rfl rfl rfl (by decide +kernel) ⟨Nat.le_of_ble_eq_true rfl, Nat.le_of_ble_eq_true rfl⟩) (UX_V hg_1P hK (hg_1D) hE hS hg_1F (va_recv hK.1 hP (ci := 1) (q0 := 0) rfl rfl)) rfl rfl hl.1 rfl (lv_room (Nat.le_of_ble_eq_true rfl)) dX0_toolOf_4 ⟨Nat.le_of_ble_eq_true rfl, Nat.le_of_ble_eq_true rfl⟩) hS hg_1F ?_ ?_ ?_ ?_
  · exact (fun u_4 _ hk9 hp9 hd9 => g_back hg_1 (hj_6 u_4) hP hD hg_1F hk9 hp9 hd9)
  · exact (fun u_5 _ hk9 hp9 hd9 => g_back hg_1 (hj_7 u_5) hP hD hg_1F hk9 hp9 hd9)
  · intro En ce q9 u_5 H locs hCx hP hD hS hxf hq9 hce hcv hcl
    have hCx : 0 < c_obj g k ∧ En = nmX "java/lang/IndexOutOfBoundsException" "" "" (c_obj g k) := hCx
    have hP : va_P E.1 CL (([(cw, .inr (1, [.ref (o 0), .ref oaA, .ref osA, iv hsn, .ref hdA, .ref spA, .ref bfA, .ref lnA, .ref prA, iv ep, va_rf lt]))] : va_W) ++ (SW E o sc ar) ++ ([(la, loA (E.2 5) zf)] : va_W)) H := hP
    have hD : va_D A (([(cw, .inr (1, [.ref (o 0), .ref oaA, .ref osA, iv hsn, .ref hdA, .ref spA, .ref bfA, .ref lnA, .ref prA, iv ep, va_rf lt]))] : va_W) ++ (SW E o sc ar) ++ ([(la, loA (E.2 5) zf)] : va_W)) := hD
    have hcx9 := hCx
    obtain ⟨hc0, hEn9⟩ := hCx
    have hcr9 : c_obj g k ≤ 1 := by have := c_obj_r g k; omega
    have hk9 : c_obj g k = 1 := by omega
    have hEn9 : En = "java/lang/IndexOutOfBoundsException" := by rw [hEn9, hk9]; rfl
    subst hEn9
    refine vx_catch (own := "ClockworkTailorLaw") hown [] _ [] htab (fun z hz => by cases hz) (by decide) (by decide) (name := "java/lang/IndexOutOfBoundsException") (hts _ q1075) (hK.nw q1112) hce hcv hcl ?_
    refine lv_astore_n (lv' := [(3, .ref q9), (0, .ref cw), (1, iv k), (2, .ref la)]) hx hb dX0_toolOf_12 rfl hl (by decide) rfl (fun ls hl => ?_)
    refine lv_iconst (v := iI 1) hx hb dX0_toolOf_13 rfl ?_
    have hfin : 1 = c_obj g k := by
      first | exact hz9.symm | exact hk9.symm
    refine vx_ret ?_
    refine W.widen (k := 1) (n := 6) (Nat.le_of_ble_eq_true rfl) (Nat.le_of_ble_eq_true rfl) ?_
    exact W.iret (v := iI 1) hx hb hr (fun tt_ ht_ hW_ => ⟨⟨iI 1, .inr u_5, rfl, ⟨(show 0 < c_obj g k ∧ ∃ En : String, 0 < c_obj g k ∧ En = nmX "java/lang/IndexOutOfBoundsException" "" "" (c_obj g k) from ⟨(by omega), _, hcx9⟩), (congrArg iI hfin)⟩, by rw [ht_]; exact hP, hD⟩, hS.F ht_⟩) hS.2.2 dX0_toolOf_14
  · intro u_4 H locs hC hP hD hS
    have hu_4 : c_obj g k = 0 := hC
    have hP : va_P E.1 CL (([(cw, .inr (1, [.ref (o 0), .ref oaA, .ref osA, iv hsn, .ref hdA, .ref spA, .ref bfA, .ref lnA, .ref prA, iv ep, va_rf lt]))] : va_W) ++ (SW E o sc ar) ++ ([(la, loA (E.2 5) zf)] : va_W)) H := hP
    have hD : va_D A (([(cw, .inr (1, [.ref (o 0), .ref oaA, .ref osA, iv hsn, .ref hdA, .ref spA, .ref bfA, .ref lnA, .ref prA, iv ep, va_rf lt]))] : va_W) ++ (SW E o sc ar) ++ ([(la, loA (E.2 5) zf)] : va_W)) := hD
    have hz9 : c_obj g k = 0 := hu_4
    refine lv_i2l (v := (iI (97 + m_thing g k 0)).toInt64) hx hb dX0_toolOf_7 rfl ?_
    refine n_last1 hx hb hK.1 hP hD hS 18 rfl dX0_toolOf_8 (ws2 := ([(cw, .inr (1, [.ref (o 0), .ref oaA, .ref osA, iv hsn, .ref hdA, .ref spA, .ref bfA, .ref lnA, .ref prA, iv ep, va_rf lt]))] : va_W) ++ (SW E o sc ar) ++ ([(la, loA (E.2 5) (vp_updL zf 0 ((iI (97 + m_thing g k 0)).toInt64)))] : va_W)) rfl (fun H locs hP hD hS => ?_)
    have hP : va_P E.1 CL (([(cw, .inr (1, [.ref (o 0), .ref oaA, .ref osA, iv hsn, .ref hdA, .ref spA, .ref bfA, .ref lnA, .ref prA, iv ep, va_rf lt]))] : va_W) ++ (SW E o sc ar) ++ ([(la, loA (E.2 5) (vp_updL zf 0 ((iI (97 + m_thing g k 0)).toInt64)))] : va_W)) H := hP
    have hD : va_D A (([(cw, .inr (1, [.ref (o 0), .ref oaA, .ref osA, iv hsn, .ref hdA, .ref spA, .ref bfA, .ref lnA, .ref prA, iv ep, va_rf lt]))] : va_W) ++ (SW E o sc ar) ++ ([(la, loA (E.2 5) (vp_updL zf 0 ((iI (97 + m_thing g k 0)).toInt64)))] : va_W)) := hD
    refine lv_goto (tgt := 15) hx hb dX0_toolOf_9 (by decide) ?_
    refine lv_iconst (v := iI 0) hx hb dX0_toolOf_15 rfl ?_
    have hfin : 0 = c_obj g k := by
      first | exact hz9.symm | exact hk9.symm
    refine vx_ret ?_
    refine W.widen (k := 1) (n := 6) (Nat.le_of_ble_eq_true rfl) (Nat.le_of_ble_eq_true rfl) ?_
    exact W.iret (v := iI 0) hx hb hr (fun tt_ ht_ hW_ => ⟨⟨iI 0, .inl (u_4, (vp_updL zf 0 ((iI (97 + m_thing g k 0)).toInt64))), rfl, ⟨(show (c_obj g k = 0) ∧ c_obj g k = 0 ∧ (u_4, (vp_updL zf 0 ((iI (97 + m_thing g k 0)).toInt64))).2 0 = (iI (97 + m_thing g k 0)).toInt64 from ⟨hu_4, hz9, rfl⟩), (congrArg iI hfin)⟩, by rw [ht_]; exact hP, hD⟩, hS.F ht_⟩) hS.2.2 dX0_toolOf_16
set_option maxHeartbeats 2000000 in
set_option maxRecDepth 100000 in
theorem mt_X0_threadOf (l : Launch) (E : EE) (cw : Nat) (oaA : Nat) (osA : Nat) (hsn : Int) (hdA : Nat) (spA : Nat) (bfA : Nat) (lnA : Nat) (prA : Nat) (ep : Int) (lt : Option Nat) (o : Nat → Nat) (sc : Nat → Int) (ar : Nat → Int → Int) (la : Nat) (zf : Nat → Int64) (k : Int) (g : Int → Int) (hst : l.stackTraces = false) (hsr : SR g sc ar) (hk : -2147483648 ≤ k ∧ k < 2147483648) (how : OY g) (sz : Nat) : vx_Met l yX0_threadOf (wsW_ yX0_threadOf cX0_threadOf 4 (some .int) [(0, 9, 12, 48)]) { frames := 9, cells := 1, slots := 6, locals := 154 } (va_Pc [.ref cw, iv k, .ref la] (UX E (([(cw, .inr (1, [.ref (o 0), .ref oaA, .ref osA, iv hsn, .ref hdA, .ref spA, .ref bfA, .ref lnA, .ref prA, iv ep, va_rf lt]))] : va_W) ++ (SW E o sc ar) ++ ([(la, loA (E.2 5) zf)] : va_W)) sz)) (UQx E (Sum.elim (fun u : (Unit) × (Nat → Int64) => (c_obj g k = 0) ∧ c_obj g k = 0 ∧ u.2 0 = (iI (m_thing g k 1)).toInt64) (fun u : Unit => 0 < c_obj g k ∧ ∃ En : String, 0 < c_obj g k ∧ En = nmX "java/lang/IndexOutOfBoundsException" "" "" (c_obj g k))) (fun _ => c_obj g k) (Sum.elim (fun u : (Unit) × (Nat → Int64) => ([(cw, .inr (1, [.ref (o 0), .ref oaA, .ref osA, iv hsn, .ref hdA, .ref spA, .ref bfA, .ref lnA, .ref prA, iv ep, va_rf lt]))] : va_W) ++ (SW E o sc ar) ++ ([(la, loA (E.2 5) u.2)] : va_W)) (fun u : Unit => ([(cw, .inr (1, [.ref (o 0), .ref oaA, .ref osA, iv hsn, .ref hdA, .ref spA, .ref bfA, .ref lnA, .ref prA, iv ep, va_rf lt]))] : va_W) ++ (SW E o sc ar) ++ ([(la, loA (E.2 5) zf)] : va_W))) (va_A (([(cw, .inr (1, [.ref (o 0), .ref oaA, .ref osA, iv hsn, .ref hdA, .ref spA, .ref bfA, .ref lnA, .ref prA, iv ep, va_rf lt]))] : va_W) ++ (SW E o sc ar) ++ ([(la, loA (E.2 5) zf)] : va_W)) sz)) (UXx E (fun (_ : String) (_ : Unit) => False) (fun _ : Unit => []) (fun _ : Unit => none) (va_A (([(cw, .inr (1, [.ref (o 0), .ref oaA, .ref osA, iv hsn, .ref hdA, .ref spA, .ref bfA, .ref lnA, .ref prA, iv ep, va_rf lt]))] : va_W) ++ (SW E o sc ar) ++ ([(la, loA (E.2 5) zf)] : va_W)) sz)) 1 6 (va_A (([(cw, .inr (1, [.ref (o 0), .ref oaA, .ref osA, iv hsn, .ref hdA, .ref spA, .ref bfA, .ref lnA, .ref prA, iv ep, va_rf lt]))] : va_W) ++ (SW E o sc ar) ++ ([(la, loA (E.2 5) zf)] : va_W)) sz) := by
  refine vx_ofWH (hh := [(0, 9, 12, 48)]) (cc := cX0_threadOf) (maxL := 4) (ret := (some .int)) (by decide) rfl ?_
  intro p e s m args below meth c s₁ B hml hv
  obtain ⟨rfl, hsz, hP, hK, hD0, hE⟩ := hv
  have hx := B.exec
  have hb := B.bytes
  have hr := B.returns
  have hts := atoms_spec (ws := (wsW_ yX0_threadOf cX0_threadOf 4 (some .int) [(0, 9, 12, 48)])) B.pre
  have htab : c.exceptionTable.toList = tableOf [(0, 9, 12, 48)] := vx_table (x := yX0_threadOf) B (hts _ List.mem_cons_self)
  have hts : ∀ w ∈ lw_all, w.before _ s = true := fun w h => hts w (List.mem_cons_of_mem _ h)
  have hown : s.vm.findClass RX0 = some m.cls := findClass_of_methodNamed B.named
  have hlocks := B.notSynchronized
  subst hsz
  have hD := hD0.self (sz := s.heap.size)
  generalize hAe : va_A (([(cw, .inr (1, [.ref (o 0), .ref oaA, .ref osA, iv hsn, .ref hdA, .ref spA, .ref bfA, .ref lnA, .ref prA, iv ep, va_rf lt]))] : va_W) ++ (SW E o sc ar) ++ ([(la, loA (E.2 5) zf)] : va_W)) s.heap.size = A at hD hE ⊢
  have hA : ∀ q : Nat, s.heap.size ≤ q → A q := fun q h => by rw [← hAe]; exact Or.inr h
  have hS : va_S A s.heap s.heap [] := va_S.rf
  have hl := lv_entry ([.ref cw, iv k, .ref la]) (n := 4) (Nat.le_of_ble_eq_true rfl)
  rw [lg_entry_eq]
  generalize (lg_sl ([.ref cw, iv k, .ref la]) ++ List.replicate (4 - (lg_sl ([.ref cw, iv k, .ref la])).length) Slot.unset).toArray = ls at hl ⊢
  have hl : lv_has ls 4 [(0, .ref cw), (1, iv k), (2, .ref la)] := hl
  refine lv_aload_n hx hb dX0_threadOf_0 rfl (lv_at hl 2 rfl) ?_
  refine lv_iconst (v := iI 0) hx hb dX0_threadOf_1 rfl ?_
  refine lv_aload_n hx hb dX0_threadOf_2 rfl (lv_at hl 0 rfl) ?_
  refine lv_iload_n hx hb dX0_threadOf_3 rfl (lv_at hl 1 rfl) ?_
  have hg_1 : gpick [[(cw, .inr (1, [.ref (o 0), .ref oaA, .ref osA, iv hsn, .ref hdA, .ref spA, .ref bfA, .ref lnA, .ref prA, iv ep, va_rf lt]))], SW E o sc ar, [(la, loA (E.2 5) zf)]] ([[(cw, .inr (1, [.ref (o 0), .ref oaA, .ref osA, iv hsn, .ref hdA, .ref spA, .ref bfA, .ref lnA, .ref prA, iv ep, va_rf lt]))], SW E o sc ar] ++ [[(la, loA (E.2 5) zf)]]) [0, 1, 2] := ⟨rfl, (show List.Perm [0, 1, 2] (List.range 3) from by decide)⟩
  have hg_1P : va_P E.1 CL (([(cw, .inr (1, [.ref (o 0), .ref oaA, .ref osA, iv hsn, .ref hdA, .ref spA, .ref bfA, .ref lnA, .ref prA, iv ep, va_rf lt]))] : va_W) ++ (SW E o sc ar)) s.heap := (g_out hg_1 hP hD).1
  have hg_1D : va_D A (([(cw, .inr (1, [.ref (o 0), .ref oaA, .ref osA, iv hsn, .ref hdA, .ref spA, .ref bfA, .ref lnA, .ref prA, iv ep, va_rf lt]))] : va_W) ++ (SW E o sc ar)) := (g_out hg_1 hP hD).2
  have hg_1F : ∀ q, va_A (([(cw, .inr (1, [.ref (o 0), .ref oaA, .ref osA, iv hsn, .ref hdA, .ref spA, .ref bfA, .ref lnA, .ref prA, iv ep, va_rf lt]))] : va_W) ++ (SW E o sc ar)) s.heap.size q → A q := g_free hg_1 hP hD hS hA
  have hlt_2 := P_lts hP
  have hz_3 : s.heap.size ≤ s.heap.size := hS.1
  have hj_6 : ∀ u_4 : Unit, gpick ([[(cw, .inr (1, [.ref (o 0), .ref oaA, .ref osA, iv hsn, .ref hdA, .ref spA, .ref bfA, .ref lnA, .ref prA, iv ep, va_rf lt]))], SW E o sc ar] ++ [[(la, loA (E.2 5) zf)]]) [[(cw, .inr (1, [.ref (o 0), .ref oaA, .ref osA, iv hsn, .ref hdA, .ref spA, .ref bfA, .ref lnA, .ref prA, iv ep, va_rf lt]))], SW E o sc ar, [(la, loA (E.2 5) zf)]] [0, 1, 2] := fun u_4 => ⟨rfl, (show List.Perm [0, 1, 2] (List.range 3) from by decide)⟩
  have hj_7 : ∀ u_5 : Unit, gpick ([[(cw, .inr (1, [.ref (o 0), .ref oaA, .ref osA, iv hsn, .ref hdA, .ref spA, .ref bfA, .ref lnA, .ref prA, iv ep, va_rf lt]))], SW E o sc ar] ++ [[(la, loA (E.2 5) zf)]]) [[(cw, .inr (1, [.ref (o 0), .ref oaA, .ref osA, iv hsn, .ref hdA, .ref spA, .ref bfA, .ref lnA, .ref prA, iv ep, va_rf lt]))], SW E o sc ar, [(la, loA (E.2 5) zf)]] [0, 1, 2] := fun u_5 => ⟨rfl, (show List.Perm [0, 1, 2] (List.range 3) from by decide)⟩
  refine n_txB (x := fun u_4 => m_thing g k 1) (w2 := fun u_4 : Unit => ([(cw, .inr (1, [.ref (o 0), .ref oaA, .ref osA, iv hsn, .ref hdA, .ref spA, .ref bfA, .ref lnA, .ref prA, iv ep, va_rf lt]))] : va_W) ++ (SW E o sc ar) ++ ([(la, loA (E.2 5) zf)] : va_W)) (w3 := fun u_5 : Unit => ([(cw, .inr (1, [.ref (o 0), .ref oaA, .ref osA, iv hsn, .ref hdA, .ref spA, .ref bfA, .ref lnA, .ref prA, iv ep, va_rf lt]))] : va_W) ++ (SW E o sc ar) ++ ([(la, loA (E.2 5) zf)] : va_W)) (vx_runV (As := [iv k]) (rest := [iv 0, .ref la]) ⟨hx, hb, hml, hown, hts⟩ (mt_X1_threadOf l E cw oaA osA hsn hdA spA bfA lnA prA ep lt o sc ar k g (by exact hst) (by assumption) (by omega) (by assumption) _) (cwV 1 hts (lw_V q1326 q1327 q1328 q94 q1329) rfl rfl rfl (by decide +kernel) ⟨Nat.le_of_ble_eq_true rfl, Nat.le_of_ble_eq_true rfl⟩) (UX_V hg_1P hK (hg_1D) hE hS hg_1F (va_recv hK.1 hP (ci := 1) (q0 := 0) rfl rfl)) rfl rfl hl.1 rfl (lv_room (Nat.le_of_ble_eq_true rfl)) dX0_threadOf_4 ⟨Nat.le_of_ble_eq_true rfl, Nat.le_of_ble_eq_true rfl⟩) hS hg_1F ?_ ?_ ?_ ?_
  · exact (fun u_4 _ hk9 hp9 hd9 => g_back hg_1 (hj_6 u_4) hP hD hg_1F hk9 hp9 hd9)
  · exact (fun u_5 _ hk9 hp9 hd9 => g_back hg_1 (hj_7 u_5) hP hD hg_1F hk9 hp9 hd9)
  · intro En ce q9 u_5 H locs hCx hP hD hS hxf hq9 hce hcv hcl
    have hCx : 0 < c_obj g k ∧ En = nmX "java/lang/IndexOutOfBoundsException" "" "" (c_obj g k) := hCx
    have hP : va_P E.1 CL (([(cw, .inr (1, [.ref (o 0), .ref oaA, .ref osA, iv hsn, .ref hdA, .ref spA, .ref bfA, .ref lnA, .ref prA, iv ep, va_rf lt]))] : va_W) ++ (SW E o sc ar) ++ ([(la, loA (E.2 5) zf)] : va_W)) H := hP
    have hD : va_D A (([(cw, .inr (1, [.ref (o 0), .ref oaA, .ref osA, iv hsn, .ref hdA, .ref spA, .ref bfA, .ref lnA, .ref prA, iv ep, va_rf lt]))] : va_W) ++ (SW E o sc ar) ++ ([(la, loA (E.2 5) zf)] : va_W)) := hD
    have hcx9 := hCx
    obtain ⟨hc0, hEn9⟩ := hCx
    have hcr9 : c_obj g k ≤ 1 := by have := c_obj_r g k; omega
    have hk9 : c_obj g k = 1 := by omega
    have hEn9 : En = "java/lang/IndexOutOfBoundsException" := by rw [hEn9, hk9]; rfl
    subst hEn9
    refine vx_catch (own := "ClockworkTailorLaw") hown [] _ [] htab (fun z hz => by cases hz) (by decide) (by decide) (name := "java/lang/IndexOutOfBoundsException") (hts _ q1075) (hK.nw q1112) hce hcv hcl ?_
    refine lv_astore_n (lv' := [(3, .ref q9), (0, .ref cw), (1, iv k), (2, .ref la)]) hx hb dX0_threadOf_12 rfl hl (by decide) rfl (fun ls hl => ?_)
    refine lv_iconst (v := iI 1) hx hb dX0_threadOf_13 rfl ?_
    have hfin : 1 = c_obj g k := by
      first | exact hz9.symm | exact hk9.symm
    refine vx_ret ?_
    refine W.widen (k := 1) (n := 6) (Nat.le_of_ble_eq_true rfl) (Nat.le_of_ble_eq_true rfl) ?_
    exact W.iret (v := iI 1) hx hb hr (fun tt_ ht_ hW_ => ⟨⟨iI 1, .inr u_5, rfl, ⟨(show 0 < c_obj g k ∧ ∃ En : String, 0 < c_obj g k ∧ En = nmX "java/lang/IndexOutOfBoundsException" "" "" (c_obj g k) from ⟨(by omega), _, hcx9⟩), (congrArg iI hfin)⟩, by rw [ht_]; exact hP, hD⟩, hS.F ht_⟩) hS.2.2 dX0_threadOf_14
  · intro u_4 H locs hC hP hD hS
    have hu_4 : c_obj g k = 0 := hC
    have hP : va_P E.1 CL (([(cw, .inr (1, [.ref (o 0), .ref oaA, .ref osA, iv hsn, .ref hdA, .ref spA, .ref bfA, .ref lnA, .ref prA, iv ep, va_rf lt]))] : va_W) ++ (SW E o sc ar) ++ ([(la, loA (E.2 5) zf)] : va_W)) H := hP
    have hD : va_D A (([(cw, .inr (1, [.ref (o 0), .ref oaA, .ref osA, iv hsn, .ref hdA, .ref spA, .ref bfA, .ref lnA, .ref prA, iv ep, va_rf lt]))] : va_W) ++ (SW E o sc ar) ++ ([(la, loA (E.2 5) zf)] : va_W)) := hD
    have hz9 : c_obj g k = 0 := hu_4
    refine lv_i2l (v := (iI (m_thing g k 1)).toInt64) hx hb dX0_threadOf_7 rfl ?_
    refine n_last1 hx hb hK.1 hP hD hS 18 rfl dX0_threadOf_8 (ws2 := ([(cw, .inr (1, [.ref (o 0), .ref oaA, .ref osA, iv hsn, .ref hdA, .ref spA, .ref bfA, .ref lnA, .ref prA, iv ep, va_rf lt]))] : va_W) ++ (SW E o sc ar) ++ ([(la, loA (E.2 5) (vp_updL zf 0 ((iI (m_thing g k 1)).toInt64)))] : va_W)) rfl (fun H locs hP hD hS => ?_)
    have hP : va_P E.1 CL (([(cw, .inr (1, [.ref (o 0), .ref oaA, .ref osA, iv hsn, .ref hdA, .ref spA, .ref bfA, .ref lnA, .ref prA, iv ep, va_rf lt]))] : va_W) ++ (SW E o sc ar) ++ ([(la, loA (E.2 5) (vp_updL zf 0 ((iI (m_thing g k 1)).toInt64)))] : va_W)) H := hP
    have hD : va_D A (([(cw, .inr (1, [.ref (o 0), .ref oaA, .ref osA, iv hsn, .ref hdA, .ref spA, .ref bfA, .ref lnA, .ref prA, iv ep, va_rf lt]))] : va_W) ++ (SW E o sc ar) ++ ([(la, loA (E.2 5) (vp_updL zf 0 ((iI (m_thing g k 1)).toInt64)))] : va_W)) := hD
    refine lv_goto (tgt := 15) hx hb dX0_threadOf_9 (by decide) ?_
    refine lv_iconst (v := iI 0) hx hb dX0_threadOf_15 rfl ?_
    have hfin : 0 = c_obj g k := by
      first | exact hz9.symm | exact hk9.symm
    refine vx_ret ?_
    refine W.widen (k := 1) (n := 6) (Nat.le_of_ble_eq_true rfl) (Nat.le_of_ble_eq_true rfl) ?_
    exact W.iret (v := iI 0) hx hb hr (fun tt_ ht_ hW_ => ⟨⟨iI 0, .inl (u_4, (vp_updL zf 0 ((iI (m_thing g k 1)).toInt64))), rfl, ⟨(show (c_obj g k = 0) ∧ c_obj g k = 0 ∧ (u_4, (vp_updL zf 0 ((iI (m_thing g k 1)).toInt64))).2 0 = (iI (m_thing g k 1)).toInt64 from ⟨hu_4, hz9, rfl⟩), (congrArg iI hfin)⟩, by rw [ht_]; exact hP, hD⟩, hS.F ht_⟩) hS.2.2 dX0_threadOf_16
set_option maxHeartbeats 2000000 in
set_option maxRecDepth 100000 in
theorem mt_X0_filledBy (l : Launch) (E : EE) (cw : Nat) (oaA : Nat) (osA : Nat) (hsn : Int) (hdA : Nat) (spA : Nat) (bfA : Nat) (lnA : Nat) (prA : Nat) (ep : Int) (lt : Option Nat) (o : Nat → Nat) (sc : Nat → Int) (ar : Nat → Int → Int) (la : Nat) (zf : Nat → Int64) (k : Int) (q : Int) (g : Int → Int) (hst : l.stackTraces = false) (hsr : SR g sc ar) (hk : -2147483648 ≤ k ∧ k < 2147483648) (hq : -2147483648 ≤ q ∧ q < 2147483648) (how : OY g) (sz : Nat) : vx_Met l yX0_filledBy (wsW_ yX0_filledBy cX0_filledBy 5 (some .int) [(0, 10, 13, 48), (0, 10, 17, 21)]) { frames := 10, cells := 3, slots := 18, locals := 177 } (va_Pc [.ref cw, iv k, iv q, .ref la] (UX E (([(cw, .inr (1, [.ref (o 0), .ref oaA, .ref osA, iv hsn, .ref hdA, .ref spA, .ref bfA, .ref lnA, .ref prA, iv ep, va_rf lt]))] : va_W) ++ (SW E o sc ar) ++ ([(la, loA (E.2 5) zf)] : va_W)) sz)) (UQx E (Sum.elim (fun u : (Unit) × (Nat → Int64) => (c_fill g k q = 0) ∧ c_fill g k q = 0 ∧ u.2 0 = (iI (m_thing g k (7 + q) - 1)).toInt64) (fun u : Unit => 0 < c_fill g k q ∧ ∃ En : String, 0 < c_fill g k q ∧ En = nmX "java/lang/IndexOutOfBoundsException" "java/util/NoSuchElementException" "" (c_fill g k q))) (fun _ => c_fill g k q) (Sum.elim (fun u : (Unit) × (Nat → Int64) => ([(cw, .inr (1, [.ref (o 0), .ref oaA, .ref osA, iv hsn, .ref hdA, .ref spA, .ref bfA, .ref lnA, .ref prA, iv ep, va_rf lt]))] : va_W) ++ (SW E o sc ar) ++ ([(la, loA (E.2 5) u.2)] : va_W)) (fun u : Unit => ([(cw, .inr (1, [.ref (o 0), .ref oaA, .ref osA, iv hsn, .ref hdA, .ref spA, .ref bfA, .ref lnA, .ref prA, iv ep, va_rf lt]))] : va_W) ++ (SW E o sc ar) ++ ([(la, loA (E.2 5) zf)] : va_W))) (va_A (([(cw, .inr (1, [.ref (o 0), .ref oaA, .ref osA, iv hsn, .ref hdA, .ref spA, .ref bfA, .ref lnA, .ref prA, iv ep, va_rf lt]))] : va_W) ++ (SW E o sc ar) ++ ([(la, loA (E.2 5) zf)] : va_W)) sz)) (UXx E (fun (_ : String) (_ : Unit) => False) (fun _ : Unit => []) (fun _ : Unit => none) (va_A (([(cw, .inr (1, [.ref (o 0), .ref oaA, .ref osA, iv hsn, .ref hdA, .ref spA, .ref bfA, .ref lnA, .ref prA, iv ep, va_rf lt]))] : va_W) ++ (SW E o sc ar) ++ ([(la, loA (E.2 5) zf)] : va_W)) sz)) 3 18 (va_A (([(cw, .inr (1, [.ref (o 0), .ref oaA, .ref osA, iv hsn, .ref hdA, .ref spA, .ref bfA, .ref lnA, .ref prA, iv ep, va_rf lt]))] : va_W) ++ (SW E o sc ar) ++ ([(la, loA (E.2 5) zf)] : va_W)) sz) := by
  refine vx_ofWH (hh := [(0, 10, 13, 48), (0, 10, 17, 21)]) (cc := cX0_filledBy) (maxL := 5) (ret := (some .int)) (by decide) rfl ?_
  intro p e s m args below meth c s₁ B hml hv
  obtain ⟨rfl, hsz, hP, hK, hD0, hE⟩ := hv
  have hx := B.exec
  have hb := B.bytes
  have hr := B.returns
  have hts := atoms_spec (ws := (wsW_ yX0_filledBy cX0_filledBy 5 (some .int) [(0, 10, 13, 48), (0, 10, 17, 21)])) B.pre
  have htab : c.exceptionTable.toList = tableOf [(0, 10, 13, 48), (0, 10, 17, 21)] := vx_table (x := yX0_filledBy) B (hts _ List.mem_cons_self)
  have hts : ∀ w ∈ lw_all, w.before _ s = true := fun w h => hts w (List.mem_cons_of_mem _ h)
  have hown : s.vm.findClass RX0 = some m.cls := findClass_of_methodNamed B.named
  have hlocks := B.notSynchronized
  subst hsz
  have hD := hD0.self (sz := s.heap.size)
  generalize hAe : va_A (([(cw, .inr (1, [.ref (o 0), .ref oaA, .ref osA, iv hsn, .ref hdA, .ref spA, .ref bfA, .ref lnA, .ref prA, iv ep, va_rf lt]))] : va_W) ++ (SW E o sc ar) ++ ([(la, loA (E.2 5) zf)] : va_W)) s.heap.size = A at hD hE ⊢
  have hA : ∀ q : Nat, s.heap.size ≤ q → A q := fun q h => by rw [← hAe]; exact Or.inr h
  have hS : va_S A s.heap s.heap [] := va_S.rf
  have hl := lv_entry ([.ref cw, iv k, iv q, .ref la]) (n := 5) (Nat.le_of_ble_eq_true rfl)
  rw [lg_entry_eq]
  generalize (lg_sl ([.ref cw, iv k, iv q, .ref la]) ++ List.replicate (5 - (lg_sl ([.ref cw, iv k, iv q, .ref la])).length) Slot.unset).toArray = ls at hl ⊢
  have hl : lv_has ls 5 [(0, .ref cw), (1, iv k), (2, iv q), (3, .ref la)] := hl
  refine lv_aload_n hx hb dX0_filledBy_0 rfl (lv_at hl 3 rfl) ?_
  refine lv_iconst (v := iI 0) hx hb dX0_filledBy_1 rfl ?_
  refine lv_aload_n hx hb dX0_filledBy_2 rfl (lv_at hl 0 rfl) ?_
  refine lv_iload_n hx hb dX0_filledBy_3 rfl (lv_at hl 1 rfl) ?_
  refine lv_iload_n hx hb dX0_filledBy_4 rfl (lv_at hl 2 rfl) ?_
  have hg_1 : gpick [[(cw, .inr (1, [.ref (o 0), .ref oaA, .ref osA, iv hsn, .ref hdA, .ref spA, .ref bfA, .ref lnA, .ref prA, iv ep, va_rf lt]))], SW E o sc ar, [(la, loA (E.2 5) zf)]] ([[(cw, .inr (1, [.ref (o 0), .ref oaA, .ref osA, iv hsn, .ref hdA, .ref spA, .ref bfA, .ref lnA, .ref prA, iv ep, va_rf lt]))], SW E o sc ar] ++ [[(la, loA (E.2 5) zf)]]) [0, 1, 2] := ⟨rfl, (show List.Perm [0, 1, 2] (List.range 3) from by decide)⟩
  have hg_1P : va_P E.1 CL (([(cw, .inr (1, [.ref (o 0), .ref oaA, .ref osA, iv hsn, .ref hdA, .ref spA, .ref bfA, .ref lnA, .ref prA, iv ep, va_rf lt]))] : va_W) ++ (SW E o sc ar)) s.heap := (g_out hg_1 hP hD).1
  have hg_1D : va_D A (([(cw, .inr (1, [.ref (o 0), .ref oaA, .ref osA, iv hsn, .ref hdA, .ref spA, .ref bfA, .ref lnA, .ref prA, iv ep, va_rf lt]))] : va_W) ++ (SW E o sc ar)) := (g_out hg_1 hP hD).2
  have hg_1F : ∀ q, va_A (([(cw, .inr (1, [.ref (o 0), .ref oaA, .ref osA, iv hsn, .ref hdA, .ref spA, .ref bfA, .ref lnA, .ref prA, iv ep, va_rf lt]))] : va_W) ++ (SW E o sc ar)) s.heap.size q → A q := g_free hg_1 hP hD hS hA
  have hlt_2 := P_lts hP
  have hz_3 : s.heap.size ≤ s.heap.size := hS.1
  have hj_6 : ∀ u_4 : Unit, gpick ([[(cw, .inr (1, [.ref (o 0), .ref oaA, .ref osA, iv hsn, .ref hdA, .ref spA, .ref bfA, .ref lnA, .ref prA, iv ep, va_rf lt]))], SW E o sc ar] ++ [[(la, loA (E.2 5) zf)]]) [[(cw, .inr (1, [.ref (o 0), .ref oaA, .ref osA, iv hsn, .ref hdA, .ref spA, .ref bfA, .ref lnA, .ref prA, iv ep, va_rf lt]))], SW E o sc ar, [(la, loA (E.2 5) zf)]] [0, 1, 2] := fun u_4 => ⟨rfl, (show List.Perm [0, 1, 2] (List.range 3) from by decide)⟩
  have hj_7 : ∀ u_5 : Unit, gpick ([[(cw, .inr (1, [.ref (o 0), .ref oaA, .ref osA, iv hsn, .ref hdA, .ref spA, .ref bfA, .ref lnA, .ref prA, iv ep, va_rf lt]))], SW E o sc ar] ++ [[(la, loA (E.2 5) zf)]]) [[(cw, .inr (1, [.ref (o 0), .ref oaA, .ref osA, iv hsn, .ref hdA, .ref spA, .ref bfA, .ref lnA, .ref prA, iv ep, va_rf lt]))], SW E o sc ar, [(la, loA (E.2 5) zf)]] [0, 1, 2] := fun u_5 => ⟨rfl, (show List.Perm [0, 1, 2] (List.range 3) from by decide)⟩
  refine n_txB (x := fun u_4 => m_thing g k (7 + q) - 1) (w2 := fun u_4 : Unit => ([(cw, .inr (1, [.ref (o 0), .ref oaA, .ref osA, iv hsn, .ref hdA, .ref spA, .ref bfA, .ref lnA, .ref prA, iv ep, va_rf lt]))] : va_W) ++ (SW E o sc ar) ++ ([(la, loA (E.2 5) zf)] : va_W)) (w3 := fun u_5 : Unit => ([(cw, .inr (1, [.ref (o 0), .ref oaA, .ref osA, iv hsn, .ref hdA, .ref spA, .ref bfA, .ref lnA, .ref prA, iv ep, va_rf lt]))] : va_W) ++ (SW E o sc ar) ++ ([(la, loA (E.2 5) zf)] : va_W)) (vx_runV (As := [iv k, iv q]) (rest := [iv 0, .ref la]) ⟨hx, hb, hml, hown, hts⟩ (mt_X1_filledBy l E cw oaA osA hsn hdA spA bfA lnA prA ep lt o sc ar k q g (by exact hst) (by assumption) (by omega) (by omega) (by assumption) _) (cwV 2 hts (lw_V q1333 q1334 q1335 q94 q1336) rfl rfl rfl (by decide +kernel) ⟨Nat.le_of_ble_eq_true rfl, Nat.le_of_ble_eq_true rfl⟩) (UX_V hg_1P hK (hg_1D) hE hS hg_1F (va_recv hK.1 hP (ci := 1) (q0 := 0) rfl rfl)) rfl rfl hl.1 rfl (lv_room (Nat.le_of_ble_eq_true rfl)) dX0_filledBy_5 ⟨Nat.le_of_ble_eq_true rfl, Nat.le_of_ble_eq_true rfl⟩) hS hg_1F ?_ ?_ ?_ ?_
  · exact (fun u_4 _ hk9 hp9 hd9 => g_back hg_1 (hj_6 u_4) hP hD hg_1F hk9 hp9 hd9)
  · exact (fun u_5 _ hk9 hp9 hd9 => g_back hg_1 (hj_7 u_5) hP hD hg_1F hk9 hp9 hd9)
  · intro En ce q9 u_5 H locs hCx hP hD hS hxf hq9 hce hcv hcl
    have hCx : 0 < c_fill g k q ∧ En = nmX "java/lang/IndexOutOfBoundsException" "java/util/NoSuchElementException" "" (c_fill g k q) := hCx
    have hP : va_P E.1 CL (([(cw, .inr (1, [.ref (o 0), .ref oaA, .ref osA, iv hsn, .ref hdA, .ref spA, .ref bfA, .ref lnA, .ref prA, iv ep, va_rf lt]))] : va_W) ++ (SW E o sc ar) ++ ([(la, loA (E.2 5) zf)] : va_W)) H := hP
    have hD : va_D A (([(cw, .inr (1, [.ref (o 0), .ref oaA, .ref osA, iv hsn, .ref hdA, .ref spA, .ref bfA, .ref lnA, .ref prA, iv ep, va_rf lt]))] : va_W) ++ (SW E o sc ar) ++ ([(la, loA (E.2 5) zf)] : va_W)) := hD
    have hcx9 := hCx
    obtain ⟨hc0, hEn9⟩ := hCx
    have hcr9 : c_fill g k q ≤ 2 := by have := c_fill_r g k q; omega
    rcases (show c_fill g k q = 1 ∨ c_fill g k q = 2 by omega) with hk9 | hk9
    · have hEn9 : En = "java/lang/IndexOutOfBoundsException" := by rw [hEn9, hk9]; rfl
      subst hEn9
      refine vx_catch (own := "ClockworkTailorLaw") hown [] _ [_] htab (fun z hz => by cases hz) (by decide) (by decide) (name := "java/lang/IndexOutOfBoundsException") (hts _ q1075) (hK.nw q1112) hce hcv hcl ?_
      refine lv_astore (lv' := [(4, .ref q9), (0, .ref cw), (1, iv k), (2, iv q), (3, .ref la)]) hx hb dX0_filledBy_13 hl (by decide) rfl (fun ls hl => ?_)
      refine lv_iconst (v := iI 1) hx hb dX0_filledBy_15 rfl ?_
      have hfin : 1 = c_fill g k q := by
        first | exact hz9.symm | exact hk9.symm
      refine vx_ret ?_
      refine W.widen (k := 3) (n := 18) (Nat.le_of_ble_eq_true rfl) (Nat.le_of_ble_eq_true rfl) ?_
      exact W.iret (v := iI 1) hx hb hr (fun tt_ ht_ hW_ => ⟨⟨iI 1, .inr u_5, rfl, ⟨(show 0 < c_fill g k q ∧ ∃ En : String, 0 < c_fill g k q ∧ En = nmX "java/lang/IndexOutOfBoundsException" "java/util/NoSuchElementException" "" (c_fill g k q) from ⟨(by omega), _, hcx9⟩), (congrArg iI hfin)⟩, by rw [ht_]; exact hP, hD⟩, hS.F ht_⟩) hS.2.2 dX0_filledBy_16
    · have hEn9 : En = "java/util/NoSuchElementException" := by rw [hEn9, hk9]; rfl
      subst hEn9
      refine vx_catch (own := "ClockworkTailorLaw") hown [_] _ [] htab (fun z hz => by
          simp only [List.mem_cons, List.not_mem_nil, or_false] at hz
          rcases hz with rfl
          · exact Or.inr ⟨by decide, "java/lang/IndexOutOfBoundsException", hts _ q1075, hK.kx.2.2.2.2.2 (_, _) (by decide)⟩
          ) (by decide) (by decide) (name := "java/util/NoSuchElementException") (hts _ q951) (hK.nw q976) hce hcv hcl ?_
      refine lv_astore (lv' := [(4, .ref q9), (0, .ref cw), (1, iv k), (2, iv q), (3, .ref la)]) hx hb dX0_filledBy_17 hl (by decide) rfl (fun ls hl => ?_)
      refine lv_iconst (v := iI 2) hx hb dX0_filledBy_19 rfl ?_
      have hfin : 2 = c_fill g k q := by
        first | exact hz9.symm | exact hk9.symm
      refine vx_ret ?_
      refine W.widen (k := 3) (n := 18) (Nat.le_of_ble_eq_true rfl) (Nat.le_of_ble_eq_true rfl) ?_
      exact W.iret (v := iI 2) hx hb hr (fun tt_ ht_ hW_ => ⟨⟨iI 2, .inr u_5, rfl, ⟨(show 0 < c_fill g k q ∧ ∃ En : String, 0 < c_fill g k q ∧ En = nmX "java/lang/IndexOutOfBoundsException" "java/util/NoSuchElementException" "" (c_fill g k q) from ⟨(by omega), _, hcx9⟩), (congrArg iI hfin)⟩, by rw [ht_]; exact hP, hD⟩, hS.F ht_⟩) hS.2.2 dX0_filledBy_20
  · intro u_4 H locs hC hP hD hS
    have hu_4 : c_fill g k q = 0 := hC
    have hP : va_P E.1 CL (([(cw, .inr (1, [.ref (o 0), .ref oaA, .ref osA, iv hsn, .ref hdA, .ref spA, .ref bfA, .ref lnA, .ref prA, iv ep, va_rf lt]))] : va_W) ++ (SW E o sc ar) ++ ([(la, loA (E.2 5) zf)] : va_W)) H := hP
    have hD : va_D A (([(cw, .inr (1, [.ref (o 0), .ref oaA, .ref osA, iv hsn, .ref hdA, .ref spA, .ref bfA, .ref lnA, .ref prA, iv ep, va_rf lt]))] : va_W) ++ (SW E o sc ar) ++ ([(la, loA (E.2 5) zf)] : va_W)) := hD
    have hz9 : c_fill g k q = 0 := hu_4
    refine lv_i2l (v := (iI (m_thing g k (7 + q) - 1)).toInt64) hx hb dX0_filledBy_8 rfl ?_
    refine n_last1 hx hb hK.1 hP hD hS 18 rfl dX0_filledBy_9 (ws2 := ([(cw, .inr (1, [.ref (o 0), .ref oaA, .ref osA, iv hsn, .ref hdA, .ref spA, .ref bfA, .ref lnA, .ref prA, iv ep, va_rf lt]))] : va_W) ++ (SW E o sc ar) ++ ([(la, loA (E.2 5) (vp_updL zf 0 ((iI (m_thing g k (7 + q) - 1)).toInt64)))] : va_W)) rfl (fun H locs hP hD hS => ?_)
    have hP : va_P E.1 CL (([(cw, .inr (1, [.ref (o 0), .ref oaA, .ref osA, iv hsn, .ref hdA, .ref spA, .ref bfA, .ref lnA, .ref prA, iv ep, va_rf lt]))] : va_W) ++ (SW E o sc ar) ++ ([(la, loA (E.2 5) (vp_updL zf 0 ((iI (m_thing g k (7 + q) - 1)).toInt64)))] : va_W)) H := hP
    have hD : va_D A (([(cw, .inr (1, [.ref (o 0), .ref oaA, .ref osA, iv hsn, .ref hdA, .ref spA, .ref bfA, .ref lnA, .ref prA, iv ep, va_rf lt]))] : va_W) ++ (SW E o sc ar) ++ ([(la, loA (E.2 5) (vp_updL zf 0 ((iI (m_thing g k (7 + q) - 1)).toInt64)))] : va_W)) := hD
    refine lv_goto (tgt := 21) hx hb dX0_filledBy_10 (by decide) ?_
    refine lv_iconst (v := iI 0) hx hb dX0_filledBy_21 rfl ?_
    have hfin : 0 = c_fill g k q := by
      first | exact hz9.symm | exact hk9.symm
    refine vx_ret ?_
    refine W.widen (k := 3) (n := 18) (Nat.le_of_ble_eq_true rfl) (Nat.le_of_ble_eq_true rfl) ?_
    exact W.iret (v := iI 0) hx hb hr (fun tt_ ht_ hW_ => ⟨⟨iI 0, .inl (u_4, (vp_updL zf 0 ((iI (m_thing g k (7 + q) - 1)).toInt64))), rfl, ⟨(show (c_fill g k q = 0) ∧ c_fill g k q = 0 ∧ (u_4, (vp_updL zf 0 ((iI (m_thing g k (7 + q) - 1)).toInt64))).2 0 = (iI (m_thing g k (7 + q) - 1)).toInt64 from ⟨hu_4, hz9, rfl⟩), (congrArg iI hfin)⟩, by rw [ht_]; exact hP, hD⟩, hS.F ht_⟩) hS.2.2 dX0_filledBy_22
set_option maxHeartbeats 2000000 in
set_option maxRecDepth 100000 in
theorem mt_X0_wouldMake (l : Launch) (E : EE) (cw : Nat) (osA : Nat) (hsn : Int) (hdA : Nat) (spA : Nat) (bfA : Nat) (lnA : Nat) (prA : Nat) (ep : Int) (lt : Option Nat) (o : Nat → Nat) (sc : Nat → Int) (ar : Nat → Int → Int) (oa : Nat → Nat) (sa : Nat → Int) (aa : Nat → Int → Int) (la : Nat) (zf : Nat → Int64) (t : Int) (th : Int) (g : Int → Int) (r : Int → Nat) (hst : l.stackTraces = false) (hsr : SR g sc ar) (ht : 0 ≤ t ∧ t < 65536) (hth : -2147483648 ≤ th ∧ th < 2147483648) (htw : TW g) (hsw : SwOK g) (htm : TM g) (hhn : HN g) (hsc : SC g) (hrk : RK g r) (hr8 : ∀ t, 0 ≤ t → t < 8 → r t < 8) (how : OY g) (hfit : ∀ t, 0 ≤ t → t < 8 → ∀ th, g 1 + (m_dues g t th).1 ≤ 160) (sz : Nat) : vx_Met l yX0_wouldMake (wsW_ yX0_wouldMake cX0_wouldMake 5 (some .int) [(0, 10, 13, 13), (0, 10, 17, 48), (0, 10, 21, 21)]) { frames := 23, cells := 4, slots := 22, locals := 693 } (va_Pc [.ref cw, iv t, iv th, .ref la] (UX E (([(cw, .inr (1, [.ref (o 0), .ref (oa 0), .ref osA, iv hsn, .ref hdA, .ref spA, .ref bfA, .ref lnA, .ref prA, iv ep, va_rf lt]))] : va_W) ++ (SW E o sc ar) ++ (SW E oa sa aa) ++ ([(la, loA (E.2 5) zf)] : va_W)) sz)) (UQx E (Sum.elim (fun u : (SU) × (Nat → Int64) => (c_wd g t th = 0) ∧ c_wd g t th = 0 ∧ u.2 0 = (iI ((m_dues g (t - 97) th).1)).toInt64) (fun u : SU => 0 < c_wd g t th ∧ ∃ En : String, 0 < c_wd g t th ∧ En = nmX "java/lang/IllegalArgumentException" "java/lang/IndexOutOfBoundsException" "java/util/NoSuchElementException" (c_wd g t th))) (fun _ => c_wd g t th) (Sum.elim (fun u : (SU) × (Nat → Int64) => ([(cw, .inr (1, [.ref (o 0), .ref (oa 0), .ref osA, iv hsn, .ref hdA, .ref spA, .ref bfA, .ref lnA, .ref prA, iv ep, va_rf lt]))] : va_W) ++ (SW E o sc ar) ++ (SW E oa u.1.1 u.1.2) ++ ([(la, loA (E.2 5) u.2)] : va_W)) (fun u : SU => ([(cw, .inr (1, [.ref (o 0), .ref (oa 0), .ref osA, iv hsn, .ref hdA, .ref spA, .ref bfA, .ref lnA, .ref prA, iv ep, va_rf lt]))] : va_W) ++ (SW E o sc ar) ++ (SW E oa u.1 u.2) ++ ([(la, loA (E.2 5) zf)] : va_W))) (va_A (([(cw, .inr (1, [.ref (o 0), .ref (oa 0), .ref osA, iv hsn, .ref hdA, .ref spA, .ref bfA, .ref lnA, .ref prA, iv ep, va_rf lt]))] : va_W) ++ (SW E o sc ar) ++ (SW E oa sa aa) ++ ([(la, loA (E.2 5) zf)] : va_W)) sz)) (UXx E (fun (_ : String) (_ : Unit) => False) (fun _ : Unit => []) (fun _ : Unit => none) (va_A (([(cw, .inr (1, [.ref (o 0), .ref (oa 0), .ref osA, iv hsn, .ref hdA, .ref spA, .ref bfA, .ref lnA, .ref prA, iv ep, va_rf lt]))] : va_W) ++ (SW E o sc ar) ++ (SW E oa sa aa) ++ ([(la, loA (E.2 5) zf)] : va_W)) sz)) 4 22 (va_A (([(cw, .inr (1, [.ref (o 0), .ref (oa 0), .ref osA, iv hsn, .ref hdA, .ref spA, .ref bfA, .ref lnA, .ref prA, iv ep, va_rf lt]))] : va_W) ++ (SW E o sc ar) ++ (SW E oa sa aa) ++ ([(la, loA (E.2 5) zf)] : va_W)) sz) := by
  refine vx_ofWH (hh := [(0, 10, 13, 13), (0, 10, 17, 48), (0, 10, 21, 21)]) (cc := cX0_wouldMake) (maxL := 5) (ret := (some .int)) (by decide) rfl ?_
  intro p e s m args below meth c s₁ B hml hv
  obtain ⟨rfl, hsz, hP, hK, hD0, hE⟩ := hv
  have hx := B.exec
  have hb := B.bytes
  have hr := B.returns
  have hts := atoms_spec (ws := (wsW_ yX0_wouldMake cX0_wouldMake 5 (some .int) [(0, 10, 13, 13), (0, 10, 17, 48), (0, 10, 21, 21)])) B.pre
  have htab : c.exceptionTable.toList = tableOf [(0, 10, 13, 13), (0, 10, 17, 48), (0, 10, 21, 21)] := vx_table (x := yX0_wouldMake) B (hts _ List.mem_cons_self)
  have hts : ∀ w ∈ lw_all, w.before _ s = true := fun w h => hts w (List.mem_cons_of_mem _ h)
  have hown : s.vm.findClass RX0 = some m.cls := findClass_of_methodNamed B.named
  have hlocks := B.notSynchronized
  subst hsz
  have hD := hD0.self (sz := s.heap.size)
  generalize hAe : va_A (([(cw, .inr (1, [.ref (o 0), .ref (oa 0), .ref osA, iv hsn, .ref hdA, .ref spA, .ref bfA, .ref lnA, .ref prA, iv ep, va_rf lt]))] : va_W) ++ (SW E o sc ar) ++ (SW E oa sa aa) ++ ([(la, loA (E.2 5) zf)] : va_W)) s.heap.size = A at hD hE ⊢
  have hA : ∀ q : Nat, s.heap.size ≤ q → A q := fun q h => by rw [← hAe]; exact Or.inr h
  have hS : va_S A s.heap s.heap [] := va_S.rf
  have hl := lv_entry ([.ref cw, iv t, iv th, .ref la]) (n := 5) (Nat.le_of_ble_eq_true rfl)
  rw [lg_entry_eq]
  generalize (lg_sl ([.ref cw, iv t, iv th, .ref la]) ++ List.replicate (5 - (lg_sl ([.ref cw, iv t, iv th, .ref la])).length) Slot.unset).toArray = ls at hl ⊢
  have hl : lv_has ls 5 [(0, .ref cw), (1, iv t), (2, iv th), (3, .ref la)] := hl
  refine lv_aload_n hx hb dX0_wouldMake_0 rfl (lv_at hl 3 rfl) ?_
  refine lv_iconst (v := iI 0) hx hb dX0_wouldMake_1 rfl ?_
  refine lv_aload_n hx hb dX0_wouldMake_2 rfl (lv_at hl 0 rfl) ?_
  refine lv_iload_n hx hb dX0_wouldMake_3 rfl (lv_at hl 1 rfl) ?_
  refine lv_iload_n hx hb dX0_wouldMake_4 rfl (lv_at hl 2 rfl) ?_
  have hg_1 : gpick [[(cw, .inr (1, [.ref (o 0), .ref (oa 0), .ref osA, iv hsn, .ref hdA, .ref spA, .ref bfA, .ref lnA, .ref prA, iv ep, va_rf lt]))], SW E o sc ar, SW E oa sa aa, [(la, loA (E.2 5) zf)]] ([[(cw, .inr (1, [.ref (o 0), .ref (oa 0), .ref osA, iv hsn, .ref hdA, .ref spA, .ref bfA, .ref lnA, .ref prA, iv ep, va_rf lt]))], SW E o sc ar, SW E oa sa aa] ++ [[(la, loA (E.2 5) zf)]]) [0, 1, 2, 3] := ⟨rfl, (show List.Perm [0, 1, 2, 3] (List.range 4) from by decide)⟩
  have hg_1P : va_P E.1 CL (([(cw, .inr (1, [.ref (o 0), .ref (oa 0), .ref osA, iv hsn, .ref hdA, .ref spA, .ref bfA, .ref lnA, .ref prA, iv ep, va_rf lt]))] : va_W) ++ (SW E o sc ar) ++ (SW E oa sa aa)) s.heap := (g_out hg_1 hP hD).1
  have hg_1D : va_D A (([(cw, .inr (1, [.ref (o 0), .ref (oa 0), .ref osA, iv hsn, .ref hdA, .ref spA, .ref bfA, .ref lnA, .ref prA, iv ep, va_rf lt]))] : va_W) ++ (SW E o sc ar) ++ (SW E oa sa aa)) := (g_out hg_1 hP hD).2
  have hg_1F : ∀ q, va_A (([(cw, .inr (1, [.ref (o 0), .ref (oa 0), .ref osA, iv hsn, .ref hdA, .ref spA, .ref bfA, .ref lnA, .ref prA, iv ep, va_rf lt]))] : va_W) ++ (SW E o sc ar) ++ (SW E oa sa aa)) s.heap.size q → A q := g_free hg_1 hP hD hS hA
  have hlt_2 := P_lts hP
  have hz_3 : s.heap.size ≤ s.heap.size := hS.1
  have hj_6 : ∀ u_4 : SU, gpick ([[(cw, .inr (1, [.ref (o 0), .ref (oa 0), .ref osA, iv hsn, .ref hdA, .ref spA, .ref bfA, .ref lnA, .ref prA, iv ep, va_rf lt]))], SW E o sc ar, SW E oa u_4.1 u_4.2] ++ [[(la, loA (E.2 5) zf)]]) [[(cw, .inr (1, [.ref (o 0), .ref (oa 0), .ref osA, iv hsn, .ref hdA, .ref spA, .ref bfA, .ref lnA, .ref prA, iv ep, va_rf lt]))], SW E o sc ar, SW E oa u_4.1 u_4.2, [(la, loA (E.2 5) zf)]] [0, 1, 2, 3] := fun u_4 => ⟨rfl, (show List.Perm [0, 1, 2, 3] (List.range 4) from by decide)⟩
  have hj_7 : ∀ u_5 : SU, gpick ([[(cw, .inr (1, [.ref (o 0), .ref (oa 0), .ref osA, iv hsn, .ref hdA, .ref spA, .ref bfA, .ref lnA, .ref prA, iv ep, va_rf lt]))], SW E o sc ar, SW E oa u_5.1 u_5.2] ++ [[(la, loA (E.2 5) zf)]]) [[(cw, .inr (1, [.ref (o 0), .ref (oa 0), .ref osA, iv hsn, .ref hdA, .ref spA, .ref bfA, .ref lnA, .ref prA, iv ep, va_rf lt]))], SW E o sc ar, SW E oa u_5.1 u_5.2, [(la, loA (E.2 5) zf)]] [0, 1, 2, 3] := fun u_5 => ⟨rfl, (show List.Perm [0, 1, 2, 3] (List.range 4) from by decide)⟩
  refine n_txB (x := fun u_4 => (m_dues g (t - 97) th).1) (w2 := fun u_4 : SU => ([(cw, .inr (1, [.ref (o 0), .ref (oa 0), .ref osA, iv hsn, .ref hdA, .ref spA, .ref bfA, .ref lnA, .ref prA, iv ep, va_rf lt]))] : va_W) ++ (SW E o sc ar) ++ (SW E oa u_4.1 u_4.2) ++ ([(la, loA (E.2 5) zf)] : va_W)) (w3 := fun u_5 : SU => ([(cw, .inr (1, [.ref (o 0), .ref (oa 0), .ref osA, iv hsn, .ref hdA, .ref spA, .ref bfA, .ref lnA, .ref prA, iv ep, va_rf lt]))] : va_W) ++ (SW E o sc ar) ++ (SW E oa u_5.1 u_5.2) ++ ([(la, loA (E.2 5) zf)] : va_W)) (vx_runV (As := [iv t, iv th]) (rest := [iv 0, .ref la]) ⟨hx, hb, hml, hown, hts⟩ (mt_X1_wouldMake l E cw osA hsn hdA spA bfA lnA prA ep lt o sc ar oa sa aa t th g r (by exact hst) (by assumption) (by omega) (by omega) (by assumption) (by assumption) (by assumption) (by assumption) (by assumption) (by assumption) (by assumption) (by assumption) (by assumption) _) (cwV 2 hts (lw_V q1296 q1297 q1298 q94 q1299) rfl rfl rfl (by decide +kernel) ⟨Nat.le_of_ble_eq_true rfl, Nat.le_of_ble_eq_true rfl⟩) (UX_V hg_1P hK (hg_1D) hE hS hg_1F (va_recv hK.1 hP (ci := 1) (q0 := 0) rfl rfl)) rfl rfl hl.1 rfl (lv_room (Nat.le_of_ble_eq_true rfl)) dX0_wouldMake_5 ⟨Nat.le_of_ble_eq_true rfl, Nat.le_of_ble_eq_true rfl⟩) hS hg_1F ?_ ?_ ?_ ?_
  · exact (fun u_4 _ hk9 hp9 hd9 => g_back hg_1 (hj_6 u_4) hP hD hg_1F hk9 hp9 hd9)
  · exact (fun u_5 _ hk9 hp9 hd9 => g_back hg_1 (hj_7 u_5) hP hD hg_1F hk9 hp9 hd9)
  · intro En ce q9 u_5 H locs hCx hP hD hS hxf hq9 hce hcv hcl
    have hCx : 0 < c_wd g t th ∧ En = nmX "java/lang/IllegalArgumentException" "java/lang/IndexOutOfBoundsException" "java/util/NoSuchElementException" (c_wd g t th) := hCx
    have hP : va_P E.1 CL (([(cw, .inr (1, [.ref (o 0), .ref (oa 0), .ref osA, iv hsn, .ref hdA, .ref spA, .ref bfA, .ref lnA, .ref prA, iv ep, va_rf lt]))] : va_W) ++ (SW E o sc ar) ++ (SW E oa u_5.1 u_5.2) ++ ([(la, loA (E.2 5) zf)] : va_W)) H := hP
    have hD : va_D A (([(cw, .inr (1, [.ref (o 0), .ref (oa 0), .ref osA, iv hsn, .ref hdA, .ref spA, .ref bfA, .ref lnA, .ref prA, iv ep, va_rf lt]))] : va_W) ++ (SW E o sc ar) ++ (SW E oa u_5.1 u_5.2) ++ ([(la, loA (E.2 5) zf)] : va_W)) := hD
    have hcx9 := hCx
    obtain ⟨hc0, hEn9⟩ := hCx
    have hcr9 : c_wd g t th ≤ 3 := by unfold c_wd; (repeat' split) <;> (have := c_op_r g t th; omega)
    rcases (show c_wd g t th = 1 ∨ c_wd g t th = 2 ∨ c_wd g t th = 3 by omega) with hk9 | hk9 | hk9
    · have hEn9 : En = "java/lang/IllegalArgumentException" := by rw [hEn9, hk9]; rfl
      subst hEn9
      refine vx_catch (own := "ClockworkTailorLaw") hown [] _ [_, _] htab (fun z hz => by cases hz) (by decide) (by decide) (name := "java/lang/IllegalArgumentException") (hts _ q867) (hK.nw q894) hce hcv hcl ?_
      refine lv_astore (lv' := [(4, .ref q9), (0, .ref cw), (1, iv t), (2, iv th), (3, .ref la)]) hx hb dX0_wouldMake_13 hl (by decide) rfl (fun ls hl => ?_)
      refine lv_iconst (v := iI 1) hx hb dX0_wouldMake_15 rfl ?_
      have hfin : 1 = c_wd g t th := by
        first | exact hz9.symm | exact hk9.symm
      refine vx_ret ?_
      refine W.widen (k := 4) (n := 22) (Nat.le_of_ble_eq_true rfl) (Nat.le_of_ble_eq_true rfl) ?_
      exact W.iret (v := iI 1) hx hb hr (fun tt_ ht_ hW_ => ⟨⟨iI 1, .inr u_5, rfl, ⟨(show 0 < c_wd g t th ∧ ∃ En : String, 0 < c_wd g t th ∧ En = nmX "java/lang/IllegalArgumentException" "java/lang/IndexOutOfBoundsException" "java/util/NoSuchElementException" (c_wd g t th) from ⟨(by omega), _, hcx9⟩), (congrArg iI hfin)⟩, by rw [ht_]; exact hP, hD⟩, hS.F ht_⟩) hS.2.2 dX0_wouldMake_16
    · have hEn9 : En = "java/lang/IndexOutOfBoundsException" := by rw [hEn9, hk9]; rfl
      subst hEn9
      refine vx_catch (own := "ClockworkTailorLaw") hown [_] _ [_] htab (fun z hz => by
          simp only [List.mem_cons, List.not_mem_nil, or_false] at hz
          rcases hz with rfl
          · exact Or.inr ⟨by decide, "java/lang/IllegalArgumentException", hts _ q867, hK.kx.2.2.2.2.2 (_, _) (by decide)⟩
          ) (by decide) (by decide) (name := "java/lang/IndexOutOfBoundsException") (hts _ q1075) (hK.nw q1112) hce hcv hcl ?_
      refine lv_astore (lv' := [(4, .ref q9), (0, .ref cw), (1, iv t), (2, iv th), (3, .ref la)]) hx hb dX0_wouldMake_17 hl (by decide) rfl (fun ls hl => ?_)
      refine lv_iconst (v := iI 2) hx hb dX0_wouldMake_19 rfl ?_
      have hfin : 2 = c_wd g t th := by
        first | exact hz9.symm | exact hk9.symm
      refine vx_ret ?_
      refine W.widen (k := 4) (n := 22) (Nat.le_of_ble_eq_true rfl) (Nat.le_of_ble_eq_true rfl) ?_
      exact W.iret (v := iI 2) hx hb hr (fun tt_ ht_ hW_ => ⟨⟨iI 2, .inr u_5, rfl, ⟨(show 0 < c_wd g t th ∧ ∃ En : String, 0 < c_wd g t th ∧ En = nmX "java/lang/IllegalArgumentException" "java/lang/IndexOutOfBoundsException" "java/util/NoSuchElementException" (c_wd g t th) from ⟨(by omega), _, hcx9⟩), (congrArg iI hfin)⟩, by rw [ht_]; exact hP, hD⟩, hS.F ht_⟩) hS.2.2 dX0_wouldMake_20
    · have hEn9 : En = "java/util/NoSuchElementException" := by rw [hEn9, hk9]; rfl
      subst hEn9
      refine vx_catch (own := "ClockworkTailorLaw") hown [_, _] _ [] htab (fun z hz => by
          simp only [List.mem_cons, List.not_mem_nil, or_false] at hz
          rcases hz with rfl | rfl
          · exact Or.inr ⟨by decide, "java/lang/IllegalArgumentException", hts _ q867, hK.kx.2.2.2.2.2 (_, _) (by decide)⟩
          · exact Or.inr ⟨by decide, "java/lang/IndexOutOfBoundsException", hts _ q1075, hK.kx.2.2.2.2.2 (_, _) (by decide)⟩
          ) (by decide) (by decide) (name := "java/util/NoSuchElementException") (hts _ q951) (hK.nw q976) hce hcv hcl ?_
      refine lv_astore (lv' := [(4, .ref q9), (0, .ref cw), (1, iv t), (2, iv th), (3, .ref la)]) hx hb dX0_wouldMake_21 hl (by decide) rfl (fun ls hl => ?_)
      refine lv_iconst (v := iI 3) hx hb dX0_wouldMake_23 rfl ?_
      have hfin : 3 = c_wd g t th := by
        first | exact hz9.symm | exact hk9.symm
      refine vx_ret ?_
      refine W.widen (k := 4) (n := 22) (Nat.le_of_ble_eq_true rfl) (Nat.le_of_ble_eq_true rfl) ?_
      exact W.iret (v := iI 3) hx hb hr (fun tt_ ht_ hW_ => ⟨⟨iI 3, .inr u_5, rfl, ⟨(show 0 < c_wd g t th ∧ ∃ En : String, 0 < c_wd g t th ∧ En = nmX "java/lang/IllegalArgumentException" "java/lang/IndexOutOfBoundsException" "java/util/NoSuchElementException" (c_wd g t th) from ⟨(by omega), _, hcx9⟩), (congrArg iI hfin)⟩, by rw [ht_]; exact hP, hD⟩, hS.F ht_⟩) hS.2.2 dX0_wouldMake_24
  · intro u_4 H locs hC hP hD hS
    have hu_4 : c_wd g t th = 0 := hC
    have hP : va_P E.1 CL (([(cw, .inr (1, [.ref (o 0), .ref (oa 0), .ref osA, iv hsn, .ref hdA, .ref spA, .ref bfA, .ref lnA, .ref prA, iv ep, va_rf lt]))] : va_W) ++ (SW E o sc ar) ++ (SW E oa u_4.1 u_4.2) ++ ([(la, loA (E.2 5) zf)] : va_W)) H := hP
    have hD : va_D A (([(cw, .inr (1, [.ref (o 0), .ref (oa 0), .ref osA, iv hsn, .ref hdA, .ref spA, .ref bfA, .ref lnA, .ref prA, iv ep, va_rf lt]))] : va_W) ++ (SW E o sc ar) ++ (SW E oa u_4.1 u_4.2) ++ ([(la, loA (E.2 5) zf)] : va_W)) := hD
    have hz9 : c_wd g t th = 0 := hu_4
    refine lv_i2l (v := (iI ((m_dues g (t - 97) th).1)).toInt64) hx hb dX0_wouldMake_8 rfl ?_
    refine n_last1 hx hb hK.1 hP hD hS 35 rfl dX0_wouldMake_9 (ws2 := ([(cw, .inr (1, [.ref (o 0), .ref (oa 0), .ref osA, iv hsn, .ref hdA, .ref spA, .ref bfA, .ref lnA, .ref prA, iv ep, va_rf lt]))] : va_W) ++ (SW E o sc ar) ++ (SW E oa u_4.1 u_4.2) ++ ([(la, loA (E.2 5) (vp_updL zf 0 ((iI ((m_dues g (t - 97) th).1)).toInt64)))] : va_W)) rfl (fun H locs hP hD hS => ?_)
    have hP : va_P E.1 CL (([(cw, .inr (1, [.ref (o 0), .ref (oa 0), .ref osA, iv hsn, .ref hdA, .ref spA, .ref bfA, .ref lnA, .ref prA, iv ep, va_rf lt]))] : va_W) ++ (SW E o sc ar) ++ (SW E oa u_4.1 u_4.2) ++ ([(la, loA (E.2 5) (vp_updL zf 0 ((iI ((m_dues g (t - 97) th).1)).toInt64)))] : va_W)) H := hP
    have hD : va_D A (([(cw, .inr (1, [.ref (o 0), .ref (oa 0), .ref osA, iv hsn, .ref hdA, .ref spA, .ref bfA, .ref lnA, .ref prA, iv ep, va_rf lt]))] : va_W) ++ (SW E o sc ar) ++ (SW E oa u_4.1 u_4.2) ++ ([(la, loA (E.2 5) (vp_updL zf 0 ((iI ((m_dues g (t - 97) th).1)).toInt64)))] : va_W)) := hD
    refine lv_goto (tgt := 25) hx hb dX0_wouldMake_10 (by decide) ?_
    refine lv_iconst (v := iI 0) hx hb dX0_wouldMake_25 rfl ?_
    have hfin : 0 = c_wd g t th := by
      first | exact hz9.symm | exact hk9.symm
    refine vx_ret ?_
    refine W.widen (k := 4) (n := 22) (Nat.le_of_ble_eq_true rfl) (Nat.le_of_ble_eq_true rfl) ?_
    exact W.iret (v := iI 0) hx hb hr (fun tt_ ht_ hW_ => ⟨⟨iI 0, .inl (u_4, (vp_updL zf 0 ((iI ((m_dues g (t - 97) th).1)).toInt64))), rfl, ⟨(show (c_wd g t th = 0) ∧ c_wd g t th = 0 ∧ (u_4, (vp_updL zf 0 ((iI ((m_dues g (t - 97) th).1)).toInt64))).2 0 = (iI ((m_dues g (t - 97) th).1)).toInt64 from ⟨hu_4, hz9, rfl⟩), (congrArg iI hfin)⟩, by rw [ht_]; exact hP, hD⟩, hS.F ht_⟩) hS.2.2 dX0_wouldMake_26
set_option maxHeartbeats 2000000 in
set_option maxRecDepth 100000 in
theorem mt_X0_wouldMakeByCounting (l : Launch) (E : EE) (cw : Nat) (oaA : Nat) (osA : Nat) (hsn : Int) (hdA : Nat) (spA : Nat) (bfA : Nat) (lnA : Nat) (prA : Nat) (ep : Int) (lt : Option Nat) (o : Nat → Nat) (sc : Nat → Int) (ar : Nat → Int → Int) (la : Nat) (zf : Nat → Int64) (t : Int) (th : Int) (g : Int → Int) (r : Int → Nat) (hst : l.stackTraces = false) (hsr : SR g sc ar) (ht : 0 ≤ t ∧ t < 65536) (hth : -2147483648 ≤ th ∧ th < 2147483648) (htw : TW g) (hsw : SwOK g) (htm : TM g) (hhn : HN g) (hsc : SC g) (hrk : RK g r) (hr8 : ∀ t, 0 ≤ t → t < 8 → r t < 8) (how : OY g) (sz : Nat) : vx_Met l yX0_wouldMakeByCounting (wsW_ yX0_wouldMakeByCounting cX0_wouldMakeByCounting 5 (some .int) [(0, 10, 13, 13), (0, 10, 17, 48), (0, 10, 21, 21)]) { frames := 12, cells := 4, slots := 22, locals := 291 } (va_Pc [.ref cw, iv t, iv th, .ref la] (UX E (([(cw, .inr (1, [.ref (o 0), .ref oaA, .ref osA, iv hsn, .ref hdA, .ref spA, .ref bfA, .ref lnA, .ref prA, iv ep, va_rf lt]))] : va_W) ++ (SW E o sc ar) ++ ([(la, loA (E.2 5) zf)] : va_W)) sz)) (UQx E (Sum.elim (fun u : (Unit) × (Nat → Int64) => (c_wd g t th = 0) ∧ c_wd g t th = 0 ∧ u.2 0 = (iI ((m_dues g (t - 97) th).1)).toInt64) (fun u : Unit => 0 < c_wd g t th ∧ ∃ En : String, 0 < c_wd g t th ∧ En = nmX "java/lang/IllegalArgumentException" "java/lang/IndexOutOfBoundsException" "java/util/NoSuchElementException" (c_wd g t th))) (fun _ => c_wd g t th) (Sum.elim (fun u : (Unit) × (Nat → Int64) => ([(cw, .inr (1, [.ref (o 0), .ref oaA, .ref osA, iv hsn, .ref hdA, .ref spA, .ref bfA, .ref lnA, .ref prA, iv ep, va_rf lt]))] : va_W) ++ (SW E o sc ar) ++ ([(la, loA (E.2 5) u.2)] : va_W)) (fun u : Unit => ([(cw, .inr (1, [.ref (o 0), .ref oaA, .ref osA, iv hsn, .ref hdA, .ref spA, .ref bfA, .ref lnA, .ref prA, iv ep, va_rf lt]))] : va_W) ++ (SW E o sc ar) ++ ([(la, loA (E.2 5) zf)] : va_W))) (va_A (([(cw, .inr (1, [.ref (o 0), .ref oaA, .ref osA, iv hsn, .ref hdA, .ref spA, .ref bfA, .ref lnA, .ref prA, iv ep, va_rf lt]))] : va_W) ++ (SW E o sc ar) ++ ([(la, loA (E.2 5) zf)] : va_W)) sz)) (UXx E (fun (_ : String) (_ : Unit) => False) (fun _ : Unit => []) (fun _ : Unit => none) (va_A (([(cw, .inr (1, [.ref (o 0), .ref oaA, .ref osA, iv hsn, .ref hdA, .ref spA, .ref bfA, .ref lnA, .ref prA, iv ep, va_rf lt]))] : va_W) ++ (SW E o sc ar) ++ ([(la, loA (E.2 5) zf)] : va_W)) sz)) 4 22 (va_A (([(cw, .inr (1, [.ref (o 0), .ref oaA, .ref osA, iv hsn, .ref hdA, .ref spA, .ref bfA, .ref lnA, .ref prA, iv ep, va_rf lt]))] : va_W) ++ (SW E o sc ar) ++ ([(la, loA (E.2 5) zf)] : va_W)) sz) := by
  refine vx_ofWH (hh := [(0, 10, 13, 13), (0, 10, 17, 48), (0, 10, 21, 21)]) (cc := cX0_wouldMakeByCounting) (maxL := 5) (ret := (some .int)) (by decide) rfl ?_
  intro p e s m args below meth c s₁ B hml hv
  obtain ⟨rfl, hsz, hP, hK, hD0, hE⟩ := hv
  have hx := B.exec
  have hb := B.bytes
  have hr := B.returns
  have hts := atoms_spec (ws := (wsW_ yX0_wouldMakeByCounting cX0_wouldMakeByCounting 5 (some .int) [(0, 10, 13, 13), (0, 10, 17, 48), (0, 10, 21, 21)])) B.pre
  have htab : c.exceptionTable.toList = tableOf [(0, 10, 13, 13), (0, 10, 17, 48), (0, 10, 21, 21)] := vx_table (x := yX0_wouldMakeByCounting) B (hts _ List.mem_cons_self)
  have hts : ∀ w ∈ lw_all, w.before _ s = true := fun w h => hts w (List.mem_cons_of_mem _ h)
  have hown : s.vm.findClass RX0 = some m.cls := findClass_of_methodNamed B.named
  have hlocks := B.notSynchronized
  subst hsz
  have hD := hD0.self (sz := s.heap.size)
  generalize hAe : va_A (([(cw, .inr (1, [.ref (o 0), .ref oaA, .ref osA, iv hsn, .ref hdA, .ref spA, .ref bfA, .ref lnA, .ref prA, iv ep, va_rf lt]))] : va_W) ++ (SW E o sc ar) ++ ([(la, loA (E.2 5) zf)] : va_W)) s.heap.size = A at hD hE ⊢
  have hA : ∀ q : Nat, s.heap.size ≤ q → A q := fun q h => by rw [← hAe]; exact Or.inr h
  have hS : va_S A s.heap s.heap [] := va_S.rf
  have hl := lv_entry ([.ref cw, iv t, iv th, .ref la]) (n := 5) (Nat.le_of_ble_eq_true rfl)
  rw [lg_entry_eq]
  generalize (lg_sl ([.ref cw, iv t, iv th, .ref la]) ++ List.replicate (5 - (lg_sl ([.ref cw, iv t, iv th, .ref la])).length) Slot.unset).toArray = ls at hl ⊢
  have hl : lv_has ls 5 [(0, .ref cw), (1, iv t), (2, iv th), (3, .ref la)] := hl
  refine lv_aload_n hx hb dX0_wouldMakeByCounting_0 rfl (lv_at hl 3 rfl) ?_
  refine lv_iconst (v := iI 0) hx hb dX0_wouldMakeByCounting_1 rfl ?_
  refine lv_aload_n hx hb dX0_wouldMakeByCounting_2 rfl (lv_at hl 0 rfl) ?_
  refine lv_iload_n hx hb dX0_wouldMakeByCounting_3 rfl (lv_at hl 1 rfl) ?_
  refine lv_iload_n hx hb dX0_wouldMakeByCounting_4 rfl (lv_at hl 2 rfl) ?_
  have hg_1 : gpick [[(cw, .inr (1, [.ref (o 0), .ref oaA, .ref osA, iv hsn, .ref hdA, .ref spA, .ref bfA, .ref lnA, .ref prA, iv ep, va_rf lt]))], SW E o sc ar, [(la, loA (E.2 5) zf)]] ([[(cw, .inr (1, [.ref (o 0), .ref oaA, .ref osA, iv hsn, .ref hdA, .ref spA, .ref bfA, .ref lnA, .ref prA, iv ep, va_rf lt]))], SW E o sc ar] ++ [[(la, loA (E.2 5) zf)]]) [0, 1, 2] := ⟨rfl, (show List.Perm [0, 1, 2] (List.range 3) from by decide)⟩
  have hg_1P : va_P E.1 CL (([(cw, .inr (1, [.ref (o 0), .ref oaA, .ref osA, iv hsn, .ref hdA, .ref spA, .ref bfA, .ref lnA, .ref prA, iv ep, va_rf lt]))] : va_W) ++ (SW E o sc ar)) s.heap := (g_out hg_1 hP hD).1
  have hg_1D : va_D A (([(cw, .inr (1, [.ref (o 0), .ref oaA, .ref osA, iv hsn, .ref hdA, .ref spA, .ref bfA, .ref lnA, .ref prA, iv ep, va_rf lt]))] : va_W) ++ (SW E o sc ar)) := (g_out hg_1 hP hD).2
  have hg_1F : ∀ q, va_A (([(cw, .inr (1, [.ref (o 0), .ref oaA, .ref osA, iv hsn, .ref hdA, .ref spA, .ref bfA, .ref lnA, .ref prA, iv ep, va_rf lt]))] : va_W) ++ (SW E o sc ar)) s.heap.size q → A q := g_free hg_1 hP hD hS hA
  have hlt_2 := P_lts hP
  have hz_3 : s.heap.size ≤ s.heap.size := hS.1
  have hj_6 : ∀ u_4 : Unit, gpick ([[(cw, .inr (1, [.ref (o 0), .ref oaA, .ref osA, iv hsn, .ref hdA, .ref spA, .ref bfA, .ref lnA, .ref prA, iv ep, va_rf lt]))], SW E o sc ar] ++ [[(la, loA (E.2 5) zf)]]) [[(cw, .inr (1, [.ref (o 0), .ref oaA, .ref osA, iv hsn, .ref hdA, .ref spA, .ref bfA, .ref lnA, .ref prA, iv ep, va_rf lt]))], SW E o sc ar, [(la, loA (E.2 5) zf)]] [0, 1, 2] := fun u_4 => ⟨rfl, (show List.Perm [0, 1, 2] (List.range 3) from by decide)⟩
  have hj_7 : ∀ u_5 : Unit, gpick ([[(cw, .inr (1, [.ref (o 0), .ref oaA, .ref osA, iv hsn, .ref hdA, .ref spA, .ref bfA, .ref lnA, .ref prA, iv ep, va_rf lt]))], SW E o sc ar] ++ [[(la, loA (E.2 5) zf)]]) [[(cw, .inr (1, [.ref (o 0), .ref oaA, .ref osA, iv hsn, .ref hdA, .ref spA, .ref bfA, .ref lnA, .ref prA, iv ep, va_rf lt]))], SW E o sc ar, [(la, loA (E.2 5) zf)]] [0, 1, 2] := fun u_5 => ⟨rfl, (show List.Perm [0, 1, 2] (List.range 3) from by decide)⟩
  refine n_txB (x := fun u_4 => (m_dues g (t - 97) th).1) (w2 := fun u_4 : Unit => ([(cw, .inr (1, [.ref (o 0), .ref oaA, .ref osA, iv hsn, .ref hdA, .ref spA, .ref bfA, .ref lnA, .ref prA, iv ep, va_rf lt]))] : va_W) ++ (SW E o sc ar) ++ ([(la, loA (E.2 5) zf)] : va_W)) (w3 := fun u_5 : Unit => ([(cw, .inr (1, [.ref (o 0), .ref oaA, .ref osA, iv hsn, .ref hdA, .ref spA, .ref bfA, .ref lnA, .ref prA, iv ep, va_rf lt]))] : va_W) ++ (SW E o sc ar) ++ ([(la, loA (E.2 5) zf)] : va_W)) (vx_runV (As := [iv t, iv th]) (rest := [iv 0, .ref la]) ⟨hx, hb, hml, hown, hts⟩ (mt_X1_wouldMakeByCounting l E cw oaA osA hsn hdA spA bfA lnA prA ep lt o sc ar t th g r (by exact hst) (by assumption) (by omega) (by omega) (by assumption) (by assumption) (by assumption) (by assumption) (by assumption) (by assumption) (by assumption) (by assumption) _) (cwV 2 hts (lw_V q1304 q1305 q1306 q94 q1307) rfl rfl rfl (by decide +kernel) ⟨Nat.le_of_ble_eq_true rfl, Nat.le_of_ble_eq_true rfl⟩) (UX_V hg_1P hK (hg_1D) hE hS hg_1F (va_recv hK.1 hP (ci := 1) (q0 := 0) rfl rfl)) rfl rfl hl.1 rfl (lv_room (Nat.le_of_ble_eq_true rfl)) dX0_wouldMakeByCounting_5 ⟨Nat.le_of_ble_eq_true rfl, Nat.le_of_ble_eq_true rfl⟩) hS hg_1F ?_ ?_ ?_ ?_
  · exact (fun u_4 _ hk9 hp9 hd9 => g_back hg_1 (hj_6 u_4) hP hD hg_1F hk9 hp9 hd9)
  · exact (fun u_5 _ hk9 hp9 hd9 => g_back hg_1 (hj_7 u_5) hP hD hg_1F hk9 hp9 hd9)
  · intro En ce q9 u_5 H locs hCx hP hD hS hxf hq9 hce hcv hcl
    have hCx : 0 < c_wd g t th ∧ En = nmX "java/lang/IllegalArgumentException" "java/lang/IndexOutOfBoundsException" "java/util/NoSuchElementException" (c_wd g t th) := hCx
    have hP : va_P E.1 CL (([(cw, .inr (1, [.ref (o 0), .ref oaA, .ref osA, iv hsn, .ref hdA, .ref spA, .ref bfA, .ref lnA, .ref prA, iv ep, va_rf lt]))] : va_W) ++ (SW E o sc ar) ++ ([(la, loA (E.2 5) zf)] : va_W)) H := hP
    have hD : va_D A (([(cw, .inr (1, [.ref (o 0), .ref oaA, .ref osA, iv hsn, .ref hdA, .ref spA, .ref bfA, .ref lnA, .ref prA, iv ep, va_rf lt]))] : va_W) ++ (SW E o sc ar) ++ ([(la, loA (E.2 5) zf)] : va_W)) := hD
    have hcx9 := hCx
    obtain ⟨hc0, hEn9⟩ := hCx
    have hcr9 : c_wd g t th ≤ 3 := by unfold c_wd; (repeat' split) <;> (have := c_op_r g t th; omega)
    rcases (show c_wd g t th = 1 ∨ c_wd g t th = 2 ∨ c_wd g t th = 3 by omega) with hk9 | hk9 | hk9
    · have hEn9 : En = "java/lang/IllegalArgumentException" := by rw [hEn9, hk9]; rfl
      subst hEn9
      refine vx_catch (own := "ClockworkTailorLaw") hown [] _ [_, _] htab (fun z hz => by cases hz) (by decide) (by decide) (name := "java/lang/IllegalArgumentException") (hts _ q867) (hK.nw q894) hce hcv hcl ?_
      refine lv_astore (lv' := [(4, .ref q9), (0, .ref cw), (1, iv t), (2, iv th), (3, .ref la)]) hx hb dX0_wouldMakeByCounting_13 hl (by decide) rfl (fun ls hl => ?_)
      refine lv_iconst (v := iI 1) hx hb dX0_wouldMakeByCounting_15 rfl ?_
      have hfin : 1 = c_wd g t th := by
        first | exact hz9.symm | exact hk9.symm
      refine vx_ret ?_
      refine W.widen (k := 4) (n := 22) (Nat.le_of_ble_eq_true rfl) (Nat.le_of_ble_eq_true rfl) ?_
      exact W.iret (v := iI 1) hx hb hr (fun tt_ ht_ hW_ => ⟨⟨iI 1, .inr u_5, rfl, ⟨(show 0 < c_wd g t th ∧ ∃ En : String, 0 < c_wd g t th ∧ En = nmX "java/lang/IllegalArgumentException" "java/lang/IndexOutOfBoundsException" "java/util/NoSuchElementException" (c_wd g t th) from ⟨(by omega), _, hcx9⟩), (congrArg iI hfin)⟩, by rw [ht_]; exact hP, hD⟩, hS.F ht_⟩) hS.2.2 dX0_wouldMakeByCounting_16
    · have hEn9 : En = "java/lang/IndexOutOfBoundsException" := by rw [hEn9, hk9]; rfl
      subst hEn9
      refine vx_catch (own := "ClockworkTailorLaw") hown [_] _ [_] htab (fun z hz => by
          simp only [List.mem_cons, List.not_mem_nil, or_false] at hz
          rcases hz with rfl
          · exact Or.inr ⟨by decide, "java/lang/IllegalArgumentException", hts _ q867, hK.kx.2.2.2.2.2 (_, _) (by decide)⟩
          ) (by decide) (by decide) (name := "java/lang/IndexOutOfBoundsException") (hts _ q1075) (hK.nw q1112) hce hcv hcl ?_
      refine lv_astore (lv' := [(4, .ref q9), (0, .ref cw), (1, iv t), (2, iv th), (3, .ref la)]) hx hb dX0_wouldMakeByCounting_17 hl (by decide) rfl (fun ls hl => ?_)
      refine lv_iconst (v := iI 2) hx hb dX0_wouldMakeByCounting_19 rfl ?_
      have hfin : 2 = c_wd g t th := by
        first | exact hz9.symm | exact hk9.symm
      refine vx_ret ?_
      refine W.widen (k := 4) (n := 22) (Nat.le_of_ble_eq_true rfl) (Nat.le_of_ble_eq_true rfl) ?_
      exact W.iret (v := iI 2) hx hb hr (fun tt_ ht_ hW_ => ⟨⟨iI 2, .inr u_5, rfl, ⟨(show 0 < c_wd g t th ∧ ∃ En : String, 0 < c_wd g t th ∧ En = nmX "java/lang/IllegalArgumentException" "java/lang/IndexOutOfBoundsException" "java/util/NoSuchElementException" (c_wd g t th) from ⟨(by omega), _, hcx9⟩), (congrArg iI hfin)⟩, by rw [ht_]; exact hP, hD⟩, hS.F ht_⟩) hS.2.2 dX0_wouldMakeByCounting_20
    · have hEn9 : En = "java/util/NoSuchElementException" := by rw [hEn9, hk9]; rfl
      subst hEn9
      refine vx_catch (own := "ClockworkTailorLaw") hown [_, _] _ [] htab (fun z hz => by
          simp only [List.mem_cons, List.not_mem_nil, or_false] at hz
          rcases hz with rfl | rfl
          · exact Or.inr ⟨by decide, "java/lang/IllegalArgumentException", hts _ q867, hK.kx.2.2.2.2.2 (_, _) (by decide)⟩
          · exact Or.inr ⟨by decide, "java/lang/IndexOutOfBoundsException", hts _ q1075, hK.kx.2.2.2.2.2 (_, _) (by decide)⟩
          ) (by decide) (by decide) (name := "java/util/NoSuchElementException") (hts _ q951) (hK.nw q976) hce hcv hcl ?_
      refine lv_astore (lv' := [(4, .ref q9), (0, .ref cw), (1, iv t), (2, iv th), (3, .ref la)]) hx hb dX0_wouldMakeByCounting_21 hl (by decide) rfl (fun ls hl => ?_)
      refine lv_iconst (v := iI 3) hx hb dX0_wouldMakeByCounting_23 rfl ?_
      have hfin : 3 = c_wd g t th := by
        first | exact hz9.symm | exact hk9.symm
      refine vx_ret ?_
      refine W.widen (k := 4) (n := 22) (Nat.le_of_ble_eq_true rfl) (Nat.le_of_ble_eq_true rfl) ?_
      exact W.iret (v := iI 3) hx hb hr (fun tt_ ht_ hW_ => ⟨⟨iI 3, .inr u_5, rfl, ⟨(show 0 < c_wd g t th ∧ ∃ En : String, 0 < c_wd g t th ∧ En = nmX "java/lang/IllegalArgumentException" "java/lang/IndexOutOfBoundsException" "java/util/NoSuchElementException" (c_wd g t th) from ⟨(by omega), _, hcx9⟩), (congrArg iI hfin)⟩, by rw [ht_]; exact hP, hD⟩, hS.F ht_⟩) hS.2.2 dX0_wouldMakeByCounting_24
  · intro u_4 H locs hC hP hD hS
    have hu_4 : c_wd g t th = 0 := hC
    have hP : va_P E.1 CL (([(cw, .inr (1, [.ref (o 0), .ref oaA, .ref osA, iv hsn, .ref hdA, .ref spA, .ref bfA, .ref lnA, .ref prA, iv ep, va_rf lt]))] : va_W) ++ (SW E o sc ar) ++ ([(la, loA (E.2 5) zf)] : va_W)) H := hP
    have hD : va_D A (([(cw, .inr (1, [.ref (o 0), .ref oaA, .ref osA, iv hsn, .ref hdA, .ref spA, .ref bfA, .ref lnA, .ref prA, iv ep, va_rf lt]))] : va_W) ++ (SW E o sc ar) ++ ([(la, loA (E.2 5) zf)] : va_W)) := hD
    have hz9 : c_wd g t th = 0 := hu_4
    refine lv_i2l (v := (iI ((m_dues g (t - 97) th).1)).toInt64) hx hb dX0_wouldMakeByCounting_8 rfl ?_
    refine n_last1 hx hb hK.1 hP hD hS 18 rfl dX0_wouldMakeByCounting_9 (ws2 := ([(cw, .inr (1, [.ref (o 0), .ref oaA, .ref osA, iv hsn, .ref hdA, .ref spA, .ref bfA, .ref lnA, .ref prA, iv ep, va_rf lt]))] : va_W) ++ (SW E o sc ar) ++ ([(la, loA (E.2 5) (vp_updL zf 0 ((iI ((m_dues g (t - 97) th).1)).toInt64)))] : va_W)) rfl (fun H locs hP hD hS => ?_)
    have hP : va_P E.1 CL (([(cw, .inr (1, [.ref (o 0), .ref oaA, .ref osA, iv hsn, .ref hdA, .ref spA, .ref bfA, .ref lnA, .ref prA, iv ep, va_rf lt]))] : va_W) ++ (SW E o sc ar) ++ ([(la, loA (E.2 5) (vp_updL zf 0 ((iI ((m_dues g (t - 97) th).1)).toInt64)))] : va_W)) H := hP
    have hD : va_D A (([(cw, .inr (1, [.ref (o 0), .ref oaA, .ref osA, iv hsn, .ref hdA, .ref spA, .ref bfA, .ref lnA, .ref prA, iv ep, va_rf lt]))] : va_W) ++ (SW E o sc ar) ++ ([(la, loA (E.2 5) (vp_updL zf 0 ((iI ((m_dues g (t - 97) th).1)).toInt64)))] : va_W)) := hD
    refine lv_goto (tgt := 25) hx hb dX0_wouldMakeByCounting_10 (by decide) ?_
    refine lv_iconst (v := iI 0) hx hb dX0_wouldMakeByCounting_25 rfl ?_
    have hfin : 0 = c_wd g t th := by
      first | exact hz9.symm | exact hk9.symm
    refine vx_ret ?_
    refine W.widen (k := 4) (n := 22) (Nat.le_of_ble_eq_true rfl) (Nat.le_of_ble_eq_true rfl) ?_
    exact W.iret (v := iI 0) hx hb hr (fun tt_ ht_ hW_ => ⟨⟨iI 0, .inl (u_4, (vp_updL zf 0 ((iI ((m_dues g (t - 97) th).1)).toInt64))), rfl, ⟨(show (c_wd g t th = 0) ∧ c_wd g t th = 0 ∧ (u_4, (vp_updL zf 0 ((iI ((m_dues g (t - 97) th).1)).toInt64))).2 0 = (iI ((m_dues g (t - 97) th).1)).toInt64 from ⟨hu_4, hz9, rfl⟩), (congrArg iI hfin)⟩, by rw [ht_]; exact hP, hD⟩, hS.F ht_⟩) hS.2.2 dX0_wouldMakeByCounting_26
