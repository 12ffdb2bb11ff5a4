set_option maxHeartbeats 2000000 in
set_option maxRecDepth 100000 in
theorem mt_X0_errorPosition (l : Launch) (E : EE) (cw : Nat) (oaA : Nat) (osA : Nat) (hsn : Int) (hdA : Nat) (spA : Nat) (bfA : Nat) (lnA : Nat) (prA : Nat) (ep : Int) (lt : Option Nat) (o : Nat → Nat) (sc : Nat → Int) (ar : Nat → Int → Int) (la : Nat) (zf : Nat → Int64) (hst : l.stackTraces = false) (hep : -1 ≤ ep ∧ ep < 2147483648) (sz : Nat) : vx_Met l yX0_errorPosition (wsW_ yX0_errorPosition cX0_errorPosition 3 (some .int) [(0, 8, 11, 21)]) { frames := 9, cells := 1, slots := 6, locals := 152 } (va_Pc [.ref cw, .ref la] (UX E (([(cw, .inr (1, [.ref (o 0), .ref oaA, .ref osA, iv hsn, .ref hdA, .ref spA, .ref bfA, .ref lnA, .ref prA, iv ep, va_rf lt]))] : va_W) ++ (SW E o sc ar) ++ ([(la, loA (E.2 5) zf)] : va_W)) sz)) (UQx E (Sum.elim (fun u : (Unit) × (Nat → Int64) => (c_mns ep = 0) ∧ c_mns ep = 0 ∧ u.2 0 = (iI ep).toInt64) (fun u : Unit => 0 < c_mns ep ∧ ∃ En : String, En = "java/util/NoSuchElementException" ∧ c_mns ep = 1)) (fun _ => c_mns ep) (Sum.elim (fun u : (Unit) × (Nat → Int64) => ([(cw, .inr (1, [.ref (o 0), .ref oaA, .ref osA, iv hsn, .ref hdA, .ref spA, .ref bfA, .ref lnA, .ref prA, iv ep, va_rf lt]))] : va_W) ++ (SW E o sc ar) ++ ([(la, loA (E.2 5) u.2)] : va_W)) (fun u : Unit => ([(cw, .inr (1, [.ref (o 0), .ref oaA, .ref osA, iv hsn, .ref hdA, .ref spA, .ref bfA, .ref lnA, .ref prA, iv ep, va_rf lt]))] : va_W) ++ (SW E o sc ar) ++ ([(la, loA (E.2 5) zf)] : va_W))) (va_A (([(cw, .inr (1, [.ref (o 0), .ref oaA, .ref osA, iv hsn, .ref hdA, .ref spA, .ref bfA, .ref lnA, .ref prA, iv ep, va_rf lt]))] : va_W) ++ (SW E o sc ar) ++ ([(la, loA (E.2 5) zf)] : va_W)) sz)) (UXx E (fun (_ : String) (_ : Unit) => False) (fun _ : Unit => []) (fun _ : Unit => none) (va_A (([(cw, .inr (1, [.ref (o 0), .ref oaA, .ref osA, iv hsn, .ref hdA, .ref spA, .ref bfA, .ref lnA, .ref prA, iv ep, va_rf lt]))] : va_W) ++ (SW E o sc ar) ++ ([(la, loA (E.2 5) zf)] : va_W)) sz)) 1 6 (va_A (([(cw, .inr (1, [.ref (o 0), .ref oaA, .ref osA, iv hsn, .ref hdA, .ref spA, .ref bfA, .ref lnA, .ref prA, iv ep, va_rf lt]))] : va_W) ++ (SW E o sc ar) ++ ([(la, loA (E.2 5) zf)] : va_W)) sz) := by
  refine vx_ofWH (hh := [(0, 8, 11, 21)]) (cc := cX0_errorPosition) (maxL := 3) (ret := (some .int)) (by decide) rfl ?_
  intro p e s m args below meth c s₁ B hml hv
  obtain ⟨rfl, hsz, hP, hK, hD0, hE⟩ := hv
  have hx := B.exec
  have hb := B.bytes
  have hr := B.returns
  have hts := atoms_spec (ws := (wsW_ yX0_errorPosition cX0_errorPosition 3 (some .int) [(0, 8, 11, 21)])) B.pre
  have htab : c.exceptionTable.toList = tableOf [(0, 8, 11, 21)] := vx_table (x := yX0_errorPosition) B (hts _ List.mem_cons_self)
  have hts : ∀ w ∈ lw_all, w.before _ s = true := fun w h => hts w (List.mem_cons_of_mem _ h)
  have hown : s.vm.findClass RX0 = some m.cls := findClass_of_methodNamed B.named
  have hlocks := B.notSynchronized
  subst hsz
  have hD := hD0.self (sz := s.heap.size)
  generalize hAe : va_A (([(cw, .inr (1, [.ref (o 0), .ref oaA, .ref osA, iv hsn, .ref hdA, .ref spA, .ref bfA, .ref lnA, .ref prA, iv ep, va_rf lt]))] : va_W) ++ (SW E o sc ar) ++ ([(la, loA (E.2 5) zf)] : va_W)) s.heap.size = A at hD hE ⊢
  have hA : ∀ q : Nat, s.heap.size ≤ q → A q := fun q h => by rw [← hAe]; exact Or.inr h
  have hS : va_S A s.heap s.heap [] := va_S.rf
  have hl := lv_entry ([.ref cw, .ref la]) (n := 3) (Nat.le_of_ble_eq_true rfl)
  rw [lg_entry_eq]
  generalize (lg_sl ([.ref cw, .ref la]) ++ List.replicate (3 - (lg_sl ([.ref cw, .ref la])).length) Slot.unset).toArray = ls at hl ⊢
  have hl : lv_has ls 3 [(0, .ref cw), (1, .ref la)] := hl
  refine lv_aload_n hx hb dX0_errorPosition_0 rfl (lv_at hl 1 rfl) ?_
  refine lv_iconst (v := iI 0) hx hb dX0_errorPosition_1 rfl ?_
  refine lv_aload_n hx hb dX0_errorPosition_2 rfl (lv_at hl 0 rfl) ?_
  have hg_1 : gpick [[(cw, .inr (1, [.ref (o 0), .ref oaA, .ref osA, iv hsn, .ref hdA, .ref spA, .ref bfA, .ref lnA, .ref prA, iv ep, va_rf lt]))], SW E o sc ar, [(la, loA (E.2 5) zf)]] ([[(cw, .inr (1, [.ref (o 0), .ref oaA, .ref osA, iv hsn, .ref hdA, .ref spA, .ref bfA, .ref lnA, .ref prA, iv ep, va_rf lt]))], SW E o sc ar] ++ [[(la, loA (E.2 5) zf)]]) [0, 1, 2] := ⟨rfl, (show List.Perm [0, 1, 2] (List.range 3) from by decide)⟩
  have hg_1P : va_P E.1 CL (([(cw, .inr (1, [.ref (o 0), .ref oaA, .ref osA, iv hsn, .ref hdA, .ref spA, .ref bfA, .ref lnA, .ref prA, iv ep, va_rf lt]))] : va_W) ++ (SW E o sc ar)) s.heap := (g_out hg_1 hP hD).1
  have hg_1D : va_D A (([(cw, .inr (1, [.ref (o 0), .ref oaA, .ref osA, iv hsn, .ref hdA, .ref spA, .ref bfA, .ref lnA, .ref prA, iv ep, va_rf lt]))] : va_W) ++ (SW E o sc ar)) := (g_out hg_1 hP hD).2
  have hg_1F : ∀ q, va_A (([(cw, .inr (1, [.ref (o 0), .ref oaA, .ref osA, iv hsn, .ref hdA, .ref spA, .ref bfA, .ref lnA, .ref prA, iv ep, va_rf lt]))] : va_W) ++ (SW E o sc ar)) s.heap.size q → A q := g_free hg_1 hP hD hS hA
  have hlt_2 := P_lts hP
  have hz_3 : s.heap.size ≤ s.heap.size := hS.1
  have hj_6 : ∀ u_4 : Unit, gpick ([[(cw, .inr (1, [.ref (o 0), .ref oaA, .ref osA, iv hsn, .ref hdA, .ref spA, .ref bfA, .ref lnA, .ref prA, iv ep, va_rf lt]))], SW E o sc ar] ++ [[(la, loA (E.2 5) zf)]]) [[(cw, .inr (1, [.ref (o 0), .ref oaA, .ref osA, iv hsn, .ref hdA, .ref spA, .ref bfA, .ref lnA, .ref prA, iv ep, va_rf lt]))], SW E o sc ar, [(la, loA (E.2 5) zf)]] [0, 1, 2] := fun u_4 => ⟨rfl, (show List.Perm [0, 1, 2] (List.range 3) from by decide)⟩
  have hj_7 : ∀ u_5 : Unit, gpick ([[(cw, .inr (1, [.ref (o 0), .ref oaA, .ref osA, iv hsn, .ref hdA, .ref spA, .ref bfA, .ref lnA, .ref prA, iv ep, va_rf lt]))], SW E o sc ar] ++ [[(la, loA (E.2 5) zf)]]) [[(cw, .inr (1, [.ref (o 0), .ref oaA, .ref osA, iv hsn, .ref hdA, .ref spA, .ref bfA, .ref lnA, .ref prA, iv ep, va_rf lt]))], SW E o sc ar, [(la, loA (E.2 5) zf)]] [0, 1, 2] := fun u_5 => ⟨rfl, (show List.Perm [0, 1, 2] (List.range 3) from by decide)⟩
  refine n_txB (x := fun u_4 => ep) (w2 := fun u_4 : Unit => ([(cw, .inr (1, [.ref (o 0), .ref oaA, .ref osA, iv hsn, .ref hdA, .ref spA, .ref bfA, .ref lnA, .ref prA, iv ep, va_rf lt]))] : va_W) ++ (SW E o sc ar) ++ ([(la, loA (E.2 5) zf)] : va_W)) (w3 := fun u_5 : Unit => ([(cw, .inr (1, [.ref (o 0), .ref oaA, .ref osA, iv hsn, .ref hdA, .ref spA, .ref bfA, .ref lnA, .ref prA, iv ep, va_rf lt]))] : va_W) ++ (SW E o sc ar) ++ ([(la, loA (E.2 5) zf)] : va_W)) (vx_runV (As := []) (rest := [iv 0, .ref la]) ⟨hx, hb, hml, hown, hts⟩ (mt_X1_errorPosition l E cw oaA osA hsn hdA spA bfA lnA prA ep lt o sc ar  (by exact hst) (by omega) _) (cwV 0 hts (lw_V q1997 q1998 q1999 q94 q2000) rfl rfl rfl (by decide +kernel) ⟨Nat.le_of_ble_eq_true rfl, Nat.le_of_ble_eq_true rfl⟩) (UX_V hg_1P hK (hg_1D) hE hS hg_1F (va_recv hK.1 hP (ci := 1) (q0 := 0) rfl rfl)) rfl rfl hl.1 rfl (lv_room (Nat.le_of_ble_eq_true rfl)) dX0_errorPosition_3 ⟨Nat.le_of_ble_eq_true rfl, Nat.le_of_ble_eq_true rfl⟩) hS hg_1F ?_ ?_ ?_ ?_
  · exact (fun u_4 _ hk9 hp9 hd9 => g_back hg_1 (hj_6 u_4) hP hD hg_1F hk9 hp9 hd9)
  · exact (fun u_5 _ hk9 hp9 hd9 => g_back hg_1 (hj_7 u_5) hP hD hg_1F hk9 hp9 hd9)
  · intro En ce q9 u_5 H locs hCx hP hD hS hxf hq9 hce hcv hcl
    have hCx : En = "java/util/NoSuchElementException" ∧ c_mns ep = 1 := hCx
    have hP : va_P E.1 CL (([(cw, .inr (1, [.ref (o 0), .ref oaA, .ref osA, iv hsn, .ref hdA, .ref spA, .ref bfA, .ref lnA, .ref prA, iv ep, va_rf lt]))] : va_W) ++ (SW E o sc ar) ++ ([(la, loA (E.2 5) zf)] : va_W)) H := hP
    have hD : va_D A (([(cw, .inr (1, [.ref (o 0), .ref oaA, .ref osA, iv hsn, .ref hdA, .ref spA, .ref bfA, .ref lnA, .ref prA, iv ep, va_rf lt]))] : va_W) ++ (SW E o sc ar) ++ ([(la, loA (E.2 5) zf)] : va_W)) := hD
    have hcx9 := hCx
    obtain ⟨hEn9, hk9⟩ := hCx
    subst hEn9
    refine vx_catch (own := "ClockworkTailorLaw") hown [] _ [] htab (fun z hz => by cases hz) (by decide) (by decide) (name := "java/util/NoSuchElementException") (hts _ q951) (hK.nw q976) hce hcv hcl ?_
    refine lv_astore_n (lv' := [(2, .ref q9), (0, .ref cw), (1, .ref la)]) hx hb dX0_errorPosition_11 rfl hl (by decide) rfl (fun ls hl => ?_)
    refine lv_iconst (v := iI 1) hx hb dX0_errorPosition_12 rfl ?_
    have hfin : 1 = c_mns ep := by
      first | exact hz9.symm | exact hk9.symm
    refine vx_ret ?_
    refine W.widen (k := 1) (n := 6) (Nat.le_of_ble_eq_true rfl) (Nat.le_of_ble_eq_true rfl) ?_
    exact W.iret (v := iI 1) hx hb hr (fun tt_ ht_ hW_ => ⟨⟨iI 1, .inr u_5, rfl, ⟨(show 0 < c_mns ep ∧ ∃ En : String, En = "java/util/NoSuchElementException" ∧ c_mns ep = 1 from ⟨(by omega), _, hcx9⟩), (congrArg iI hfin)⟩, by rw [ht_]; exact hP, hD⟩, hS.F ht_⟩) hS.2.2 dX0_errorPosition_13
  · intro u_4 H locs hC hP hD hS
    have hu_4 : c_mns ep = 0 := hC
    have hP : va_P E.1 CL (([(cw, .inr (1, [.ref (o 0), .ref oaA, .ref osA, iv hsn, .ref hdA, .ref spA, .ref bfA, .ref lnA, .ref prA, iv ep, va_rf lt]))] : va_W) ++ (SW E o sc ar) ++ ([(la, loA (E.2 5) zf)] : va_W)) H := hP
    have hD : va_D A (([(cw, .inr (1, [.ref (o 0), .ref oaA, .ref osA, iv hsn, .ref hdA, .ref spA, .ref bfA, .ref lnA, .ref prA, iv ep, va_rf lt]))] : va_W) ++ (SW E o sc ar) ++ ([(la, loA (E.2 5) zf)] : va_W)) := hD
    have hz9 : c_mns ep = 0 := hu_4
    refine lv_i2l (v := (iI ep).toInt64) hx hb dX0_errorPosition_6 rfl ?_
    refine n_last1 hx hb hK.1 hP hD hS 18 rfl dX0_errorPosition_7 (ws2 := ([(cw, .inr (1, [.ref (o 0), .ref oaA, .ref osA, iv hsn, .ref hdA, .ref spA, .ref bfA, .ref lnA, .ref prA, iv ep, va_rf lt]))] : va_W) ++ (SW E o sc ar) ++ ([(la, loA (E.2 5) (vp_updL zf 0 ((iI ep).toInt64)))] : va_W)) rfl (fun H locs hP hD hS => ?_)
    have hP : va_P E.1 CL (([(cw, .inr (1, [.ref (o 0), .ref oaA, .ref osA, iv hsn, .ref hdA, .ref spA, .ref bfA, .ref lnA, .ref prA, iv ep, va_rf lt]))] : va_W) ++ (SW E o sc ar) ++ ([(la, loA (E.2 5) (vp_updL zf 0 ((iI ep).toInt64)))] : va_W)) H := hP
    have hD : va_D A (([(cw, .inr (1, [.ref (o 0), .ref oaA, .ref osA, iv hsn, .ref hdA, .ref spA, .ref bfA, .ref lnA, .ref prA, iv ep, va_rf lt]))] : va_W) ++ (SW E o sc ar) ++ ([(la, loA (E.2 5) (vp_updL zf 0 ((iI ep).toInt64)))] : va_W)) := hD
    refine lv_goto (tgt := 14) hx hb dX0_errorPosition_8 (by decide) ?_
    refine lv_iconst (v := iI 0) hx hb dX0_errorPosition_14 rfl ?_
    have hfin : 0 = c_mns ep := by
      first | exact hz9.symm | exact hk9.symm
    refine vx_ret ?_
    refine W.widen (k := 1) (n := 6) (Nat.le_of_ble_eq_true rfl) (Nat.le_of_ble_eq_true rfl) ?_
    exact W.iret (v := iI 0) hx hb hr (fun tt_ ht_ hW_ => ⟨⟨iI 0, .inl (u_4, (vp_updL zf 0 ((iI ep).toInt64))), rfl, ⟨(show (c_mns ep = 0) ∧ c_mns ep = 0 ∧ (u_4, (vp_updL zf 0 ((iI ep).toInt64))).2 0 = (iI ep).toInt64 from ⟨hu_4, hz9, rfl⟩), (congrArg iI hfin)⟩, by rw [ht_]; exact hP, hD⟩, hS.F ht_⟩) hS.2.2 dX0_errorPosition_15
set_option maxHeartbeats 2000000 in
set_option maxRecDepth 100000 in
theorem mt_X0_undo (l : Launch) (E : EE) (cw : Nat) (oaA : Nat) (osA : Nat) (hsn : Int) (bfA : Nat) (lnA : Nat) (prA : Nat) (ep : Int) (lt : Option Nat) (o : Nat → Nat) (sc : Nat → Int) (ar : Nat → Int → Int) (oe : Nat → Nat) (se : Nat → Int) (ae : Nat → Int → Int) (hda : Nat) (xh1 : Int) (xt1 : Int) (hdb : Nat) (xf1 : Int → Option Nat) (spa : Nat) (xh2 : Int) (xt2 : Int) (sdb : Nat) (xf2 : Int → Option Nat) (la : Nat) (zf : Nat → Int64)  (ge : Int → Int) (nh : Int) (ns : Int) (LH : Int → Nat) (LS : Int → Nat) (hst : l.stackTraces = false) (hsr2 : SR ge se ae) (how2 : OY ge) (hdh : DQ xf1 xh1 xt1 nh LH) (hds : DQ xf2 xh2 xt2 ns LS) (hnn : 0 ≤ nh ∧ 0 ≤ ns ∧ nh + ns = 8) (he1 : 0 < nh → LH (nh - 1) = oe 0) (sz : Nat) : vx_Met l yX0_undo (wsW_ yX0_undo cX0_undo 3 (some .int) [(0, 8, 11, 15)]) { frames := 8, cells := 1, slots := 6, locals := 133 } (va_Pc [.ref cw, .ref la] (UX E (([(cw, .inr (1, [.ref (o 0), .ref oaA, .ref osA, iv hsn, .ref hda, .ref spa, .ref bfA, .ref lnA, .ref prA, iv ep, va_rf lt]))] : va_W) ++ (SW E o sc ar) ++ (SW E oe se ae) ++ ([(hda, .inr (9, [.ref hdb, iv xh1, iv xt1]))] : va_W) ++ ([(hdb, qa (E.2 4) 17 xf1)] : va_W) ++ ([(spa, .inr (9, [.ref sdb, iv xh2, iv xt2]))] : va_W) ++ ([(sdb, qa (E.2 4) 17 xf2)] : va_W) ++ ([(la, loA (E.2 5) zf)] : va_W)) sz)) (UQx E (Sum.elim (fun u : (SU × (Int → Option Nat) × (Int → Option Nat) × Int × Int × Int) × (Nat → Int64) => (c_nul nh = 0 ∧ SR ge u.1.1.1 u.1.1.2 ∧ DQ u.1.2.1 u.1.2.2.2.1 u.1.2.2.2.2.1 (nh - 1) LH ∧ DQ u.1.2.2.1 xh2 u.1.2.2.2.2.2 (ns + 1) (fun i => if i = ns then oe 0 else LS i)) ∧ c_nul nh = 0 ∧ u.2 0 = (iI (nh - 1)).toInt64) (fun u : Unit => 0 < c_nul nh ∧ ∃ En : String, En = "java/lang/IllegalStateException" ∧ c_nul nh = 1)) (fun _ => c_nul nh) (Sum.elim (fun u : (SU × (Int → Option Nat) × (Int → Option Nat) × Int × Int × Int) × (Nat → Int64) => ([(cw, .inr (1, [.ref (o 0), .ref oaA, .ref osA, iv hsn, .ref hda, .ref spa, .ref bfA, .ref lnA, .ref prA, iv ep, va_rf lt]))] : va_W) ++ (SW E o u.1.1.1 u.1.1.2) ++ (SW E oe se ae) ++ ([(hda, .inr (9, [.ref hdb, iv u.1.2.2.2.1, iv u.1.2.2.2.2.1]))] : va_W) ++ ([(hdb, qa (E.2 4) 17 u.1.2.1)] : va_W) ++ ([(spa, .inr (9, [.ref sdb, iv xh2, iv u.1.2.2.2.2.2]))] : va_W) ++ ([(sdb, qa (E.2 4) 17 u.1.2.2.1)] : va_W) ++ ([(la, loA (E.2 5) u.2)] : va_W)) (fun u : Unit => ([(cw, .inr (1, [.ref (o 0), .ref oaA, .ref osA, iv hsn, .ref hda, .ref spa, .ref bfA, .ref lnA, .ref prA, iv ep, va_rf lt]))] : va_W) ++ (SW E o sc ar) ++ (SW E oe se ae) ++ ([(hda, .inr (9, [.ref hdb, iv xh1, iv xt1]))] : va_W) ++ ([(hdb, qa (E.2 4) 17 xf1)] : va_W) ++ ([(spa, .inr (9, [.ref sdb, iv xh2, iv xt2]))] : va_W) ++ ([(sdb, qa (E.2 4) 17 xf2)] : va_W) ++ ([(la, loA (E.2 5) zf)] : va_W))) (va_A (([(cw, .inr (1, [.ref (o 0), .ref oaA, .ref osA, iv hsn, .ref hda, .ref spa, .ref bfA, .ref lnA, .ref prA, iv ep, va_rf lt]))] : va_W) ++ (SW E o sc ar) ++ (SW E oe se ae) ++ ([(hda, .inr (9, [.ref hdb, iv xh1, iv xt1]))] : va_W) ++ ([(hdb, qa (E.2 4) 17 xf1)] : va_W) ++ ([(spa, .inr (9, [.ref sdb, iv xh2, iv xt2]))] : va_W) ++ ([(sdb, qa (E.2 4) 17 xf2)] : va_W) ++ ([(la, loA (E.2 5) zf)] : va_W)) sz)) (UXx E (fun (_ : String) (_ : Unit) => False) (fun _ : Unit => []) (fun _ : Unit => none) (va_A (([(cw, .inr (1, [.ref (o 0), .ref oaA, .ref osA, iv hsn, .ref hda, .ref spa, .ref bfA, .ref lnA, .ref prA, iv ep, va_rf lt]))] : va_W) ++ (SW E o sc ar) ++ (SW E oe se ae) ++ ([(hda, .inr (9, [.ref hdb, iv xh1, iv xt1]))] : va_W) ++ ([(hdb, qa (E.2 4) 17 xf1)] : va_W) ++ ([(spa, .inr (9, [.ref sdb, iv xh2, iv xt2]))] : va_W) ++ ([(sdb, qa (E.2 4) 17 xf2)] : va_W) ++ ([(la, loA (E.2 5) zf)] : va_W)) sz)) 1 6 (va_A (([(cw, .inr (1, [.ref (o 0), .ref oaA, .ref osA, iv hsn, .ref hda, .ref spa, .ref bfA, .ref lnA, .ref prA, iv ep, va_rf lt]))] : va_W) ++ (SW E o sc ar) ++ (SW E oe se ae) ++ ([(hda, .inr (9, [.ref hdb, iv xh1, iv xt1]))] : va_W) ++ ([(hdb, qa (E.2 4) 17 xf1)] : va_W) ++ ([(spa, .inr (9, [.ref sdb, iv xh2, iv xt2]))] : va_W) ++ ([(sdb, qa (E.2 4) 17 xf2)] : va_W) ++ ([(la, loA (E.2 5) zf)] : va_W)) sz) := by
  refine vx_ofWH (hh := [(0, 8, 11, 15)]) (cc := cX0_undo) (maxL := 3) (ret := (some .int)) (by decide) rfl ?_
  intro p e s m args below meth c s₁ B hml hv
  obtain ⟨rfl, hsz, hP, hK, hD0, hE⟩ := hv
  have hx := B.exec
  have hb := B.bytes
  have hr := B.returns
  have hts := atoms_spec (ws := (wsW_ yX0_undo cX0_undo 3 (some .int) [(0, 8, 11, 15)])) B.pre
  have htab : c.exceptionTable.toList = tableOf [(0, 8, 11, 15)] := vx_table (x := yX0_undo) B (hts _ List.mem_cons_self)
  have hts : ∀ w ∈ lw_all, w.before _ s = true := fun w h => hts w (List.mem_cons_of_mem _ h)
  have hown : s.vm.findClass RX0 = some m.cls := findClass_of_methodNamed B.named
  have hlocks := B.notSynchronized
  subst hsz
  have hD := hD0.self (sz := s.heap.size)
  generalize hAe : va_A (([(cw, .inr (1, [.ref (o 0), .ref oaA, .ref osA, iv hsn, .ref hda, .ref spa, .ref bfA, .ref lnA, .ref prA, iv ep, va_rf lt]))] : va_W) ++ (SW E o sc ar) ++ (SW E oe se ae) ++ ([(hda, .inr (9, [.ref hdb, iv xh1, iv xt1]))] : va_W) ++ ([(hdb, qa (E.2 4) 17 xf1)] : va_W) ++ ([(spa, .inr (9, [.ref sdb, iv xh2, iv xt2]))] : va_W) ++ ([(sdb, qa (E.2 4) 17 xf2)] : va_W) ++ ([(la, loA (E.2 5) zf)] : va_W)) s.heap.size = A at hD hE ⊢
  have hA : ∀ q : Nat, s.heap.size ≤ q → A q := fun q h => by rw [← hAe]; exact Or.inr h
  have hS : va_S A s.heap s.heap [] := va_S.rf
  have hl := lv_entry ([.ref cw, .ref la]) (n := 3) (Nat.le_of_ble_eq_true rfl)
  rw [lg_entry_eq]
  generalize (lg_sl ([.ref cw, .ref la]) ++ List.replicate (3 - (lg_sl ([.ref cw, .ref la])).length) Slot.unset).toArray = ls at hl ⊢
  have hl : lv_has ls 3 [(0, .ref cw), (1, .ref la)] := hl
  refine lv_aload_n hx hb dX0_undo_0 rfl (lv_at hl 1 rfl) ?_
  refine lv_iconst (v := iI 0) hx hb dX0_undo_1 rfl ?_
  refine lv_aload_n hx hb dX0_undo_2 rfl (lv_at hl 0 rfl) ?_
  have hg_1 : gpick [[(cw, .inr (1, [.ref (o 0), .ref oaA, .ref osA, iv hsn, .ref hda, .ref spa, .ref bfA, .ref lnA, .ref prA, iv ep, va_rf lt]))], SW E o sc ar, SW E oe se ae, [(hda, .inr (9, [.ref hdb, iv xh1, iv xt1]))], [(hdb, qa (E.2 4) 17 xf1)], [(spa, .inr (9, [.ref sdb, iv xh2, iv xt2]))], [(sdb, qa (E.2 4) 17 xf2)], [(la, loA (E.2 5) zf)]] ([[(cw, .inr (1, [.ref (o 0), .ref oaA, .ref osA, iv hsn, .ref hda, .ref spa, .ref bfA, .ref lnA, .ref prA, iv ep, va_rf lt]))], SW E o sc ar, SW E oe se ae, [(hda, .inr (9, [.ref hdb, iv xh1, iv xt1]))], [(hdb, qa (E.2 4) 17 xf1)], [(spa, .inr (9, [.ref sdb, iv xh2, iv xt2]))], [(sdb, qa (E.2 4) 17 xf2)]] ++ [[(la, loA (E.2 5) zf)]]) [0, 1, 2, 3, 4, 5, 6, 7] := ⟨rfl, (show List.Perm [0, 1, 2, 3, 4, 5, 6, 7] (List.range 8) from by decide)⟩
  have hg_1P : va_P E.1 CL (([(cw, .inr (1, [.ref (o 0), .ref oaA, .ref osA, iv hsn, .ref hda, .ref spa, .ref bfA, .ref lnA, .ref prA, iv ep, va_rf lt]))] : va_W) ++ (SW E o sc ar) ++ (SW E oe se ae) ++ ([(hda, .inr (9, [.ref hdb, iv xh1, iv xt1]))] : va_W) ++ ([(hdb, qa (E.2 4) 17 xf1)] : va_W) ++ ([(spa, .inr (9, [.ref sdb, iv xh2, iv xt2]))] : va_W) ++ ([(sdb, qa (E.2 4) 17 xf2)] : va_W)) s.heap := (g_out hg_1 hP hD).1
  have hg_1D : va_D A (([(cw, .inr (1, [.ref (o 0), .ref oaA, .ref osA, iv hsn, .ref hda, .ref spa, .ref bfA, .ref lnA, .ref prA, iv ep, va_rf lt]))] : va_W) ++ (SW E o sc ar) ++ (SW E oe se ae) ++ ([(hda, .inr (9, [.ref hdb, iv xh1, iv xt1]))] : va_W) ++ ([(hdb, qa (E.2 4) 17 xf1)] : va_W) ++ ([(spa, .inr (9, [.ref sdb, iv xh2, iv xt2]))] : va_W) ++ ([(sdb, qa (E.2 4) 17 xf2)] : va_W)) := (g_out hg_1 hP hD).2
  have hg_1F : ∀ q, va_A (([(cw, .inr (1, [.ref (o 0), .ref oaA, .ref osA, iv hsn, .ref hda, .ref spa, .ref bfA, .ref lnA, .ref prA, iv ep, va_rf lt]))] : va_W) ++ (SW E o sc ar) ++ (SW E oe se ae) ++ ([(hda, .inr (9, [.ref hdb, iv xh1, iv xt1]))] : va_W) ++ ([(hdb, qa (E.2 4) 17 xf1)] : va_W) ++ ([(spa, .inr (9, [.ref sdb, iv xh2, iv xt2]))] : va_W) ++ ([(sdb, qa (E.2 4) 17 xf2)] : va_W)) s.heap.size q → A q := g_free hg_1 hP hD hS hA
  have hlt_2 := P_lts hP
  have hz_3 : s.heap.size ≤ s.heap.size := hS.1
  have hj_6 : ∀ u_4 : SU × (Int → Option Nat) × (Int → Option Nat) × Int × Int × Int, gpick ([[(cw, .inr (1, [.ref (o 0), .ref oaA, .ref osA, iv hsn, .ref hda, .ref spa, .ref bfA, .ref lnA, .ref prA, iv ep, va_rf lt]))], SW E o u_4.1.1 u_4.1.2, SW E oe se ae, [(hda, .inr (9, [.ref hdb, iv u_4.2.2.2.1, iv u_4.2.2.2.2.1]))], [(hdb, qa (E.2 4) 17 u_4.2.1)], [(spa, .inr (9, [.ref sdb, iv xh2, iv u_4.2.2.2.2.2]))], [(sdb, qa (E.2 4) 17 u_4.2.2.1)]] ++ [[(la, loA (E.2 5) zf)]]) [[(cw, .inr (1, [.ref (o 0), .ref oaA, .ref osA, iv hsn, .ref hda, .ref spa, .ref bfA, .ref lnA, .ref prA, iv ep, va_rf lt]))], SW E o u_4.1.1 u_4.1.2, SW E oe se ae, [(hda, .inr (9, [.ref hdb, iv u_4.2.2.2.1, iv u_4.2.2.2.2.1]))], [(hdb, qa (E.2 4) 17 u_4.2.1)], [(spa, .inr (9, [.ref sdb, iv xh2, iv u_4.2.2.2.2.2]))], [(sdb, qa (E.2 4) 17 u_4.2.2.1)], [(la, loA (E.2 5) zf)]] [0, 1, 2, 3, 4, 5, 6, 7] := fun u_4 => ⟨rfl, (show List.Perm [0, 1, 2, 3, 4, 5, 6, 7] (List.range 8) from by decide)⟩
  have hj_7 : ∀ u_5 : Unit, gpick ([[(cw, .inr (1, [.ref (o 0), .ref oaA, .ref osA, iv hsn, .ref hda, .ref spa, .ref bfA, .ref lnA, .ref prA, iv ep, va_rf lt]))], SW E o sc ar, SW E oe se ae, [(hda, .inr (9, [.ref hdb, iv xh1, iv xt1]))], [(hdb, qa (E.2 4) 17 xf1)], [(spa, .inr (9, [.ref sdb, iv xh2, iv xt2]))], [(sdb, qa (E.2 4) 17 xf2)]] ++ [[(la, loA (E.2 5) zf)]]) [[(cw, .inr (1, [.ref (o 0), .ref oaA, .ref osA, iv hsn, .ref hda, .ref spa, .ref bfA, .ref lnA, .ref prA, iv ep, va_rf lt]))], SW E o sc ar, SW E oe se ae, [(hda, .inr (9, [.ref hdb, iv xh1, iv xt1]))], [(hdb, qa (E.2 4) 17 xf1)], [(spa, .inr (9, [.ref sdb, iv xh2, iv xt2]))], [(sdb, qa (E.2 4) 17 xf2)], [(la, loA (E.2 5) zf)]] [0, 1, 2, 3, 4, 5, 6, 7] := fun u_5 => ⟨rfl, (show List.Perm [0, 1, 2, 3, 4, 5, 6, 7] (List.range 8) from by decide)⟩
  refine n_txB (x := fun u_4 => nh - 1) (w2 := fun u_4 : SU × (Int → Option Nat) × (Int → Option Nat) × Int × Int × Int => ([(cw, .inr (1, [.ref (o 0), .ref oaA, .ref osA, iv hsn, .ref hda, .ref spa, .ref bfA, .ref lnA, .ref prA, iv ep, va_rf lt]))] : va_W) ++ (SW E o u_4.1.1 u_4.1.2) ++ (SW E oe se ae) ++ ([(hda, .inr (9, [.ref hdb, iv u_4.2.2.2.1, iv u_4.2.2.2.2.1]))] : va_W) ++ ([(hdb, qa (E.2 4) 17 u_4.2.1)] : va_W) ++ ([(spa, .inr (9, [.ref sdb, iv xh2, iv u_4.2.2.2.2.2]))] : va_W) ++ ([(sdb, qa (E.2 4) 17 u_4.2.2.1)] : va_W) ++ ([(la, loA (E.2 5) zf)] : va_W)) (w3 := fun u_5 : Unit => ([(cw, .inr (1, [.ref (o 0), .ref oaA, .ref osA, iv hsn, .ref hda, .ref spa, .ref bfA, .ref lnA, .ref prA, iv ep, va_rf lt]))] : va_W) ++ (SW E o sc ar) ++ (SW E oe se ae) ++ ([(hda, .inr (9, [.ref hdb, iv xh1, iv xt1]))] : va_W) ++ ([(hdb, qa (E.2 4) 17 xf1)] : va_W) ++ ([(spa, .inr (9, [.ref sdb, iv xh2, iv xt2]))] : va_W) ++ ([(sdb, qa (E.2 4) 17 xf2)] : va_W) ++ ([(la, loA (E.2 5) zf)] : va_W)) (vx_runV (As := []) (rest := [iv 0, .ref la]) ⟨hx, hb, hml, hown, hts⟩ (mt_X1_undo l E cw oaA osA hsn bfA lnA prA ep lt o sc ar oe se ae hda xh1 xt1 hdb xf1 spa xh2 xt2 sdb xf2  ge nh ns LH LS (by exact hst) (by assumption) (by assumption) (by assumption) (by assumption) (by assumption) (by assumption) _) (cwV 0 hts (lw_V q2004 q2005 q2006 q94 q2007) rfl rfl rfl (by decide +kernel) ⟨Nat.le_of_ble_eq_true rfl, Nat.le_of_ble_eq_true rfl⟩) (UX_V hg_1P hK (hg_1D) hE hS hg_1F (va_recv hK.1 hP (ci := 1) (q0 := 0) rfl rfl)) rfl rfl hl.1 rfl (lv_room (Nat.le_of_ble_eq_true rfl)) dX0_undo_3 ⟨Nat.le_of_ble_eq_true rfl, Nat.le_of_ble_eq_true rfl⟩) hS hg_1F ?_ ?_ ?_ ?_
  · exact (fun u_4 _ hk9 hp9 hd9 => g_back hg_1 (hj_6 u_4) hP hD hg_1F hk9 hp9 hd9)
  · exact (fun u_5 _ hk9 hp9 hd9 => g_back hg_1 (hj_7 u_5) hP hD hg_1F hk9 hp9 hd9)
  · intro En ce q9 u_5 H locs hCx hP hD hS hxf hq9 hce hcv hcl
    have hCx : En = "java/lang/IllegalStateException" ∧ c_nul nh = 1 := hCx
    have hP : va_P E.1 CL (([(cw, .inr (1, [.ref (o 0), .ref oaA, .ref osA, iv hsn, .ref hda, .ref spa, .ref bfA, .ref lnA, .ref prA, iv ep, va_rf lt]))] : va_W) ++ (SW E o sc ar) ++ (SW E oe se ae) ++ ([(hda, .inr (9, [.ref hdb, iv xh1, iv xt1]))] : va_W) ++ ([(hdb, qa (E.2 4) 17 xf1)] : va_W) ++ ([(spa, .inr (9, [.ref sdb, iv xh2, iv xt2]))] : va_W) ++ ([(sdb, qa (E.2 4) 17 xf2)] : va_W) ++ ([(la, loA (E.2 5) zf)] : va_W)) H := hP
    have hD : va_D A (([(cw, .inr (1, [.ref (o 0), .ref oaA, .ref osA, iv hsn, .ref hda, .ref spa, .ref bfA, .ref lnA, .ref prA, iv ep, va_rf lt]))] : va_W) ++ (SW E o sc ar) ++ (SW E oe se ae) ++ ([(hda, .inr (9, [.ref hdb, iv xh1, iv xt1]))] : va_W) ++ ([(hdb, qa (E.2 4) 17 xf1)] : va_W) ++ ([(spa, .inr (9, [.ref sdb, iv xh2, iv xt2]))] : va_W) ++ ([(sdb, qa (E.2 4) 17 xf2)] : va_W) ++ ([(la, loA (E.2 5) zf)] : va_W)) := hD
    have hcx9 := hCx
    obtain ⟨hEn9, hk9⟩ := hCx
    subst hEn9
    refine vx_catch (own := "ClockworkTailorLaw") hown [] _ [] htab (fun z hz => by cases hz) (by decide) (by decide) (name := "java/lang/IllegalStateException") (hts _ q868) (hK.nw q357) hce hcv hcl ?_
    refine lv_astore_n (lv' := [(2, .ref q9), (0, .ref cw), (1, .ref la)]) hx hb dX0_undo_11 rfl hl (by decide) rfl (fun ls hl => ?_)
    refine lv_iconst (v := iI 1) hx hb dX0_undo_12 rfl ?_
    have hfin : 1 = c_nul nh := by
      first | exact hz9.symm | exact hk9.symm
    refine vx_ret ?_
    refine W.widen (k := 1) (n := 6) (Nat.le_of_ble_eq_true rfl) (Nat.le_of_ble_eq_true rfl) ?_
    exact W.iret (v := iI 1) hx hb hr (fun tt_ ht_ hW_ => ⟨⟨iI 1, .inr u_5, rfl, ⟨(show 0 < c_nul nh ∧ ∃ En : String, En = "java/lang/IllegalStateException" ∧ c_nul nh = 1 from ⟨(by omega), _, hcx9⟩), (congrArg iI hfin)⟩, by rw [ht_]; exact hP, hD⟩, hS.F ht_⟩) hS.2.2 dX0_undo_13
  · intro u_4 H locs hC hP hD hS
    have hu_4 : c_nul nh = 0 ∧ SR ge u_4.1.1 u_4.1.2 ∧ DQ u_4.2.1 u_4.2.2.2.1 u_4.2.2.2.2.1 (nh - 1) LH ∧ DQ u_4.2.2.1 xh2 u_4.2.2.2.2.2 (ns + 1) (fun i => if i = ns then oe 0 else LS i) := hC
    have hP : va_P E.1 CL (([(cw, .inr (1, [.ref (o 0), .ref oaA, .ref osA, iv hsn, .ref hda, .ref spa, .ref bfA, .ref lnA, .ref prA, iv ep, va_rf lt]))] : va_W) ++ (SW E o u_4.1.1 u_4.1.2) ++ (SW E oe se ae) ++ ([(hda, .inr (9, [.ref hdb, iv u_4.2.2.2.1, iv u_4.2.2.2.2.1]))] : va_W) ++ ([(hdb, qa (E.2 4) 17 u_4.2.1)] : va_W) ++ ([(spa, .inr (9, [.ref sdb, iv xh2, iv u_4.2.2.2.2.2]))] : va_W) ++ ([(sdb, qa (E.2 4) 17 u_4.2.2.1)] : va_W) ++ ([(la, loA (E.2 5) zf)] : va_W)) H := hP
    have hD : va_D A (([(cw, .inr (1, [.ref (o 0), .ref oaA, .ref osA, iv hsn, .ref hda, .ref spa, .ref bfA, .ref lnA, .ref prA, iv ep, va_rf lt]))] : va_W) ++ (SW E o u_4.1.1 u_4.1.2) ++ (SW E oe se ae) ++ ([(hda, .inr (9, [.ref hdb, iv u_4.2.2.2.1, iv u_4.2.2.2.2.1]))] : va_W) ++ ([(hdb, qa (E.2 4) 17 u_4.2.1)] : va_W) ++ ([(spa, .inr (9, [.ref sdb, iv xh2, iv u_4.2.2.2.2.2]))] : va_W) ++ ([(sdb, qa (E.2 4) 17 u_4.2.2.1)] : va_W) ++ ([(la, loA (E.2 5) zf)] : va_W)) := hD
    have hz9 : c_nul nh = 0 := hu_4.1
    refine lv_i2l (v := (iI (nh - 1)).toInt64) hx hb dX0_undo_6 rfl ?_
    refine n_last1 hx hb hK.1 hP hD hS 39 rfl dX0_undo_7 (ws2 := ([(cw, .inr (1, [.ref (o 0), .ref oaA, .ref osA, iv hsn, .ref hda, .ref spa, .ref bfA, .ref lnA, .ref prA, iv ep, va_rf lt]))] : va_W) ++ (SW E o u_4.1.1 u_4.1.2) ++ (SW E oe se ae) ++ ([(hda, .inr (9, [.ref hdb, iv u_4.2.2.2.1, iv u_4.2.2.2.2.1]))] : va_W) ++ ([(hdb, qa (E.2 4) 17 u_4.2.1)] : va_W) ++ ([(spa, .inr (9, [.ref sdb, iv xh2, iv u_4.2.2.2.2.2]))] : va_W) ++ ([(sdb, qa (E.2 4) 17 u_4.2.2.1)] : va_W) ++ ([(la, loA (E.2 5) (vp_updL zf 0 ((iI (nh - 1)).toInt64)))] : va_W)) rfl (fun H locs hP hD hS => ?_)
    have hP : va_P E.1 CL (([(cw, .inr (1, [.ref (o 0), .ref oaA, .ref osA, iv hsn, .ref hda, .ref spa, .ref bfA, .ref lnA, .ref prA, iv ep, va_rf lt]))] : va_W) ++ (SW E o u_4.1.1 u_4.1.2) ++ (SW E oe se ae) ++ ([(hda, .inr (9, [.ref hdb, iv u_4.2.2.2.1, iv u_4.2.2.2.2.1]))] : va_W) ++ ([(hdb, qa (E.2 4) 17 u_4.2.1)] : va_W) ++ ([(spa, .inr (9, [.ref sdb, iv xh2, iv u_4.2.2.2.2.2]))] : va_W) ++ ([(sdb, qa (E.2 4) 17 u_4.2.2.1)] : va_W) ++ ([(la, loA (E.2 5) (vp_updL zf 0 ((iI (nh - 1)).toInt64)))] : va_W)) H := hP
    have hD : va_D A (([(cw, .inr (1, [.ref (o 0), .ref oaA, .ref osA, iv hsn, .ref hda, .ref spa, .ref bfA, .ref lnA, .ref prA, iv ep, va_rf lt]))] : va_W) ++ (SW E o u_4.1.1 u_4.1.2) ++ (SW E oe se ae) ++ ([(hda, .inr (9, [.ref hdb, iv u_4.2.2.2.1, iv u_4.2.2.2.2.1]))] : va_W) ++ ([(hdb, qa (E.2 4) 17 u_4.2.1)] : va_W) ++ ([(spa, .inr (9, [.ref sdb, iv xh2, iv u_4.2.2.2.2.2]))] : va_W) ++ ([(sdb, qa (E.2 4) 17 u_4.2.2.1)] : va_W) ++ ([(la, loA (E.2 5) (vp_updL zf 0 ((iI (nh - 1)).toInt64)))] : va_W)) := hD
    refine lv_goto (tgt := 14) hx hb dX0_undo_8 (by decide) ?_
    refine lv_iconst (v := iI 0) hx hb dX0_undo_14 rfl ?_
    have hfin : 0 = c_nul nh := by
      first | exact hz9.symm | exact hk9.symm
    refine vx_ret ?_
    refine W.widen (k := 1) (n := 6) (Nat.le_of_ble_eq_true rfl) (Nat.le_of_ble_eq_true rfl) ?_
    exact W.iret (v := iI 0) hx hb hr (fun tt_ ht_ hW_ => ⟨⟨iI 0, .inl (u_4, (vp_updL zf 0 ((iI (nh - 1)).toInt64))), rfl, ⟨(show (c_nul nh = 0 ∧ SR ge (u_4, (vp_updL zf 0 ((iI (nh - 1)).toInt64))).1.1.1 (u_4, (vp_updL zf 0 ((iI (nh - 1)).toInt64))).1.1.2 ∧ DQ (u_4, (vp_updL zf 0 ((iI (nh - 1)).toInt64))).1.2.1 (u_4, (vp_updL zf 0 ((iI (nh - 1)).toInt64))).1.2.2.2.1 (u_4, (vp_updL zf 0 ((iI (nh - 1)).toInt64))).1.2.2.2.2.1 (nh - 1) LH ∧ DQ (u_4, (vp_updL zf 0 ((iI (nh - 1)).toInt64))).1.2.2.1 xh2 (u_4, (vp_updL zf 0 ((iI (nh - 1)).toInt64))).1.2.2.2.2.2 (ns + 1) (fun i => if i = ns then oe 0 else LS i)) ∧ c_nul nh = 0 ∧ (u_4, (vp_updL zf 0 ((iI (nh - 1)).toInt64))).2 0 = (iI (nh - 1)).toInt64 from ⟨hu_4, hz9, rfl⟩), (congrArg iI hfin)⟩, by rw [ht_]; exact hP, hD⟩, hS.F ht_⟩) hS.2.2 dX0_undo_15
set_option maxHeartbeats 2000000 in
set_option maxRecDepth 100000 in
theorem mt_X0_restore (l : Launch) (E : EE) (cw : Nat) (oaA : Nat) (hsn : Int) (bfA : Nat) (lnA : Nat) (prA : Nat) (ep : Int) (lt : Option Nat) (o : Nat → Nat) (sc : Nat → Int) (ar : Nat → Int → Int) (os : Nat → Nat) (sz9 : Nat → Int) (az9 : Nat → Int → Int) (hda : Nat) (xh1 : Int) (xt1 : Int) (hdb : Nat) (xf1 : Int → Option Nat) (spa : Nat) (xh2 : Int) (xt2 : Int) (sdb : Nat) (xf2 : Int → Option Nat) (la : Nat) (zf : Nat → Int64) (pw : va_W)  (gz : Int → Int) (nh : Int) (ns : Int) (LH : Int → Nat) (LS : Int → Nat) (hst : l.stackTraces = false) (hh1 : hsn = 0 ∨ hsn = 1) (hsr2 : SR gz sz9 az9) (how2 : OY gz) (hdh : DQ xf1 xh1 xt1 nh LH) (hds : DQ xf2 xh2 xt2 ns LS) (hnn : 0 ≤ nh ∧ 0 ≤ ns ∧ nh + ns = 8) (hpw : ∀ i, 0 ≤ i → i < nh → ∃ vs, (LH i, .inr (2, vs)) ∈ pw) (sz : Nat) : vx_Met l yX0_restore (wsW_ yX0_restore cX0_restore 3 (some .int) [(0, 8, 11, 15)]) { frames := 8, cells := 1, slots := 6, locals := 132 } (va_Pc [.ref cw, .ref la] (UX E (([(cw, .inr (1, [.ref (o 0), .ref oaA, .ref (os 0), iv hsn, .ref hda, .ref spa, .ref bfA, .ref lnA, .ref prA, iv ep, va_rf lt]))] : va_W) ++ (SW E o sc ar) ++ (SW E os sz9 az9) ++ ([(hda, .inr (9, [.ref hdb, iv xh1, iv xt1]))] : va_W) ++ ([(hdb, qa (E.2 4) 17 xf1)] : va_W) ++ ([(spa, .inr (9, [.ref sdb, iv xh2, iv xt2]))] : va_W) ++ ([(sdb, qa (E.2 4) 17 xf2)] : va_W) ++ ([(la, loA (E.2 5) zf)] : va_W) ++ (pw)) sz)) (UQx E (Sum.elim (fun u : (SU × (Int → Option Nat) × (Int → Option Nat) × Int × Int × (Int → Nat)) × (Nat → Int64) => (c_nul hsn = 0 ∧ SR gz u.1.1.1 u.1.1.2 ∧ DQ u.1.2.1 xh1 u.1.2.2.2.1 0 LH ∧ DQ u.1.2.2.1 xh2 u.1.2.2.2.2.1 8 u.1.2.2.2.2.2 ∧ RSL ns nh 0 LS LH u.1.2.2.2.2.2) ∧ c_nul hsn = 0 ∧ u.2 0 = (iI (gz 1)).toInt64) (fun u : Unit => 0 < c_nul hsn ∧ ∃ En : String, En = "java/lang/IllegalStateException" ∧ c_nul hsn = 1)) (fun _ => c_nul hsn) (Sum.elim (fun u : (SU × (Int → Option Nat) × (Int → Option Nat) × Int × Int × (Int → Nat)) × (Nat → Int64) => ([(cw, .inr (1, [.ref (o 0), .ref oaA, .ref (os 0), iv hsn, .ref hda, .ref spa, .ref bfA, .ref lnA, .ref prA, iv ep, va_rf lt]))] : va_W) ++ (SW E o u.1.1.1 u.1.1.2) ++ (SW E os sz9 az9) ++ ([(hda, .inr (9, [.ref hdb, iv xh1, iv u.1.2.2.2.1]))] : va_W) ++ ([(hdb, qa (E.2 4) 17 u.1.2.1)] : va_W) ++ ([(spa, .inr (9, [.ref sdb, iv xh2, iv u.1.2.2.2.2.1]))] : va_W) ++ ([(sdb, qa (E.2 4) 17 u.1.2.2.1)] : va_W) ++ ([(la, loA (E.2 5) u.2)] : va_W) ++ (pw)) (fun u : Unit => ([(cw, .inr (1, [.ref (o 0), .ref oaA, .ref (os 0), iv hsn, .ref hda, .ref spa, .ref bfA, .ref lnA, .ref prA, iv ep, va_rf lt]))] : va_W) ++ (SW E o sc ar) ++ (SW E os sz9 az9) ++ ([(hda, .inr (9, [.ref hdb, iv xh1, iv xt1]))] : va_W) ++ ([(hdb, qa (E.2 4) 17 xf1)] : va_W) ++ ([(spa, .inr (9, [.ref sdb, iv xh2, iv xt2]))] : va_W) ++ ([(sdb, qa (E.2 4) 17 xf2)] : va_W) ++ ([(la, loA (E.2 5) zf)] : va_W) ++ (pw))) (va_A (([(cw, .inr (1, [.ref (o 0), .ref oaA, .ref (os 0), iv hsn, .ref hda, .ref spa, .ref bfA, .ref lnA, .ref prA, iv ep, va_rf lt]))] : va_W) ++ (SW E o sc ar) ++ (SW E os sz9 az9) ++ ([(hda, .inr (9, [.ref hdb, iv xh1, iv xt1]))] : va_W) ++ ([(hdb, qa (E.2 4) 17 xf1)] : va_W) ++ ([(spa, .inr (9, [.ref sdb, iv xh2, iv xt2]))] : va_W) ++ ([(sdb, qa (E.2 4) 17 xf2)] : va_W) ++ ([(la, loA (E.2 5) zf)] : va_W) ++ (pw)) sz)) (UXx E (fun (_ : String) (_ : Unit) => False) (fun _ : Unit => []) (fun _ : Unit => none) (va_A (([(cw, .inr (1, [.ref (o 0), .ref oaA, .ref (os 0), iv hsn, .ref hda, .ref spa, .ref bfA, .ref lnA, .ref prA, iv ep, va_rf lt]))] : va_W) ++ (SW E o sc ar) ++ (SW E os sz9 az9) ++ ([(hda, .inr (9, [.ref hdb, iv xh1, iv xt1]))] : va_W) ++ ([(hdb, qa (E.2 4) 17 xf1)] : va_W) ++ ([(spa, .inr (9, [.ref sdb, iv xh2, iv xt2]))] : va_W) ++ ([(sdb, qa (E.2 4) 17 xf2)] : va_W) ++ ([(la, loA (E.2 5) zf)] : va_W) ++ (pw)) sz)) 1 6 (va_A (([(cw, .inr (1, [.ref (o 0), .ref oaA, .ref (os 0), iv hsn, .ref hda, .ref spa, .ref bfA, .ref lnA, .ref prA, iv ep, va_rf lt]))] : va_W) ++ (SW E o sc ar) ++ (SW E os sz9 az9) ++ ([(hda, .inr (9, [.ref hdb, iv xh1, iv xt1]))] : va_W) ++ ([(hdb, qa (E.2 4) 17 xf1)] : va_W) ++ ([(spa, .inr (9, [.ref sdb, iv xh2, iv xt2]))] : va_W) ++ ([(sdb, qa (E.2 4) 17 xf2)] : va_W) ++ ([(la, loA (E.2 5) zf)] : va_W) ++ (pw)) sz) := by
  refine vx_ofWH (hh := [(0, 8, 11, 15)]) (cc := cX0_restore) (maxL := 3) (ret := (some .int)) (by decide) rfl ?_
  intro p e s m args below meth c s₁ B hml hv
  obtain ⟨rfl, hsz, hP, hK, hD0, hE⟩ := hv
  have hx := B.exec
  have hb := B.bytes
  have hr := B.returns
  have hts := atoms_spec (ws := (wsW_ yX0_restore cX0_restore 3 (some .int) [(0, 8, 11, 15)])) B.pre
  have htab : c.exceptionTable.toList = tableOf [(0, 8, 11, 15)] := vx_table (x := yX0_restore) B (hts _ List.mem_cons_self)
  have hts : ∀ w ∈ lw_all, w.before _ s = true := fun w h => hts w (List.mem_cons_of_mem _ h)
  have hown : s.vm.findClass RX0 = some m.cls := findClass_of_methodNamed B.named
  have hlocks := B.notSynchronized
  subst hsz
  have hD := hD0.self (sz := s.heap.size)
  generalize hAe : va_A (([(cw, .inr (1, [.ref (o 0), .ref oaA, .ref (os 0), iv hsn, .ref hda, .ref spa, .ref bfA, .ref lnA, .ref prA, iv ep, va_rf lt]))] : va_W) ++ (SW E o sc ar) ++ (SW E os sz9 az9) ++ ([(hda, .inr (9, [.ref hdb, iv xh1, iv xt1]))] : va_W) ++ ([(hdb, qa (E.2 4) 17 xf1)] : va_W) ++ ([(spa, .inr (9, [.ref sdb, iv xh2, iv xt2]))] : va_W) ++ ([(sdb, qa (E.2 4) 17 xf2)] : va_W) ++ ([(la, loA (E.2 5) zf)] : va_W) ++ (pw)) s.heap.size = A at hD hE ⊢
  have hA : ∀ q : Nat, s.heap.size ≤ q → A q := fun q h => by rw [← hAe]; exact Or.inr h
  have hS : va_S A s.heap s.heap [] := va_S.rf
  have hl := lv_entry ([.ref cw, .ref la]) (n := 3) (Nat.le_of_ble_eq_true rfl)
  rw [lg_entry_eq]
  generalize (lg_sl ([.ref cw, .ref la]) ++ List.replicate (3 - (lg_sl ([.ref cw, .ref la])).length) Slot.unset).toArray = ls at hl ⊢
  have hl : lv_has ls 3 [(0, .ref cw), (1, .ref la)] := hl
  refine lv_aload_n hx hb dX0_restore_0 rfl (lv_at hl 1 rfl) ?_
  refine lv_iconst (v := iI 0) hx hb dX0_restore_1 rfl ?_
  refine lv_aload_n hx hb dX0_restore_2 rfl (lv_at hl 0 rfl) ?_
  have hg_1 : gpick [[(cw, .inr (1, [.ref (o 0), .ref oaA, .ref (os 0), iv hsn, .ref hda, .ref spa, .ref bfA, .ref lnA, .ref prA, iv ep, va_rf lt]))], SW E o sc ar, SW E os sz9 az9, [(hda, .inr (9, [.ref hdb, iv xh1, iv xt1]))], [(hdb, qa (E.2 4) 17 xf1)], [(spa, .inr (9, [.ref sdb, iv xh2, iv xt2]))], [(sdb, qa (E.2 4) 17 xf2)], [(la, loA (E.2 5) zf)], pw] ([[(cw, .inr (1, [.ref (o 0), .ref oaA, .ref (os 0), iv hsn, .ref hda, .ref spa, .ref bfA, .ref lnA, .ref prA, iv ep, va_rf lt]))], SW E o sc ar, SW E os sz9 az9, [(hda, .inr (9, [.ref hdb, iv xh1, iv xt1]))], [(hdb, qa (E.2 4) 17 xf1)], [(spa, .inr (9, [.ref sdb, iv xh2, iv xt2]))], [(sdb, qa (E.2 4) 17 xf2)], pw] ++ [[(la, loA (E.2 5) zf)]]) [0, 1, 2, 3, 4, 5, 6, 8, 7] := ⟨rfl, (show List.Perm [0, 1, 2, 3, 4, 5, 6, 8, 7] (List.range 9) from by decide)⟩
  have hg_1P : va_P E.1 CL (([(cw, .inr (1, [.ref (o 0), .ref oaA, .ref (os 0), iv hsn, .ref hda, .ref spa, .ref bfA, .ref lnA, .ref prA, iv ep, va_rf lt]))] : va_W) ++ (SW E o sc ar) ++ (SW E os sz9 az9) ++ ([(hda, .inr (9, [.ref hdb, iv xh1, iv xt1]))] : va_W) ++ ([(hdb, qa (E.2 4) 17 xf1)] : va_W) ++ ([(spa, .inr (9, [.ref sdb, iv xh2, iv xt2]))] : va_W) ++ ([(sdb, qa (E.2 4) 17 xf2)] : va_W) ++ (pw)) s.heap := (g_out hg_1 hP hD).1
  have hg_1D : va_D A (([(cw, .inr (1, [.ref (o 0), .ref oaA, .ref (os 0), iv hsn, .ref hda, .ref spa, .ref bfA, .ref lnA, .ref prA, iv ep, va_rf lt]))] : va_W) ++ (SW E o sc ar) ++ (SW E os sz9 az9) ++ ([(hda, .inr (9, [.ref hdb, iv xh1, iv xt1]))] : va_W) ++ ([(hdb, qa (E.2 4) 17 xf1)] : va_W) ++ ([(spa, .inr (9, [.ref sdb, iv xh2, iv xt2]))] : va_W) ++ ([(sdb, qa (E.2 4) 17 xf2)] : va_W) ++ (pw)) := (g_out hg_1 hP hD).2
  have hg_1F : ∀ q, va_A (([(cw, .inr (1, [.ref (o 0), .ref oaA, .ref (os 0), iv hsn, .ref hda, .ref spa, .ref bfA, .ref lnA, .ref prA, iv ep, va_rf lt]))] : va_W) ++ (SW E o sc ar) ++ (SW E os sz9 az9) ++ ([(hda, .inr (9, [.ref hdb, iv xh1, iv xt1]))] : va_W) ++ ([(hdb, qa (E.2 4) 17 xf1)] : va_W) ++ ([(spa, .inr (9, [.ref sdb, iv xh2, iv xt2]))] : va_W) ++ ([(sdb, qa (E.2 4) 17 xf2)] : va_W) ++ (pw)) s.heap.size q → A q := g_free hg_1 hP hD hS hA
  have hlt_2 := P_lts hP
  have hz_3 : s.heap.size ≤ s.heap.size := hS.1
  have hj_6 : ∀ u_4 : SU × (Int → Option Nat) × (Int → Option Nat) × Int × Int × (Int → Nat), gpick ([[(cw, .inr (1, [.ref (o 0), .ref oaA, .ref (os 0), iv hsn, .ref hda, .ref spa, .ref bfA, .ref lnA, .ref prA, iv ep, va_rf lt]))], SW E o u_4.1.1 u_4.1.2, SW E os sz9 az9, [(hda, .inr (9, [.ref hdb, iv xh1, iv u_4.2.2.2.1]))], [(hdb, qa (E.2 4) 17 u_4.2.1)], [(spa, .inr (9, [.ref sdb, iv xh2, iv u_4.2.2.2.2.1]))], [(sdb, qa (E.2 4) 17 u_4.2.2.1)], pw] ++ [[(la, loA (E.2 5) zf)]]) [[(cw, .inr (1, [.ref (o 0), .ref oaA, .ref (os 0), iv hsn, .ref hda, .ref spa, .ref bfA, .ref lnA, .ref prA, iv ep, va_rf lt]))], SW E o u_4.1.1 u_4.1.2, SW E os sz9 az9, [(hda, .inr (9, [.ref hdb, iv xh1, iv u_4.2.2.2.1]))], [(hdb, qa (E.2 4) 17 u_4.2.1)], [(spa, .inr (9, [.ref sdb, iv xh2, iv u_4.2.2.2.2.1]))], [(sdb, qa (E.2 4) 17 u_4.2.2.1)], [(la, loA (E.2 5) zf)], pw] [0, 1, 2, 3, 4, 5, 6, 8, 7] := fun u_4 => ⟨rfl, (show List.Perm [0, 1, 2, 3, 4, 5, 6, 8, 7] (List.range 9) from by decide)⟩
  have hj_7 : ∀ u_5 : Unit, gpick ([[(cw, .inr (1, [.ref (o 0), .ref oaA, .ref (os 0), iv hsn, .ref hda, .ref spa, .ref bfA, .ref lnA, .ref prA, iv ep, va_rf lt]))], SW E o sc ar, SW E os sz9 az9, [(hda, .inr (9, [.ref hdb, iv xh1, iv xt1]))], [(hdb, qa (E.2 4) 17 xf1)], [(spa, .inr (9, [.ref sdb, iv xh2, iv xt2]))], [(sdb, qa (E.2 4) 17 xf2)], pw] ++ [[(la, loA (E.2 5) zf)]]) [[(cw, .inr (1, [.ref (o 0), .ref oaA, .ref (os 0), iv hsn, .ref hda, .ref spa, .ref bfA, .ref lnA, .ref prA, iv ep, va_rf lt]))], SW E o sc ar, SW E os sz9 az9, [(hda, .inr (9, [.ref hdb, iv xh1, iv xt1]))], [(hdb, qa (E.2 4) 17 xf1)], [(spa, .inr (9, [.ref sdb, iv xh2, iv xt2]))], [(sdb, qa (E.2 4) 17 xf2)], [(la, loA (E.2 5) zf)], pw] [0, 1, 2, 3, 4, 5, 6, 8, 7] := fun u_5 => ⟨rfl, (show List.Perm [0, 1, 2, 3, 4, 5, 6, 8, 7] (List.range 9) from by decide)⟩
  refine n_txB (x := fun u_4 => gz 1) (w2 := fun u_4 : SU × (Int → Option Nat) × (Int → Option Nat) × Int × Int × (Int → Nat) => ([(cw, .inr (1, [.ref (o 0), .ref oaA, .ref (os 0), iv hsn, .ref hda, .ref spa, .ref bfA, .ref lnA, .ref prA, iv ep, va_rf lt]))] : va_W) ++ (SW E o u_4.1.1 u_4.1.2) ++ (SW E os sz9 az9) ++ ([(hda, .inr (9, [.ref hdb, iv xh1, iv u_4.2.2.2.1]))] : va_W) ++ ([(hdb, qa (E.2 4) 17 u_4.2.1)] : va_W) ++ ([(spa, .inr (9, [.ref sdb, iv xh2, iv u_4.2.2.2.2.1]))] : va_W) ++ ([(sdb, qa (E.2 4) 17 u_4.2.2.1)] : va_W) ++ ([(la, loA (E.2 5) zf)] : va_W) ++ (pw)) (w3 := fun u_5 : Unit => ([(cw, .inr (1, [.ref (o 0), .ref oaA, .ref (os 0), iv hsn, .ref hda, .ref spa, .ref bfA, .ref lnA, .ref prA, iv ep, va_rf lt]))] : va_W) ++ (SW E o sc ar) ++ (SW E os sz9 az9) ++ ([(hda, .inr (9, [.ref hdb, iv xh1, iv xt1]))] : va_W) ++ ([(hdb, qa (E.2 4) 17 xf1)] : va_W) ++ ([(spa, .inr (9, [.ref sdb, iv xh2, iv xt2]))] : va_W) ++ ([(sdb, qa (E.2 4) 17 xf2)] : va_W) ++ ([(la, loA (E.2 5) zf)] : va_W) ++ (pw)) (vx_runV (As := []) (rest := [iv 0, .ref la]) ⟨hx, hb, hml, hown, hts⟩ (mt_X1_restore l E cw oaA hsn bfA lnA prA ep lt o sc ar os sz9 az9 hda xh1 xt1 hdb xf1 spa xh2 xt2 sdb xf2 pw  gz nh ns LH LS (by exact hst) (by omega) (by assumption) (by assumption) (by assumption) (by assumption) (by assumption) (by assumption) _) (cwV 0 hts (lw_V q2019 q2020 q2021 q94 q2022) rfl rfl rfl (by decide +kernel) ⟨Nat.le_of_ble_eq_true rfl, Nat.le_of_ble_eq_true rfl⟩) (UX_V hg_1P hK (hg_1D) hE hS hg_1F (va_recv hK.1 hP (ci := 1) (q0 := 0) rfl rfl)) rfl rfl hl.1 rfl (lv_room (Nat.le_of_ble_eq_true rfl)) dX0_restore_3 ⟨Nat.le_of_ble_eq_true rfl, Nat.le_of_ble_eq_true rfl⟩) hS hg_1F ?_ ?_ ?_ ?_
  · exact (fun u_4 _ hk9 hp9 hd9 => g_back hg_1 (hj_6 u_4) hP hD hg_1F hk9 hp9 hd9)
  · exact (fun u_5 _ hk9 hp9 hd9 => g_back hg_1 (hj_7 u_5) hP hD hg_1F hk9 hp9 hd9)
  · intro En ce q9 u_5 H locs hCx hP hD hS hxf hq9 hce hcv hcl
    have hCx : En = "java/lang/IllegalStateException" ∧ c_nul hsn = 1 := hCx
    have hP : va_P E.1 CL (([(cw, .inr (1, [.ref (o 0), .ref oaA, .ref (os 0), iv hsn, .ref hda, .ref spa, .ref bfA, .ref lnA, .ref prA, iv ep, va_rf lt]))] : va_W) ++ (SW E o sc ar) ++ (SW E os sz9 az9) ++ ([(hda, .inr (9, [.ref hdb, iv xh1, iv xt1]))] : va_W) ++ ([(hdb, qa (E.2 4) 17 xf1)] : va_W) ++ ([(spa, .inr (9, [.ref sdb, iv xh2, iv xt2]))] : va_W) ++ ([(sdb, qa (E.2 4) 17 xf2)] : va_W) ++ ([(la, loA (E.2 5) zf)] : va_W) ++ (pw)) H := hP
    have hD : va_D A (([(cw, .inr (1, [.ref (o 0), .ref oaA, .ref (os 0), iv hsn, .ref hda, .ref spa, .ref bfA, .ref lnA, .ref prA, iv ep, va_rf lt]))] : va_W) ++ (SW E o sc ar) ++ (SW E os sz9 az9) ++ ([(hda, .inr (9, [.ref hdb, iv xh1, iv xt1]))] : va_W) ++ ([(hdb, qa (E.2 4) 17 xf1)] : va_W) ++ ([(spa, .inr (9, [.ref sdb, iv xh2, iv xt2]))] : va_W) ++ ([(sdb, qa (E.2 4) 17 xf2)] : va_W) ++ ([(la, loA (E.2 5) zf)] : va_W) ++ (pw)) := hD
    have hcx9 := hCx
    obtain ⟨hEn9, hk9⟩ := hCx
    subst hEn9
    refine vx_catch (own := "ClockworkTailorLaw") hown [] _ [] htab (fun z hz => by cases hz) (by decide) (by decide) (name := "java/lang/IllegalStateException") (hts _ q868) (hK.nw q357) hce hcv hcl ?_
    refine lv_astore_n (lv' := [(2, .ref q9), (0, .ref cw), (1, .ref la)]) hx hb dX0_restore_11 rfl hl (by decide) rfl (fun ls hl => ?_)
    refine lv_iconst (v := iI 1) hx hb dX0_restore_12 rfl ?_
    have hfin : 1 = c_nul hsn := by
      first | exact hz9.symm | exact hk9.symm
    refine vx_ret ?_
    refine W.widen (k := 1) (n := 6) (Nat.le_of_ble_eq_true rfl) (Nat.le_of_ble_eq_true rfl) ?_
    exact W.iret (v := iI 1) hx hb hr (fun tt_ ht_ hW_ => ⟨⟨iI 1, .inr u_5, rfl, ⟨(show 0 < c_nul hsn ∧ ∃ En : String, En = "java/lang/IllegalStateException" ∧ c_nul hsn = 1 from ⟨(by omega), _, hcx9⟩), (congrArg iI hfin)⟩, by rw [ht_]; exact hP, hD⟩, hS.F ht_⟩) hS.2.2 dX0_restore_13
  · intro u_4 H locs hC hP hD hS
    have hu_4 : c_nul hsn = 0 ∧ SR gz u_4.1.1 u_4.1.2 ∧ DQ u_4.2.1 xh1 u_4.2.2.2.1 0 LH ∧ DQ u_4.2.2.1 xh2 u_4.2.2.2.2.1 8 u_4.2.2.2.2.2 ∧ RSL ns nh 0 LS LH u_4.2.2.2.2.2 := hC
    have hP : va_P E.1 CL (([(cw, .inr (1, [.ref (o 0), .ref oaA, .ref (os 0), iv hsn, .ref hda, .ref spa, .ref bfA, .ref lnA, .ref prA, iv ep, va_rf lt]))] : va_W) ++ (SW E o u_4.1.1 u_4.1.2) ++ (SW E os sz9 az9) ++ ([(hda, .inr (9, [.ref hdb, iv xh1, iv u_4.2.2.2.1]))] : va_W) ++ ([(hdb, qa (E.2 4) 17 u_4.2.1)] : va_W) ++ ([(spa, .inr (9, [.ref sdb, iv xh2, iv u_4.2.2.2.2.1]))] : va_W) ++ ([(sdb, qa (E.2 4) 17 u_4.2.2.1)] : va_W) ++ ([(la, loA (E.2 5) zf)] : va_W) ++ (pw)) H := hP
    have hD : va_D A (([(cw, .inr (1, [.ref (o 0), .ref oaA, .ref (os 0), iv hsn, .ref hda, .ref spa, .ref bfA, .ref lnA, .ref prA, iv ep, va_rf lt]))] : va_W) ++ (SW E o u_4.1.1 u_4.1.2) ++ (SW E os sz9 az9) ++ ([(hda, .inr (9, [.ref hdb, iv xh1, iv u_4.2.2.2.1]))] : va_W) ++ ([(hdb, qa (E.2 4) 17 u_4.2.1)] : va_W) ++ ([(spa, .inr (9, [.ref sdb, iv xh2, iv u_4.2.2.2.2.1]))] : va_W) ++ ([(sdb, qa (E.2 4) 17 u_4.2.2.1)] : va_W) ++ ([(la, loA (E.2 5) zf)] : va_W) ++ (pw)) := hD
    have hz9 : c_nul hsn = 0 := hu_4.1
    refine lv_i2l (v := (iI (gz 1)).toInt64) hx hb dX0_restore_6 rfl ?_
    refine n_last1 hx hb hK.1 hP hD hS 39 rfl dX0_restore_7 (ws2 := ([(cw, .inr (1, [.ref (o 0), .ref oaA, .ref (os 0), iv hsn, .ref hda, .ref spa, .ref bfA, .ref lnA, .ref prA, iv ep, va_rf lt]))] : va_W) ++ (SW E o u_4.1.1 u_4.1.2) ++ (SW E os sz9 az9) ++ ([(hda, .inr (9, [.ref hdb, iv xh1, iv u_4.2.2.2.1]))] : va_W) ++ ([(hdb, qa (E.2 4) 17 u_4.2.1)] : va_W) ++ ([(spa, .inr (9, [.ref sdb, iv xh2, iv u_4.2.2.2.2.1]))] : va_W) ++ ([(sdb, qa (E.2 4) 17 u_4.2.2.1)] : va_W) ++ ([(la, loA (E.2 5) (vp_updL zf 0 ((iI (gz 1)).toInt64)))] : va_W) ++ (pw)) rfl (fun H locs hP hD hS => ?_)
    have hP : va_P E.1 CL (([(cw, .inr (1, [.ref (o 0), .ref oaA, .ref (os 0), iv hsn, .ref hda, .ref spa, .ref bfA, .ref lnA, .ref prA, iv ep, va_rf lt]))] : va_W) ++ (SW E o u_4.1.1 u_4.1.2) ++ (SW E os sz9 az9) ++ ([(hda, .inr (9, [.ref hdb, iv xh1, iv u_4.2.2.2.1]))] : va_W) ++ ([(hdb, qa (E.2 4) 17 u_4.2.1)] : va_W) ++ ([(spa, .inr (9, [.ref sdb, iv xh2, iv u_4.2.2.2.2.1]))] : va_W) ++ ([(sdb, qa (E.2 4) 17 u_4.2.2.1)] : va_W) ++ ([(la, loA (E.2 5) (vp_updL zf 0 ((iI (gz 1)).toInt64)))] : va_W) ++ (pw)) H := hP
    have hD : va_D A (([(cw, .inr (1, [.ref (o 0), .ref oaA, .ref (os 0), iv hsn, .ref hda, .ref spa, .ref bfA, .ref lnA, .ref prA, iv ep, va_rf lt]))] : va_W) ++ (SW E o u_4.1.1 u_4.1.2) ++ (SW E os sz9 az9) ++ ([(hda, .inr (9, [.ref hdb, iv xh1, iv u_4.2.2.2.1]))] : va_W) ++ ([(hdb, qa (E.2 4) 17 u_4.2.1)] : va_W) ++ ([(spa, .inr (9, [.ref sdb, iv xh2, iv u_4.2.2.2.2.1]))] : va_W) ++ ([(sdb, qa (E.2 4) 17 u_4.2.2.1)] : va_W) ++ ([(la, loA (E.2 5) (vp_updL zf 0 ((iI (gz 1)).toInt64)))] : va_W) ++ (pw)) := hD
    refine lv_goto (tgt := 14) hx hb dX0_restore_8 (by decide) ?_
    refine lv_iconst (v := iI 0) hx hb dX0_restore_14 rfl ?_
    have hfin : 0 = c_nul hsn := by
      first | exact hz9.symm | exact hk9.symm
    refine vx_ret ?_
    refine W.widen (k := 1) (n := 6) (Nat.le_of_ble_eq_true rfl) (Nat.le_of_ble_eq_true rfl) ?_
    exact W.iret (v := iI 0) hx hb hr (fun tt_ ht_ hW_ => ⟨⟨iI 0, .inl (u_4, (vp_updL zf 0 ((iI (gz 1)).toInt64))), rfl, ⟨(show (c_nul hsn = 0 ∧ SR gz (u_4, (vp_updL zf 0 ((iI (gz 1)).toInt64))).1.1.1 (u_4, (vp_updL zf 0 ((iI (gz 1)).toInt64))).1.1.2 ∧ DQ (u_4, (vp_updL zf 0 ((iI (gz 1)).toInt64))).1.2.1 xh1 (u_4, (vp_updL zf 0 ((iI (gz 1)).toInt64))).1.2.2.2.1 0 LH ∧ DQ (u_4, (vp_updL zf 0 ((iI (gz 1)).toInt64))).1.2.2.1 xh2 (u_4, (vp_updL zf 0 ((iI (gz 1)).toInt64))).1.2.2.2.2.1 8 (u_4, (vp_updL zf 0 ((iI (gz 1)).toInt64))).1.2.2.2.2.2 ∧ RSL ns nh 0 LS LH (u_4, (vp_updL zf 0 ((iI (gz 1)).toInt64))).1.2.2.2.2.2) ∧ c_nul hsn = 0 ∧ (u_4, (vp_updL zf 0 ((iI (gz 1)).toInt64))).2 0 = (iI (gz 1)).toInt64 from ⟨hu_4, hz9, rfl⟩), (congrArg iI hfin)⟩, by rw [ht_]; exact hP, hD⟩, hS.F ht_⟩) hS.2.2 dX0_restore_15
set_option maxHeartbeats 2000000 in
set_option maxRecDepth 100000 in
theorem mt_X0_meanMinutes (l : Launch) (E : EE) (cw : Nat) (oaA : Nat) (osA : Nat) (hsn : Int) (hdA : Nat) (spA : Nat) (bfA : Nat) (lnA : Nat) (prA : Nat) (ep : Int) (lt : Option Nat) (o : Nat → Nat) (sc : Nat → Int) (ar : Nat → Int → Int) (la : Nat) (zf : Nat → UInt64)  (g : Int → Int) (hst : l.stackTraces = false) (hsr : SR g sc ar) (hhm : HM g) (htm : TM g) (sz : Nat) : vx_Met l yX0_meanMinutes (wsW_ yX0_meanMinutes cX0_meanMinutes 3 (some .int) [(0, 7, 10, 119)]) { frames := 8, cells := 1, slots := 6, locals := 132 } (va_Pc [.ref cw, .ref la] (UX E (([(cw, .inr (1, [.ref (o 0), .ref oaA, .ref osA, iv hsn, .ref hdA, .ref spA, .ref bfA, .ref lnA, .ref prA, iv ep, va_rf lt]))] : va_W) ++ (SW E o sc ar) ++ ([(la, doA (E.2 6) zf)] : va_W)) sz)) (UQx E (Sum.elim (fun u : (Unit) × (Nat → UInt64) => (c_nul (m_recipes g) = 0) ∧ c_nul (m_recipes g) = 0 ∧ u.2 0 = m_mean g) (fun u : Unit => 0 < c_nul (m_recipes g) ∧ ∃ En : String, 0 < c_nul (m_recipes g) ∧ En = nmX "java/lang/ArithmeticException" "" "" (c_nul (m_recipes g)))) (fun _ => c_nul (m_recipes g)) (Sum.elim (fun u : (Unit) × (Nat → UInt64) => ([(cw, .inr (1, [.ref (o 0), .ref oaA, .ref osA, iv hsn, .ref hdA, .ref spA, .ref bfA, .ref lnA, .ref prA, iv ep, va_rf lt]))] : va_W) ++ (SW E o sc ar) ++ ([(la, doA (E.2 6) u.2)] : va_W)) (fun u : Unit => ([(cw, .inr (1, [.ref (o 0), .ref oaA, .ref osA, iv hsn, .ref hdA, .ref spA, .ref bfA, .ref lnA, .ref prA, iv ep, va_rf lt]))] : va_W) ++ (SW E o sc ar) ++ ([(la, doA (E.2 6) zf)] : va_W))) (va_A (([(cw, .inr (1, [.ref (o 0), .ref oaA, .ref osA, iv hsn, .ref hdA, .ref spA, .ref bfA, .ref lnA, .ref prA, iv ep, va_rf lt]))] : va_W) ++ (SW E o sc ar) ++ ([(la, doA (E.2 6) zf)] : va_W)) sz)) (UXx E (fun (_ : String) (_ : Unit) => False) (fun _ : Unit => []) (fun _ : Unit => none) (va_A (([(cw, .inr (1, [.ref (o 0), .ref oaA, .ref osA, iv hsn, .ref hdA, .ref spA, .ref bfA, .ref lnA, .ref prA, iv ep, va_rf lt]))] : va_W) ++ (SW E o sc ar) ++ ([(la, doA (E.2 6) zf)] : va_W)) sz)) 1 6 (va_A (([(cw, .inr (1, [.ref (o 0), .ref oaA, .ref osA, iv hsn, .ref hdA, .ref spA, .ref bfA, .ref lnA, .ref prA, iv ep, va_rf lt]))] : va_W) ++ (SW E o sc ar) ++ ([(la, doA (E.2 6) zf)] : va_W)) sz) := by
  refine vx_ofWH (hh := [(0, 7, 10, 119)]) (cc := cX0_meanMinutes) (maxL := 3) (ret := (some .int)) (by decide) rfl ?_
  intro p e s m args below meth c s₁ B hml hv
  obtain ⟨rfl, hsz, hP, hK, hD0, hE⟩ := hv
  have hx := B.exec
  have hb := B.bytes
  have hr := B.returns
  have hts := atoms_spec (ws := (wsW_ yX0_meanMinutes cX0_meanMinutes 3 (some .int) [(0, 7, 10, 119)])) B.pre
  have htab : c.exceptionTable.toList = tableOf [(0, 7, 10, 119)] := vx_table (x := yX0_meanMinutes) B (hts _ List.mem_cons_self)
  have hts : ∀ w ∈ lw_all, w.before _ s = true := fun w h => hts w (List.mem_cons_of_mem _ h)
  have hown : s.vm.findClass RX0 = some m.cls := findClass_of_methodNamed B.named
  have hlocks := B.notSynchronized
  subst hsz
  have hD := hD0.self (sz := s.heap.size)
  generalize hAe : va_A (([(cw, .inr (1, [.ref (o 0), .ref oaA, .ref osA, iv hsn, .ref hdA, .ref spA, .ref bfA, .ref lnA, .ref prA, iv ep, va_rf lt]))] : va_W) ++ (SW E o sc ar) ++ ([(la, doA (E.2 6) zf)] : va_W)) s.heap.size = A at hD hE ⊢
  have hA : ∀ q : Nat, s.heap.size ≤ q → A q := fun q h => by rw [← hAe]; exact Or.inr h
  have hS : va_S A s.heap s.heap [] := va_S.rf
  have hl := lv_entry ([.ref cw, .ref la]) (n := 3) (Nat.le_of_ble_eq_true rfl)
  rw [lg_entry_eq]
  generalize (lg_sl ([.ref cw, .ref la]) ++ List.replicate (3 - (lg_sl ([.ref cw, .ref la])).length) Slot.unset).toArray = ls at hl ⊢
  have hl : lv_has ls 3 [(0, .ref cw), (1, .ref la)] := hl
  refine lv_aload_n hx hb dX0_meanMinutes_0 rfl (lv_at hl 1 rfl) ?_
  refine lv_iconst (v := iI 0) hx hb dX0_meanMinutes_1 rfl ?_
  refine lv_aload_n hx hb dX0_meanMinutes_2 rfl (lv_at hl 0 rfl) ?_
  have hg_1 : gpick [[(cw, .inr (1, [.ref (o 0), .ref oaA, .ref osA, iv hsn, .ref hdA, .ref spA, .ref bfA, .ref lnA, .ref prA, iv ep, va_rf lt]))], SW E o sc ar, [(la, doA (E.2 6) zf)]] ([[(cw, .inr (1, [.ref (o 0), .ref oaA, .ref osA, iv hsn, .ref hdA, .ref spA, .ref bfA, .ref lnA, .ref prA, iv ep, va_rf lt]))], SW E o sc ar] ++ [[(la, doA (E.2 6) zf)]]) [0, 1, 2] := ⟨rfl, (show List.Perm [0, 1, 2] (List.range 3) from by decide)⟩
  have hg_1P : va_P E.1 CL (([(cw, .inr (1, [.ref (o 0), .ref oaA, .ref osA, iv hsn, .ref hdA, .ref spA, .ref bfA, .ref lnA, .ref prA, iv ep, va_rf lt]))] : va_W) ++ (SW E o sc ar)) s.heap := (g_out hg_1 hP hD).1
  have hg_1D : va_D A (([(cw, .inr (1, [.ref (o 0), .ref oaA, .ref osA, iv hsn, .ref hdA, .ref spA, .ref bfA, .ref lnA, .ref prA, iv ep, va_rf lt]))] : va_W) ++ (SW E o sc ar)) := (g_out hg_1 hP hD).2
  have hg_1F : ∀ q, va_A (([(cw, .inr (1, [.ref (o 0), .ref oaA, .ref osA, iv hsn, .ref hdA, .ref spA, .ref bfA, .ref lnA, .ref prA, iv ep, va_rf lt]))] : va_W) ++ (SW E o sc ar)) s.heap.size q → A q := g_free hg_1 hP hD hS hA
  have hlt_2 := P_lts hP
  have hz_3 : s.heap.size ≤ s.heap.size := hS.1
  have hj_6 : ∀ u_4 : Unit, gpick ([[(cw, .inr (1, [.ref (o 0), .ref oaA, .ref osA, iv hsn, .ref hdA, .ref spA, .ref bfA, .ref lnA, .ref prA, iv ep, va_rf lt]))], SW E o sc ar] ++ [[(la, doA (E.2 6) zf)]]) [[(cw, .inr (1, [.ref (o 0), .ref oaA, .ref osA, iv hsn, .ref hdA, .ref spA, .ref bfA, .ref lnA, .ref prA, iv ep, va_rf lt]))], SW E o sc ar, [(la, doA (E.2 6) zf)]] [0, 1, 2] := fun u_4 => ⟨rfl, (show List.Perm [0, 1, 2] (List.range 3) from by decide)⟩
  have hj_7 : ∀ u_5 : Unit, gpick ([[(cw, .inr (1, [.ref (o 0), .ref oaA, .ref osA, iv hsn, .ref hdA, .ref spA, .ref bfA, .ref lnA, .ref prA, iv ep, va_rf lt]))], SW E o sc ar] ++ [[(la, doA (E.2 6) zf)]]) [[(cw, .inr (1, [.ref (o 0), .ref oaA, .ref osA, iv hsn, .ref hdA, .ref spA, .ref bfA, .ref lnA, .ref prA, iv ep, va_rf lt]))], SW E o sc ar, [(la, doA (E.2 6) zf)]] [0, 1, 2] := fun u_5 => ⟨rfl, (show List.Perm [0, 1, 2] (List.range 3) from by decide)⟩
  refine n_txyB (y := fun u_4 => .double (m_mean g)) (w2 := fun u_4 : Unit => ([(cw, .inr (1, [.ref (o 0), .ref oaA, .ref osA, iv hsn, .ref hdA, .ref spA, .ref bfA, .ref lnA, .ref prA, iv ep, va_rf lt]))] : va_W) ++ (SW E o sc ar) ++ ([(la, doA (E.2 6) zf)] : va_W)) (w3 := fun u_5 : Unit => ([(cw, .inr (1, [.ref (o 0), .ref oaA, .ref osA, iv hsn, .ref hdA, .ref spA, .ref bfA, .ref lnA, .ref prA, iv ep, va_rf lt]))] : va_W) ++ (SW E o sc ar) ++ ([(la, doA (E.2 6) zf)] : va_W)) (vx_runV (As := []) (rest := [iv 0, .ref la]) ⟨hx, hb, hml, hown, hts⟩ (mt_X1_meanMinutes l E cw oaA osA hsn hdA spA bfA lnA prA ep lt o sc ar  g (by exact hst) (by assumption) (by assumption) (by assumption) _) (cwV 0 hts (lw_V q1355 q1356 q1357 q94 q1358) rfl rfl rfl (by decide +kernel) ⟨Nat.le_of_ble_eq_true rfl, Nat.le_of_ble_eq_true rfl⟩) (UX_V hg_1P hK (hg_1D) hE hS hg_1F (va_recv hK.1 hP (ci := 1) (q0 := 0) rfl rfl)) rfl rfl hl.1 rfl (lv_room (Nat.le_of_ble_eq_true rfl)) dX0_meanMinutes_3 ⟨Nat.le_of_ble_eq_true rfl, Nat.le_of_ble_eq_true rfl⟩) hS hg_1F ?_ ?_ ?_ ?_
  · exact (fun u_4 _ hk9 hp9 hd9 => g_back hg_1 (hj_6 u_4) hP hD hg_1F hk9 hp9 hd9)
  · exact (fun u_5 _ hk9 hp9 hd9 => g_back hg_1 (hj_7 u_5) hP hD hg_1F hk9 hp9 hd9)
  · intro En ce q9 u_5 H locs hCx hP hD hS hxf hq9 hce hcv hcl
    have hCx : 0 < c_nul (m_recipes g) ∧ En = nmX "java/lang/ArithmeticException" "" "" (c_nul (m_recipes g)) := hCx
    have hP : va_P E.1 CL (([(cw, .inr (1, [.ref (o 0), .ref oaA, .ref osA, iv hsn, .ref hdA, .ref spA, .ref bfA, .ref lnA, .ref prA, iv ep, va_rf lt]))] : va_W) ++ (SW E o sc ar) ++ ([(la, doA (E.2 6) zf)] : va_W)) H := hP
    have hD : va_D A (([(cw, .inr (1, [.ref (o 0), .ref oaA, .ref osA, iv hsn, .ref hdA, .ref spA, .ref bfA, .ref lnA, .ref prA, iv ep, va_rf lt]))] : va_W) ++ (SW E o sc ar) ++ ([(la, doA (E.2 6) zf)] : va_W)) := hD
    have hcx9 := hCx
    obtain ⟨hc0, hEn9⟩ := hCx
    have hcr9 : c_nul (m_recipes g) ≤ 1 := by have := c_nul_r (m_recipes g); omega
    have hk9 : c_nul (m_recipes g) = 1 := by omega
    have hEn9 : En = "java/lang/ArithmeticException" := by rw [hEn9, hk9]; rfl
    subst hEn9
    refine vx_catch (own := "ClockworkTailorLaw") hown [] _ [] htab (fun z hz => by cases hz) (by decide) (by decide) (name := "java/lang/ArithmeticException") (hts _ q1341) (hK.nw q1353) hce hcv hcl ?_
    refine lv_astore_n (lv' := [(2, .ref q9), (0, .ref cw), (1, .ref la)]) hx hb dX0_meanMinutes_10 rfl hl (by decide) rfl (fun ls hl => ?_)
    refine lv_iconst (v := iI 1) hx hb dX0_meanMinutes_11 rfl ?_
    have hfin : 1 = c_nul (m_recipes g) := by
      first | exact hz9.symm | exact hk9.symm
    refine vx_ret ?_
    refine W.widen (k := 1) (n := 6) (Nat.le_of_ble_eq_true rfl) (Nat.le_of_ble_eq_true rfl) ?_
    exact W.iret (v := iI 1) hx hb hr (fun tt_ ht_ hW_ => ⟨⟨iI 1, .inr u_5, rfl, ⟨(show 0 < c_nul (m_recipes g) ∧ ∃ En : String, 0 < c_nul (m_recipes g) ∧ En = nmX "java/lang/ArithmeticException" "" "" (c_nul (m_recipes g)) from ⟨(by omega), _, hcx9⟩), (congrArg iI hfin)⟩, by rw [ht_]; exact hP, hD⟩, hS.F ht_⟩) hS.2.2 dX0_meanMinutes_12
  · intro u_4 H locs hC hP hD hS
    have hu_4 : c_nul (m_recipes g) = 0 := hC
    have hP : va_P E.1 CL (([(cw, .inr (1, [.ref (o 0), .ref oaA, .ref osA, iv hsn, .ref hdA, .ref spA, .ref bfA, .ref lnA, .ref prA, iv ep, va_rf lt]))] : va_W) ++ (SW E o sc ar) ++ ([(la, doA (E.2 6) zf)] : va_W)) H := hP
    have hD : va_D A (([(cw, .inr (1, [.ref (o 0), .ref oaA, .ref osA, iv hsn, .ref hdA, .ref spA, .ref bfA, .ref lnA, .ref prA, iv ep, va_rf lt]))] : va_W) ++ (SW E o sc ar) ++ ([(la, doA (E.2 6) zf)] : va_W)) := hD
    have hz9 : c_nul (m_recipes g) = 0 := hu_4
    refine n_dast1 hx hb hK.1 hP hD hS 18 rfl dX0_meanMinutes_6 (ws2 := ([(cw, .inr (1, [.ref (o 0), .ref oaA, .ref osA, iv hsn, .ref hdA, .ref spA, .ref bfA, .ref lnA, .ref prA, iv ep, va_rf lt]))] : va_W) ++ (SW E o sc ar) ++ ([(la, doA (E.2 6) (vf_upd zf 0 (m_mean g)))] : va_W)) rfl (fun H locs hP hD hS => ?_)
    have hP : va_P E.1 CL (([(cw, .inr (1, [.ref (o 0), .ref oaA, .ref osA, iv hsn, .ref hdA, .ref spA, .ref bfA, .ref lnA, .ref prA, iv ep, va_rf lt]))] : va_W) ++ (SW E o sc ar) ++ ([(la, doA (E.2 6) (vf_upd zf 0 (m_mean g)))] : va_W)) H := hP
    have hD : va_D A (([(cw, .inr (1, [.ref (o 0), .ref oaA, .ref osA, iv hsn, .ref hdA, .ref spA, .ref bfA, .ref lnA, .ref prA, iv ep, va_rf lt]))] : va_W) ++ (SW E o sc ar) ++ ([(la, doA (E.2 6) (vf_upd zf 0 (m_mean g)))] : va_W)) := hD
    refine lv_goto (tgt := 13) hx hb dX0_meanMinutes_7 (by decide) ?_
    refine lv_iconst (v := iI 0) hx hb dX0_meanMinutes_13 rfl ?_
    have hfin : 0 = c_nul (m_recipes g) := by
      first | exact hz9.symm | exact hk9.symm
    refine vx_ret ?_
    refine W.widen (k := 1) (n := 6) (Nat.le_of_ble_eq_true rfl) (Nat.le_of_ble_eq_true rfl) ?_
    exact W.iret (v := iI 0) hx hb hr (fun tt_ ht_ hW_ => ⟨⟨iI 0, .inl (u_4, (vf_upd zf 0 (m_mean g))), rfl, ⟨(show (c_nul (m_recipes g) = 0) ∧ c_nul (m_recipes g) = 0 ∧ (u_4, (vf_upd zf 0 (m_mean g))).2 0 = m_mean g from ⟨hu_4, hz9, rfl⟩), (congrArg iI hfin)⟩, by rw [ht_]; exact hP, hD⟩, hS.F ht_⟩) hS.2.2 dX0_meanMinutes_14
set_option maxHeartbeats 2000000 in
set_option maxRecDepth 100000 in
theorem mt_X0_reuseShare (l : Launch) (E : EE) (cw : Nat) (oaA : Nat) (osA : Nat) (hsn : Int) (hdA : Nat) (spA : Nat) (bfA : Nat) (lnA : Nat) (prA : Nat) (ep : Int) (lt : Option Nat) (o : Nat → Nat) (sc : Nat → Int) (ar : Nat → Int → Int) (la : Nat) (zf : Nat → UInt64)  (g : Int → Int) (hst : l.stackTraces = false) (hsr : SR g sc ar) (hgb : 0 ≤ g 2 ∧ g 2 < 2147483648 ∧ 0 ≤ g 3 ∧ g 3 < 2147483648) (sz : Nat) : vx_Met l yX0_reuseShare (wsW_ yX0_reuseShare cX0_reuseShare 3 (some .int) [(0, 8, 11, 119)]) { frames := 8, cells := 1, slots := 6, locals := 132 } (va_Pc [.ref cw, .ref la] (UX E (([(cw, .inr (1, [.ref (o 0), .ref oaA, .ref osA, iv hsn, .ref hdA, .ref spA, .ref bfA, .ref lnA, .ref prA, iv ep, va_rf lt]))] : va_W) ++ (SW E o sc ar) ++ ([(la, doA (E.2 6) zf)] : va_W)) sz)) (UQx E (Sum.elim (fun u : (Unit) × (Nat → UInt64) => (c_nul (g 2) = 0) ∧ c_nul (g 2) = 0 ∧ u.2 0 = FP.f2d (m_share g)) (fun u : Unit => 0 < c_nul (g 2) ∧ ∃ En : String, 0 < c_nul (g 2) ∧ En = nmX "java/lang/ArithmeticException" "" "" (c_nul (g 2)))) (fun _ => c_nul (g 2)) (Sum.elim (fun u : (Unit) × (Nat → UInt64) => ([(cw, .inr (1, [.ref (o 0), .ref oaA, .ref osA, iv hsn, .ref hdA, .ref spA, .ref bfA, .ref lnA, .ref prA, iv ep, va_rf lt]))] : va_W) ++ (SW E o sc ar) ++ ([(la, doA (E.2 6) u.2)] : va_W)) (fun u : Unit => ([(cw, .inr (1, [.ref (o 0), .ref oaA, .ref osA, iv hsn, .ref hdA, .ref spA, .ref bfA, .ref lnA, .ref prA, iv ep, va_rf lt]))] : va_W) ++ (SW E o sc ar) ++ ([(la, doA (E.2 6) zf)] : va_W))) (va_A (([(cw, .inr (1, [.ref (o 0), .ref oaA, .ref osA, iv hsn, .ref hdA, .ref spA, .ref bfA, .ref lnA, .ref prA, iv ep, va_rf lt]))] : va_W) ++ (SW E o sc ar) ++ ([(la, doA (E.2 6) zf)] : va_W)) sz)) (UXx E (fun (_ : String) (_ : Unit) => False) (fun _ : Unit => []) (fun _ : Unit => none) (va_A (([(cw, .inr (1, [.ref (o 0), .ref oaA, .ref osA, iv hsn, .ref hdA, .ref spA, .ref bfA, .ref lnA, .ref prA, iv ep, va_rf lt]))] : va_W) ++ (SW E o sc ar) ++ ([(la, doA (E.2 6) zf)] : va_W)) sz)) 1 6 (va_A (([(cw, .inr (1, [.ref (o 0), .ref oaA, .ref osA, iv hsn, .ref hdA, .ref spA, .ref bfA, .ref lnA, .ref prA, iv ep, va_rf lt]))] : va_W) ++ (SW E o sc ar) ++ ([(la, doA (E.2 6) zf)] : va_W)) sz) := by
  refine vx_ofWH (hh := [(0, 8, 11, 119)]) (cc := cX0_reuseShare) (maxL := 3) (ret := (some .int)) (by decide) rfl ?_
  intro p e s m args below meth c s₁ B hml hv
  obtain ⟨rfl, hsz, hP, hK, hD0, hE⟩ := hv
  have hx := B.exec
  have hb := B.bytes
  have hr := B.returns
  have hts := atoms_spec (ws := (wsW_ yX0_reuseShare cX0_reuseShare 3 (some .int) [(0, 8, 11, 119)])) B.pre
  have htab : c.exceptionTable.toList = tableOf [(0, 8, 11, 119)] := vx_table (x := yX0_reuseShare) B (hts _ List.mem_cons_self)
  have hts : ∀ w ∈ lw_all, w.before _ s = true := fun w h => hts w (List.mem_cons_of_mem _ h)
  have hown : s.vm.findClass RX0 = some m.cls := findClass_of_methodNamed B.named
  have hlocks := B.notSynchronized
  subst hsz
  have hD := hD0.self (sz := s.heap.size)
  generalize hAe : va_A (([(cw, .inr (1, [.ref (o 0), .ref oaA, .ref osA, iv hsn, .ref hdA, .ref spA, .ref bfA, .ref lnA, .ref prA, iv ep, va_rf lt]))] : va_W) ++ (SW E o sc ar) ++ ([(la, doA (E.2 6) zf)] : va_W)) s.heap.size = A at hD hE ⊢
  have hA : ∀ q : Nat, s.heap.size ≤ q → A q := fun q h => by rw [← hAe]; exact Or.inr h
  have hS : va_S A s.heap s.heap [] := va_S.rf
  have hl := lv_entry ([.ref cw, .ref la]) (n := 3) (Nat.le_of_ble_eq_true rfl)
  rw [lg_entry_eq]
  generalize (lg_sl ([.ref cw, .ref la]) ++ List.replicate (3 - (lg_sl ([.ref cw, .ref la])).length) Slot.unset).toArray = ls at hl ⊢
  have hl : lv_has ls 3 [(0, .ref cw), (1, .ref la)] := hl
  refine lv_aload_n hx hb dX0_reuseShare_0 rfl (lv_at hl 1 rfl) ?_
  refine lv_iconst (v := iI 0) hx hb dX0_reuseShare_1 rfl ?_
  refine lv_aload_n hx hb dX0_reuseShare_2 rfl (lv_at hl 0 rfl) ?_
  have hg_1 : gpick [[(cw, .inr (1, [.ref (o 0), .ref oaA, .ref osA, iv hsn, .ref hdA, .ref spA, .ref bfA, .ref lnA, .ref prA, iv ep, va_rf lt]))], SW E o sc ar, [(la, doA (E.2 6) zf)]] ([[(cw, .inr (1, [.ref (o 0), .ref oaA, .ref osA, iv hsn, .ref hdA, .ref spA, .ref bfA, .ref lnA, .ref prA, iv ep, va_rf lt]))], SW E o sc ar] ++ [[(la, doA (E.2 6) zf)]]) [0, 1, 2] := ⟨rfl, (show List.Perm [0, 1, 2] (List.range 3) from by decide)⟩
  have hg_1P : va_P E.1 CL (([(cw, .inr (1, [.ref (o 0), .ref oaA, .ref osA, iv hsn, .ref hdA, .ref spA, .ref bfA, .ref lnA, .ref prA, iv ep, va_rf lt]))] : va_W) ++ (SW E o sc ar)) s.heap := (g_out hg_1 hP hD).1
  have hg_1D : va_D A (([(cw, .inr (1, [.ref (o 0), .ref oaA, .ref osA, iv hsn, .ref hdA, .ref spA, .ref bfA, .ref lnA, .ref prA, iv ep, va_rf lt]))] : va_W) ++ (SW E o sc ar)) := (g_out hg_1 hP hD).2
  have hg_1F : ∀ q, va_A (([(cw, .inr (1, [.ref (o 0), .ref oaA, .ref osA, iv hsn, .ref hdA, .ref spA, .ref bfA, .ref lnA, .ref prA, iv ep, va_rf lt]))] : va_W) ++ (SW E o sc ar)) s.heap.size q → A q := g_free hg_1 hP hD hS hA
  have hlt_2 := P_lts hP
  have hz_3 : s.heap.size ≤ s.heap.size := hS.1
  have hj_6 : ∀ u_4 : Unit, gpick ([[(cw, .inr (1, [.ref (o 0), .ref oaA, .ref osA, iv hsn, .ref hdA, .ref spA, .ref bfA, .ref lnA, .ref prA, iv ep, va_rf lt]))], SW E o sc ar] ++ [[(la, doA (E.2 6) zf)]]) [[(cw, .inr (1, [.ref (o 0), .ref oaA, .ref osA, iv hsn, .ref hdA, .ref spA, .ref bfA, .ref lnA, .ref prA, iv ep, va_rf lt]))], SW E o sc ar, [(la, doA (E.2 6) zf)]] [0, 1, 2] := fun u_4 => ⟨rfl, (show List.Perm [0, 1, 2] (List.range 3) from by decide)⟩
  have hj_7 : ∀ u_5 : Unit, gpick ([[(cw, .inr (1, [.ref (o 0), .ref oaA, .ref osA, iv hsn, .ref hdA, .ref spA, .ref bfA, .ref lnA, .ref prA, iv ep, va_rf lt]))], SW E o sc ar] ++ [[(la, doA (E.2 6) zf)]]) [[(cw, .inr (1, [.ref (o 0), .ref oaA, .ref osA, iv hsn, .ref hdA, .ref spA, .ref bfA, .ref lnA, .ref prA, iv ep, va_rf lt]))], SW E o sc ar, [(la, doA (E.2 6) zf)]] [0, 1, 2] := fun u_5 => ⟨rfl, (show List.Perm [0, 1, 2] (List.range 3) from by decide)⟩
  refine n_txyB (y := fun u_4 => .float (m_share g)) (w2 := fun u_4 : Unit => ([(cw, .inr (1, [.ref (o 0), .ref oaA, .ref osA, iv hsn, .ref hdA, .ref spA, .ref bfA, .ref lnA, .ref prA, iv ep, va_rf lt]))] : va_W) ++ (SW E o sc ar) ++ ([(la, doA (E.2 6) zf)] : va_W)) (w3 := fun u_5 : Unit => ([(cw, .inr (1, [.ref (o 0), .ref oaA, .ref osA, iv hsn, .ref hdA, .ref spA, .ref bfA, .ref lnA, .ref prA, iv ep, va_rf lt]))] : va_W) ++ (SW E o sc ar) ++ ([(la, doA (E.2 6) zf)] : va_W)) (vx_runV (As := []) (rest := [iv 0, .ref la]) ⟨hx, hb, hml, hown, hts⟩ (mt_X1_reuseShare l E cw oaA osA hsn hdA spA bfA lnA prA ep lt o sc ar  g (by exact hst) (by assumption) (by omega) _) (cwV 0 hts (lw_V q1374 q1375 q1376 q94 q1377) rfl rfl rfl (by decide +kernel) ⟨Nat.le_of_ble_eq_true rfl, Nat.le_of_ble_eq_true rfl⟩) (UX_V hg_1P hK (hg_1D) hE hS hg_1F (va_recv hK.1 hP (ci := 1) (q0 := 0) rfl rfl)) rfl rfl hl.1 rfl (lv_room (Nat.le_of_ble_eq_true rfl)) dX0_reuseShare_3 ⟨Nat.le_of_ble_eq_true rfl, Nat.le_of_ble_eq_true rfl⟩) hS hg_1F ?_ ?_ ?_ ?_
  · exact (fun u_4 _ hk9 hp9 hd9 => g_back hg_1 (hj_6 u_4) hP hD hg_1F hk9 hp9 hd9)
  · exact (fun u_5 _ hk9 hp9 hd9 => g_back hg_1 (hj_7 u_5) hP hD hg_1F hk9 hp9 hd9)
  · intro En ce q9 u_5 H locs hCx hP hD hS hxf hq9 hce hcv hcl
    have hCx : 0 < c_nul (g 2) ∧ En = nmX "java/lang/ArithmeticException" "" "" (c_nul (g 2)) := hCx
    have hP : va_P E.1 CL (([(cw, .inr (1, [.ref (o 0), .ref oaA, .ref osA, iv hsn, .ref hdA, .ref spA, .ref bfA, .ref lnA, .ref prA, iv ep, va_rf lt]))] : va_W) ++ (SW E o sc ar) ++ ([(la, doA (E.2 6) zf)] : va_W)) H := hP
    have hD : va_D A (([(cw, .inr (1, [.ref (o 0), .ref oaA, .ref osA, iv hsn, .ref hdA, .ref spA, .ref bfA, .ref lnA, .ref prA, iv ep, va_rf lt]))] : va_W) ++ (SW E o sc ar) ++ ([(la, doA (E.2 6) zf)] : va_W)) := hD
    have hcx9 := hCx
    obtain ⟨hc0, hEn9⟩ := hCx
    have hcr9 : c_nul (g 2) ≤ 1 := by have := c_nul_r (g 2); omega
    have hk9 : c_nul (g 2) = 1 := by omega
    have hEn9 : En = "java/lang/ArithmeticException" := by rw [hEn9, hk9]; rfl
    subst hEn9
    refine vx_catch (own := "ClockworkTailorLaw") hown [] _ [] htab (fun z hz => by cases hz) (by decide) (by decide) (name := "java/lang/ArithmeticException") (hts _ q1341) (hK.nw q1353) hce hcv hcl ?_
    refine lv_astore_n (lv' := [(2, .ref q9), (0, .ref cw), (1, .ref la)]) hx hb dX0_reuseShare_11 rfl hl (by decide) rfl (fun ls hl => ?_)
    refine lv_iconst (v := iI 1) hx hb dX0_reuseShare_12 rfl ?_
    have hfin : 1 = c_nul (g 2) := by
      first | exact hz9.symm | exact hk9.symm
    refine vx_ret ?_
    refine W.widen (k := 1) (n := 6) (Nat.le_of_ble_eq_true rfl) (Nat.le_of_ble_eq_true rfl) ?_
    exact W.iret (v := iI 1) hx hb hr (fun tt_ ht_ hW_ => ⟨⟨iI 1, .inr u_5, rfl, ⟨(show 0 < c_nul (g 2) ∧ ∃ En : String, 0 < c_nul (g 2) ∧ En = nmX "java/lang/ArithmeticException" "" "" (c_nul (g 2)) from ⟨(by omega), _, hcx9⟩), (congrArg iI hfin)⟩, by rw [ht_]; exact hP, hD⟩, hS.F ht_⟩) hS.2.2 dX0_reuseShare_13
  · intro u_4 H locs hC hP hD hS
    have hu_4 : c_nul (g 2) = 0 := hC
    have hP : va_P E.1 CL (([(cw, .inr (1, [.ref (o 0), .ref oaA, .ref osA, iv hsn, .ref hdA, .ref spA, .ref bfA, .ref lnA, .ref prA, iv ep, va_rf lt]))] : va_W) ++ (SW E o sc ar) ++ ([(la, doA (E.2 6) zf)] : va_W)) H := hP
    have hD : va_D A (([(cw, .inr (1, [.ref (o 0), .ref oaA, .ref osA, iv hsn, .ref hdA, .ref spA, .ref bfA, .ref lnA, .ref prA, iv ep, va_rf lt]))] : va_W) ++ (SW E o sc ar) ++ ([(la, doA (E.2 6) zf)] : va_W)) := hD
    have hz9 : c_nul (g 2) = 0 := hu_4
    refine lv_f2d hx hb dX0_reuseShare_6 (vf_f2d (vf_f (a := g 3) (b := g 2) ⟨by omega, by omega⟩ (fun h9 => by rw [h9] at hz9; exact absurd hz9 (by decide)))) ?_
    refine n_dast1 hx hb hK.1 hP hD hS 18 rfl dX0_reuseShare_7 (ws2 := ([(cw, .inr (1, [.ref (o 0), .ref oaA, .ref osA, iv hsn, .ref hdA, .ref spA, .ref bfA, .ref lnA, .ref prA, iv ep, va_rf lt]))] : va_W) ++ (SW E o sc ar) ++ ([(la, doA (E.2 6) (vf_upd zf 0 (FP.f2d (m_share g))))] : va_W)) rfl (fun H locs hP hD hS => ?_)
    have hP : va_P E.1 CL (([(cw, .inr (1, [.ref (o 0), .ref oaA, .ref osA, iv hsn, .ref hdA, .ref spA, .ref bfA, .ref lnA, .ref prA, iv ep, va_rf lt]))] : va_W) ++ (SW E o sc ar) ++ ([(la, doA (E.2 6) (vf_upd zf 0 (FP.f2d (m_share g))))] : va_W)) H := hP
    have hD : va_D A (([(cw, .inr (1, [.ref (o 0), .ref oaA, .ref osA, iv hsn, .ref hdA, .ref spA, .ref bfA, .ref lnA, .ref prA, iv ep, va_rf lt]))] : va_W) ++ (SW E o sc ar) ++ ([(la, doA (E.2 6) (vf_upd zf 0 (FP.f2d (m_share g))))] : va_W)) := hD
    refine lv_goto (tgt := 14) hx hb dX0_reuseShare_8 (by decide) ?_
    refine lv_iconst (v := iI 0) hx hb dX0_reuseShare_14 rfl ?_
    have hfin : 0 = c_nul (g 2) := by
      first | exact hz9.symm | exact hk9.symm
    refine vx_ret ?_
    refine W.widen (k := 1) (n := 6) (Nat.le_of_ble_eq_true rfl) (Nat.le_of_ble_eq_true rfl) ?_
    exact W.iret (v := iI 0) hx hb hr (fun tt_ ht_ hW_ => ⟨⟨iI 0, .inl (u_4, (vf_upd zf 0 (FP.f2d (m_share g)))), rfl, ⟨(show (c_nul (g 2) = 0) ∧ c_nul (g 2) = 0 ∧ (u_4, (vf_upd zf 0 (FP.f2d (m_share g)))).2 0 = FP.f2d (m_share g) from ⟨hu_4, hz9, rfl⟩), (congrArg iI hfin)⟩, by rw [ht_]; exact hP, hD⟩, hS.F ht_⟩) hS.2.2 dX0_reuseShare_15
set_option maxHeartbeats 2000000 in
set_option maxRecDepth 100000 in
theorem mt_X0_refusalReason_a (l : Launch) (E : EE) (cw : Nat) (stA : Nat) (oaA : Nat) (osA : Nat) (hsn : Int) (hdA : Nat) (spA : Nat) (bfA : Nat) (lnA : Nat) (prA : Nat) (ep : Int) (la : Nat) (zf : Nat → Int64) (hst : l.stackTraces = false) (sz : Nat) : vx_Met l yX0_refusalReason (wsW_ yX0_refusalReason cX0_refusalReason 3 (some .int) [(0, 8, 11, 21)]) { frames := 10, cells := 1, slots := 6, locals := 220 } (va_Pc [.ref cw, .ref la] (UX E (([(cw, .inr (1, [.ref stA, .ref oaA, .ref osA, iv hsn, .ref hdA, .ref spA, .ref bfA, .ref lnA, .ref prA, iv ep, .null]))] : va_W) ++ ([(la, loA (E.2 5) zf)] : va_W)) sz)) (UQx E (Sum.elim (fun u : (Unit) × (Nat → Int64) => (c_zero (0 : Int) = 0) ∧ c_zero (0 : Int) = 0 ∧ u.2 0 = (iI (0 : Int)).toInt64) (fun u : Unit => 0 < c_zero (0 : Int) ∧ ∃ En : String, En = "java/util/NoSuchElementException" ∧ c_zero (0 : Int) = 1)) (fun _ => c_zero (0 : Int)) (Sum.elim (fun u : (Unit) × (Nat → Int64) => ([(cw, .inr (1, [.ref stA, .ref oaA, .ref osA, iv hsn, .ref hdA, .ref spA, .ref bfA, .ref lnA, .ref prA, iv ep, .null]))] : va_W) ++ ([(la, loA (E.2 5) u.2)] : va_W)) (fun u : Unit => ([(cw, .inr (1, [.ref stA, .ref oaA, .ref osA, iv hsn, .ref hdA, .ref spA, .ref bfA, .ref lnA, .ref prA, iv ep, .null]))] : va_W) ++ ([(la, loA (E.2 5) zf)] : va_W))) (va_A (([(cw, .inr (1, [.ref stA, .ref oaA, .ref osA, iv hsn, .ref hdA, .ref spA, .ref bfA, .ref lnA, .ref prA, iv ep, .null]))] : va_W) ++ ([(la, loA (E.2 5) zf)] : va_W)) sz)) (UXx E (fun (_ : String) (_ : Unit) => False) (fun _ : Unit => []) (fun _ : Unit => none) (va_A (([(cw, .inr (1, [.ref stA, .ref oaA, .ref osA, iv hsn, .ref hdA, .ref spA, .ref bfA, .ref lnA, .ref prA, iv ep, .null]))] : va_W) ++ ([(la, loA (E.2 5) zf)] : va_W)) sz)) 1 6 (va_A (([(cw, .inr (1, [.ref stA, .ref oaA, .ref osA, iv hsn, .ref hdA, .ref spA, .ref bfA, .ref lnA, .ref prA, iv ep, .null]))] : va_W) ++ ([(la, loA (E.2 5) zf)] : va_W)) sz) := by
  refine vx_ofWH (hh := [(0, 8, 11, 21)]) (cc := cX0_refusalReason) (maxL := 3) (ret := (some .int)) (by decide) rfl ?_
  intro p e s m args below meth c s₁ B hml hv
  obtain ⟨rfl, hsz, hP, hK, hD0, hE⟩ := hv
  have hx := B.exec
  have hb := B.bytes
  have hr := B.returns
  have hts := atoms_spec (ws := (wsW_ yX0_refusalReason cX0_refusalReason 3 (some .int) [(0, 8, 11, 21)])) B.pre
  have htab : c.exceptionTable.toList = tableOf [(0, 8, 11, 21)] := vx_table (x := yX0_refusalReason) B (hts _ List.mem_cons_self)
  have hts : ∀ w ∈ lw_all, w.before _ s = true := fun w h => hts w (List.mem_cons_of_mem _ h)
  have hown : s.vm.findClass RX0 = some m.cls := findClass_of_methodNamed B.named
  have hlocks := B.notSynchronized
  subst hsz
  have hD := hD0.self (sz := s.heap.size)
  generalize hAe : va_A (([(cw, .inr (1, [.ref stA, .ref oaA, .ref osA, iv hsn, .ref hdA, .ref spA, .ref bfA, .ref lnA, .ref prA, iv ep, .null]))] : va_W) ++ ([(la, loA (E.2 5) zf)] : va_W)) s.heap.size = A at hD hE ⊢
  have hA : ∀ q : Nat, s.heap.size ≤ q → A q := fun q h => by rw [← hAe]; exact Or.inr h
  have hS : va_S A s.heap s.heap [] := va_S.rf
  have hl := lv_entry ([.ref cw, .ref la]) (n := 3) (Nat.le_of_ble_eq_true rfl)
  rw [lg_entry_eq]
  generalize (lg_sl ([.ref cw, .ref la]) ++ List.replicate (3 - (lg_sl ([.ref cw, .ref la])).length) Slot.unset).toArray = ls at hl ⊢
  have hl : lv_has ls 3 [(0, .ref cw), (1, .ref la)] := hl
  refine lv_aload_n hx hb dX0_refusalReason_0 rfl (lv_at hl 1 rfl) ?_
  refine lv_iconst (v := iI 0) hx hb dX0_refusalReason_1 rfl ?_
  refine lv_aload_n hx hb dX0_refusalReason_2 rfl (lv_at hl 0 rfl) ?_
  have hg_1 : gpick [[(cw, .inr (1, [.ref stA, .ref oaA, .ref osA, iv hsn, .ref hdA, .ref spA, .ref bfA, .ref lnA, .ref prA, iv ep, .null]))], [(la, loA (E.2 5) zf)]] ([[(cw, .inr (1, [.ref stA, .ref oaA, .ref osA, iv hsn, .ref hdA, .ref spA, .ref bfA, .ref lnA, .ref prA, iv ep, .null]))]] ++ [[(la, loA (E.2 5) zf)]]) [0, 1] := ⟨rfl, (show List.Perm [0, 1] (List.range 2) from by decide)⟩
  have hg_1P : va_P E.1 CL ([(cw, .inr (1, [.ref stA, .ref oaA, .ref osA, iv hsn, .ref hdA, .ref spA, .ref bfA, .ref lnA, .ref prA, iv ep, .null]))]) s.heap := (g_out hg_1 hP hD).1
  have hg_1D : va_D A ([(cw, .inr (1, [.ref stA, .ref oaA, .ref osA, iv hsn, .ref hdA, .ref spA, .ref bfA, .ref lnA, .ref prA, iv ep, .null]))]) := (g_out hg_1 hP hD).2
  have hg_1F : ∀ q, va_A ([(cw, .inr (1, [.ref stA, .ref oaA, .ref osA, iv hsn, .ref hdA, .ref spA, .ref bfA, .ref lnA, .ref prA, iv ep, .null]))]) s.heap.size q → A q := g_free hg_1 hP hD hS hA
  have hlt_2 := P_lts hP
  have hz_3 : s.heap.size ≤ s.heap.size := hS.1
  have hj_6 : ∀ u_4 : Unit, gpick ([[(cw, .inr (1, [.ref stA, .ref oaA, .ref osA, iv hsn, .ref hdA, .ref spA, .ref bfA, .ref lnA, .ref prA, iv ep, .null]))]] ++ [[(la, loA (E.2 5) zf)]]) [[(cw, .inr (1, [.ref stA, .ref oaA, .ref osA, iv hsn, .ref hdA, .ref spA, .ref bfA, .ref lnA, .ref prA, iv ep, .null]))], [(la, loA (E.2 5) zf)]] [0, 1] := fun u_4 => ⟨rfl, (show List.Perm [0, 1] (List.range 2) from by decide)⟩
  have hj_7 : ∀ u_5 : Unit, gpick ([[(cw, .inr (1, [.ref stA, .ref oaA, .ref osA, iv hsn, .ref hdA, .ref spA, .ref bfA, .ref lnA, .ref prA, iv ep, .null]))]] ++ [[(la, loA (E.2 5) zf)]]) [[(cw, .inr (1, [.ref stA, .ref oaA, .ref osA, iv hsn, .ref hdA, .ref spA, .ref bfA, .ref lnA, .ref prA, iv ep, .null]))], [(la, loA (E.2 5) zf)]] [0, 1] := fun u_5 => ⟨rfl, (show List.Perm [0, 1] (List.range 2) from by decide)⟩
  refine n_txB (x := fun u_4 => (0 : Int)) (w2 := fun u_4 : Unit => ([(cw, .inr (1, [.ref stA, .ref oaA, .ref osA, iv hsn, .ref hdA, .ref spA, .ref bfA, .ref lnA, .ref prA, iv ep, .null]))] : va_W) ++ ([(la, loA (E.2 5) zf)] : va_W)) (w3 := fun u_5 : Unit => ([(cw, .inr (1, [.ref stA, .ref oaA, .ref osA, iv hsn, .ref hdA, .ref spA, .ref bfA, .ref lnA, .ref prA, iv ep, .null]))] : va_W) ++ ([(la, loA (E.2 5) zf)] : va_W)) (vx_runV (As := []) (rest := [iv 0, .ref la]) ⟨hx, hb, hml, hown, hts⟩ (mt_X1_refusalReason_a l E cw stA oaA osA hsn hdA spA bfA lnA prA ep  (by exact hst) _) (cwV 0 hts (lw_V q1381 q1382 q1383 q94 q1384) rfl rfl rfl (by decide +kernel) ⟨Nat.le_of_ble_eq_true rfl, Nat.le_of_ble_eq_true rfl⟩) (UX_V hg_1P hK (hg_1D) hE hS hg_1F (va_recv hK.1 hP (ci := 1) (q0 := 0) rfl rfl)) rfl rfl hl.1 rfl (lv_room (Nat.le_of_ble_eq_true rfl)) dX0_refusalReason_3 ⟨Nat.le_of_ble_eq_true rfl, Nat.le_of_ble_eq_true rfl⟩) hS hg_1F ?_ ?_ ?_ ?_
  · exact (fun u_4 _ hk9 hp9 hd9 => g_back hg_1 (hj_6 u_4) hP hD hg_1F hk9 hp9 hd9)
  · exact (fun u_5 _ hk9 hp9 hd9 => g_back hg_1 (hj_7 u_5) hP hD hg_1F hk9 hp9 hd9)
  · intro En ce q9 u_5 H locs hCx hP hD hS hxf hq9 hce hcv hcl
    have hCx : En = "java/util/NoSuchElementException" ∧ c_zero (0 : Int) = 1 := hCx
    have hP : va_P E.1 CL (([(cw, .inr (1, [.ref stA, .ref oaA, .ref osA, iv hsn, .ref hdA, .ref spA, .ref bfA, .ref lnA, .ref prA, iv ep, .null]))] : va_W) ++ ([(la, loA (E.2 5) zf)] : va_W)) H := hP
    have hD : va_D A (([(cw, .inr (1, [.ref stA, .ref oaA, .ref osA, iv hsn, .ref hdA, .ref spA, .ref bfA, .ref lnA, .ref prA, iv ep, .null]))] : va_W) ++ ([(la, loA (E.2 5) zf)] : va_W)) := hD
    have hcx9 := hCx
    obtain ⟨hEn9, hk9⟩ := hCx
    subst hEn9
    refine vx_catch (own := "ClockworkTailorLaw") hown [] _ [] htab (fun z hz => by cases hz) (by decide) (by decide) (name := "java/util/NoSuchElementException") (hts _ q951) (hK.nw q976) hce hcv hcl ?_
    refine lv_astore_n (lv' := [(2, .ref q9), (0, .ref cw), (1, .ref la)]) hx hb dX0_refusalReason_11 rfl hl (by decide) rfl (fun ls hl => ?_)
    refine lv_iconst (v := iI 1) hx hb dX0_refusalReason_12 rfl ?_
    have hfin : 1 = c_zero (0 : Int) := by
      first | exact hz9.symm | exact hk9.symm
    refine vx_ret ?_
    refine W.widen (k := 1) (n := 6) (Nat.le_of_ble_eq_true rfl) (Nat.le_of_ble_eq_true rfl) ?_
    exact W.iret (v := iI 1) hx hb hr (fun tt_ ht_ hW_ => ⟨⟨iI 1, .inr u_5, rfl, ⟨(show 0 < c_zero (0 : Int) ∧ ∃ En : String, En = "java/util/NoSuchElementException" ∧ c_zero (0 : Int) = 1 from ⟨(by omega), _, hcx9⟩), (congrArg iI hfin)⟩, by rw [ht_]; exact hP, hD⟩, hS.F ht_⟩) hS.2.2 dX0_refusalReason_13
  · intro u_4 H locs hC hP hD hS
    have hu_4 : c_zero (0 : Int) = 0 := hC
    have hP : va_P E.1 CL (([(cw, .inr (1, [.ref stA, .ref oaA, .ref osA, iv hsn, .ref hdA, .ref spA, .ref bfA, .ref lnA, .ref prA, iv ep, .null]))] : va_W) ++ ([(la, loA (E.2 5) zf)] : va_W)) H := hP
    have hD : va_D A (([(cw, .inr (1, [.ref stA, .ref oaA, .ref osA, iv hsn, .ref hdA, .ref spA, .ref bfA, .ref lnA, .ref prA, iv ep, .null]))] : va_W) ++ ([(la, loA (E.2 5) zf)] : va_W)) := hD
    have hz9 : c_zero (0 : Int) = 0 := hu_4
    refine lv_i2l (v := (iI (0 : Int)).toInt64) hx hb dX0_refusalReason_6 rfl ?_
    refine n_last1 hx hb hK.1 hP hD hS 1 rfl dX0_refusalReason_7 (ws2 := ([(cw, .inr (1, [.ref stA, .ref oaA, .ref osA, iv hsn, .ref hdA, .ref spA, .ref bfA, .ref lnA, .ref prA, iv ep, .null]))] : va_W) ++ ([(la, loA (E.2 5) (vp_updL zf 0 ((iI (0 : Int)).toInt64)))] : va_W)) rfl (fun H locs hP hD hS => ?_)
    have hP : va_P E.1 CL (([(cw, .inr (1, [.ref stA, .ref oaA, .ref osA, iv hsn, .ref hdA, .ref spA, .ref bfA, .ref lnA, .ref prA, iv ep, .null]))] : va_W) ++ ([(la, loA (E.2 5) (vp_updL zf 0 ((iI (0 : Int)).toInt64)))] : va_W)) H := hP
    have hD : va_D A (([(cw, .inr (1, [.ref stA, .ref oaA, .ref osA, iv hsn, .ref hdA, .ref spA, .ref bfA, .ref lnA, .ref prA, iv ep, .null]))] : va_W) ++ ([(la, loA (E.2 5) (vp_updL zf 0 ((iI (0 : Int)).toInt64)))] : va_W)) := hD
    refine lv_goto (tgt := 14) hx hb dX0_refusalReason_8 (by decide) ?_
    refine lv_iconst (v := iI 0) hx hb dX0_refusalReason_14 rfl ?_
    have hfin : 0 = c_zero (0 : Int) := by
      first | exact hz9.symm | exact hk9.symm
    refine vx_ret ?_
    refine W.widen (k := 1) (n := 6) (Nat.le_of_ble_eq_true rfl) (Nat.le_of_ble_eq_true rfl) ?_
    exact W.iret (v := iI 0) hx hb hr (fun tt_ ht_ hW_ => ⟨⟨iI 0, .inl (u_4, (vp_updL zf 0 ((iI (0 : Int)).toInt64))), rfl, ⟨(show (c_zero (0 : Int) = 0) ∧ c_zero (0 : Int) = 0 ∧ (u_4, (vp_updL zf 0 ((iI (0 : Int)).toInt64))).2 0 = (iI (0 : Int)).toInt64 from ⟨hu_4, hz9, rfl⟩), (congrArg iI hfin)⟩, by rw [ht_]; exact hP, hD⟩, hS.F ht_⟩) hS.2.2 dX0_refusalReason_15
set_option maxHeartbeats 2000000 in
set_option maxRecDepth 100000 in
theorem mt_X0_refusalReason_b (l : Launch) (E : EE) (cw : Nat) (stA : Nat) (oaA : Nat) (osA : Nat) (hsn : Int) (hdA : Nat) (spA : Nat) (bfA : Nat) (lnA : Nat) (prA : Nat) (ep : Int) (rq : Nat) (pv0 : Value) (pv1 : Value) (pv2 : Value) (pv3 : Value) (pv4 : Value) (pv5 : Value) (wr : Int) (wd : Int) (la : Nat) (zf : Nat → Int64) (hst : l.stackTraces = false) (hwr : 0 < wr ∧ wr < 100) (hwd : -2147483648 ≤ wd ∧ wd < 2147483648) (sz : Nat) : vx_Met l yX0_refusalReason (wsW_ yX0_refusalReason cX0_refusalReason 3 (some .int) [(0, 8, 11, 21)]) { frames := 10, cells := 1, slots := 6, locals := 220 } (va_Pc [.ref cw, .ref la] (UX E (([(cw, .inr (1, [.ref stA, .ref oaA, .ref osA, iv hsn, .ref hdA, .ref spA, .ref bfA, .ref lnA, .ref prA, iv ep, .ref rq]))] : va_W) ++ ([(rq, .inr (5, [pv0, pv1, pv2, pv3, pv4, pv5, iv wr, iv wd, .null]))] : va_W) ++ ([(la, loA (E.2 5) zf)] : va_W)) sz)) (UQx E (Sum.elim (fun u : (Unit) × (Nat → Int64) => (c_zero wr = 0) ∧ c_zero wr = 0 ∧ u.2 0 = (iI wr).toInt64) (fun u : Unit => 0 < c_zero wr ∧ ∃ En : String, En = "java/util/NoSuchElementException" ∧ c_zero wr = 1)) (fun _ => c_zero wr) (Sum.elim (fun u : (Unit) × (Nat → Int64) => ([(cw, .inr (1, [.ref stA, .ref oaA, .ref osA, iv hsn, .ref hdA, .ref spA, .ref bfA, .ref lnA, .ref prA, iv ep, .ref rq]))] : va_W) ++ ([(rq, .inr (5, [pv0, pv1, pv2, pv3, pv4, pv5, iv wr, iv wd, .null]))] : va_W) ++ ([(la, loA (E.2 5) u.2)] : va_W)) (fun u : Unit => ([(cw, .inr (1, [.ref stA, .ref oaA, .ref osA, iv hsn, .ref hdA, .ref spA, .ref bfA, .ref lnA, .ref prA, iv ep, .ref rq]))] : va_W) ++ ([(rq, .inr (5, [pv0, pv1, pv2, pv3, pv4, pv5, iv wr, iv wd, .null]))] : va_W) ++ ([(la, loA (E.2 5) zf)] : va_W))) (va_A (([(cw, .inr (1, [.ref stA, .ref oaA, .ref osA, iv hsn, .ref hdA, .ref spA, .ref bfA, .ref lnA, .ref prA, iv ep, .ref rq]))] : va_W) ++ ([(rq, .inr (5, [pv0, pv1, pv2, pv3, pv4, pv5, iv wr, iv wd, .null]))] : va_W) ++ ([(la, loA (E.2 5) zf)] : va_W)) sz)) (UXx E (fun (_ : String) (_ : Unit) => False) (fun _ : Unit => []) (fun _ : Unit => none) (va_A (([(cw, .inr (1, [.ref stA, .ref oaA, .ref osA, iv hsn, .ref hdA, .ref spA, .ref bfA, .ref lnA, .ref prA, iv ep, .ref rq]))] : va_W) ++ ([(rq, .inr (5, [pv0, pv1, pv2, pv3, pv4, pv5, iv wr, iv wd, .null]))] : va_W) ++ ([(la, loA (E.2 5) zf)] : va_W)) sz)) 1 6 (va_A (([(cw, .inr (1, [.ref stA, .ref oaA, .ref osA, iv hsn, .ref hdA, .ref spA, .ref bfA, .ref lnA, .ref prA, iv ep, .ref rq]))] : va_W) ++ ([(rq, .inr (5, [pv0, pv1, pv2, pv3, pv4, pv5, iv wr, iv wd, .null]))] : va_W) ++ ([(la, loA (E.2 5) zf)] : va_W)) sz) := by
  refine vx_ofWH (hh := [(0, 8, 11, 21)]) (cc := cX0_refusalReason) (maxL := 3) (ret := (some .int)) (by decide) rfl ?_
  intro p e s m args below meth c s₁ B hml hv
  obtain ⟨rfl, hsz, hP, hK, hD0, hE⟩ := hv
  have hx := B.exec
  have hb := B.bytes
  have hr := B.returns
  have hts := atoms_spec (ws := (wsW_ yX0_refusalReason cX0_refusalReason 3 (some .int) [(0, 8, 11, 21)])) B.pre
  have htab : c.exceptionTable.toList = tableOf [(0, 8, 11, 21)] := vx_table (x := yX0_refusalReason) B (hts _ List.mem_cons_self)
  have hts : ∀ w ∈ lw_all, w.before _ s = true := fun w h => hts w (List.mem_cons_of_mem _ h)
  have hown : s.vm.findClass RX0 = some m.cls := findClass_of_methodNamed B.named
  have hlocks := B.notSynchronized
  subst hsz
  have hD := hD0.self (sz := s.heap.size)
  generalize hAe : va_A (([(cw, .inr (1, [.ref stA, .ref oaA, .ref osA, iv hsn, .ref hdA, .ref spA, .ref bfA, .ref lnA, .ref prA, iv ep, .ref rq]))] : va_W) ++ ([(rq, .inr (5, [pv0, pv1, pv2, pv3, pv4, pv5, iv wr, iv wd, .null]))] : va_W) ++ ([(la, loA (E.2 5) zf)] : va_W)) s.heap.size = A at hD hE ⊢
  have hA : ∀ q : Nat, s.heap.size ≤ q → A q := fun q h => by rw [← hAe]; exact Or.inr h
  have hS : va_S A s.heap s.heap [] := va_S.rf
  have hl := lv_entry ([.ref cw, .ref la]) (n := 3) (Nat.le_of_ble_eq_true rfl)
  rw [lg_entry_eq]
  generalize (lg_sl ([.ref cw, .ref la]) ++ List.replicate (3 - (lg_sl ([.ref cw, .ref la])).length) Slot.unset).toArray = ls at hl ⊢
  have hl : lv_has ls 3 [(0, .ref cw), (1, .ref la)] := hl
  refine lv_aload_n hx hb dX0_refusalReason_0 rfl (lv_at hl 1 rfl) ?_
  refine lv_iconst (v := iI 0) hx hb dX0_refusalReason_1 rfl ?_
  refine lv_aload_n hx hb dX0_refusalReason_2 rfl (lv_at hl 0 rfl) ?_
  have hg_1 : gpick [[(cw, .inr (1, [.ref stA, .ref oaA, .ref osA, iv hsn, .ref hdA, .ref spA, .ref bfA, .ref lnA, .ref prA, iv ep, .ref rq]))], [(rq, .inr (5, [pv0, pv1, pv2, pv3, pv4, pv5, iv wr, iv wd, .null]))], [(la, loA (E.2 5) zf)]] ([[(cw, .inr (1, [.ref stA, .ref oaA, .ref osA, iv hsn, .ref hdA, .ref spA, .ref bfA, .ref lnA, .ref prA, iv ep, .ref rq]))], [(rq, .inr (5, [pv0, pv1, pv2, pv3, pv4, pv5, iv wr, iv wd, .null]))]] ++ [[(la, loA (E.2 5) zf)]]) [0, 1, 2] := ⟨rfl, (show List.Perm [0, 1, 2] (List.range 3) from by decide)⟩
  have hg_1P : va_P E.1 CL (([(cw, .inr (1, [.ref stA, .ref oaA, .ref osA, iv hsn, .ref hdA, .ref spA, .ref bfA, .ref lnA, .ref prA, iv ep, .ref rq]))] : va_W) ++ ([(rq, .inr (5, [pv0, pv1, pv2, pv3, pv4, pv5, iv wr, iv wd, .null]))] : va_W)) s.heap := (g_out hg_1 hP hD).1
  have hg_1D : va_D A (([(cw, .inr (1, [.ref stA, .ref oaA, .ref osA, iv hsn, .ref hdA, .ref spA, .ref bfA, .ref lnA, .ref prA, iv ep, .ref rq]))] : va_W) ++ ([(rq, .inr (5, [pv0, pv1, pv2, pv3, pv4, pv5, iv wr, iv wd, .null]))] : va_W)) := (g_out hg_1 hP hD).2
  have hg_1F : ∀ q, va_A (([(cw, .inr (1, [.ref stA, .ref oaA, .ref osA, iv hsn, .ref hdA, .ref spA, .ref bfA, .ref lnA, .ref prA, iv ep, .ref rq]))] : va_W) ++ ([(rq, .inr (5, [pv0, pv1, pv2, pv3, pv4, pv5, iv wr, iv wd, .null]))] : va_W)) s.heap.size q → A q := g_free hg_1 hP hD hS hA
  have hlt_2 := P_lts hP
  have hz_3 : s.heap.size ≤ s.heap.size := hS.1
  have hj_6 : ∀ u_4 : Unit, gpick ([[(cw, .inr (1, [.ref stA, .ref oaA, .ref osA, iv hsn, .ref hdA, .ref spA, .ref bfA, .ref lnA, .ref prA, iv ep, .ref rq]))], [(rq, .inr (5, [pv0, pv1, pv2, pv3, pv4, pv5, iv wr, iv wd, .null]))]] ++ [[(la, loA (E.2 5) zf)]]) [[(cw, .inr (1, [.ref stA, .ref oaA, .ref osA, iv hsn, .ref hdA, .ref spA, .ref bfA, .ref lnA, .ref prA, iv ep, .ref rq]))], [(rq, .inr (5, [pv0, pv1, pv2, pv3, pv4, pv5, iv wr, iv wd, .null]))], [(la, loA (E.2 5) zf)]] [0, 1, 2] := fun u_4 => ⟨rfl, (show List.Perm [0, 1, 2] (List.range 3) from by decide)⟩
  have hj_7 : ∀ u_5 : Unit, gpick ([[(cw, .inr (1, [.ref stA, .ref oaA, .ref osA, iv hsn, .ref hdA, .ref spA, .ref bfA, .ref lnA, .ref prA, iv ep, .ref rq]))], [(rq, .inr (5, [pv0, pv1, pv2, pv3, pv4, pv5, iv wr, iv wd, .null]))]] ++ [[(la, loA (E.2 5) zf)]]) [[(cw, .inr (1, [.ref stA, .ref oaA, .ref osA, iv hsn, .ref hdA, .ref spA, .ref bfA, .ref lnA, .ref prA, iv ep, .ref rq]))], [(rq, .inr (5, [pv0, pv1, pv2, pv3, pv4, pv5, iv wr, iv wd, .null]))], [(la, loA (E.2 5) zf)]] [0, 1, 2] := fun u_5 => ⟨rfl, (show List.Perm [0, 1, 2] (List.range 3) from by decide)⟩
  refine n_txB (x := fun u_4 => wr) (w2 := fun u_4 : Unit => ([(cw, .inr (1, [.ref stA, .ref oaA, .ref osA, iv hsn, .ref hdA, .ref spA, .ref bfA, .ref lnA, .ref prA, iv ep, .ref rq]))] : va_W) ++ ([(rq, .inr (5, [pv0, pv1, pv2, pv3, pv4, pv5, iv wr, iv wd, .null]))] : va_W) ++ ([(la, loA (E.2 5) zf)] : va_W)) (w3 := fun u_5 : Unit => ([(cw, .inr (1, [.ref stA, .ref oaA, .ref osA, iv hsn, .ref hdA, .ref spA, .ref bfA, .ref lnA, .ref prA, iv ep, .ref rq]))] : va_W) ++ ([(rq, .inr (5, [pv0, pv1, pv2, pv3, pv4, pv5, iv wr, iv wd, .null]))] : va_W) ++ ([(la, loA (E.2 5) zf)] : va_W)) (vx_runV (As := []) (rest := [iv 0, .ref la]) ⟨hx, hb, hml, hown, hts⟩ (mt_X1_refusalReason_b l E cw stA oaA osA hsn hdA spA bfA lnA prA ep rq pv0 pv1 pv2 pv3 pv4 pv5 wr wd  (by exact hst) (by assumption) (by omega) _) (cwV 0 hts (lw_V q1381 q1382 q1383 q94 q1384) rfl rfl rfl (by decide +kernel) ⟨Nat.le_of_ble_eq_true rfl, Nat.le_of_ble_eq_true rfl⟩) (UX_V hg_1P hK (hg_1D) hE hS hg_1F (va_recv hK.1 hP (ci := 1) (q0 := 0) rfl rfl)) rfl rfl hl.1 rfl (lv_room (Nat.le_of_ble_eq_true rfl)) dX0_refusalReason_3 ⟨Nat.le_of_ble_eq_true rfl, Nat.le_of_ble_eq_true rfl⟩) hS hg_1F ?_ ?_ ?_ ?_
  · exact (fun u_4 _ hk9 hp9 hd9 => g_back hg_1 (hj_6 u_4) hP hD hg_1F hk9 hp9 hd9)
  · exact (fun u_5 _ hk9 hp9 hd9 => g_back hg_1 (hj_7 u_5) hP hD hg_1F hk9 hp9 hd9)
  · intro En ce q9 u_5 H locs hCx hP hD hS hxf hq9 hce hcv hcl
    have hCx : En = "java/util/NoSuchElementException" ∧ c_zero wr = 1 := hCx
    have hP : va_P E.1 CL (([(cw, .inr (1, [.ref stA, .ref oaA, .ref osA, iv hsn, .ref hdA, .ref spA, .ref bfA, .ref lnA, .ref prA, iv ep, .ref rq]))] : va_W) ++ ([(rq, .inr (5, [pv0, pv1, pv2, pv3, pv4, pv5, iv wr, iv wd, .null]))] : va_W) ++ ([(la, loA (E.2 5) zf)] : va_W)) H := hP
    have hD : va_D A (([(cw, .inr (1, [.ref stA, .ref oaA, .ref osA, iv hsn, .ref hdA, .ref spA, .ref bfA, .ref lnA, .ref prA, iv ep, .ref rq]))] : va_W) ++ ([(rq, .inr (5, [pv0, pv1, pv2, pv3, pv4, pv5, iv wr, iv wd, .null]))] : va_W) ++ ([(la, loA (E.2 5) zf)] : va_W)) := hD
    have hcx9 := hCx
    obtain ⟨hEn9, hk9⟩ := hCx
    subst hEn9
    refine vx_catch (own := "ClockworkTailorLaw") hown [] _ [] htab (fun z hz => by cases hz) (by decide) (by decide) (name := "java/util/NoSuchElementException") (hts _ q951) (hK.nw q976) hce hcv hcl ?_
    refine lv_astore_n (lv' := [(2, .ref q9), (0, .ref cw), (1, .ref la)]) hx hb dX0_refusalReason_11 rfl hl (by decide) rfl (fun ls hl => ?_)
    refine lv_iconst (v := iI 1) hx hb dX0_refusalReason_12 rfl ?_
    have hfin : 1 = c_zero wr := by
      first | exact hz9.symm | exact hk9.symm
    refine vx_ret ?_
    refine W.widen (k := 1) (n := 6) (Nat.le_of_ble_eq_true rfl) (Nat.le_of_ble_eq_true rfl) ?_
    exact W.iret (v := iI 1) hx hb hr (fun tt_ ht_ hW_ => ⟨⟨iI 1, .inr u_5, rfl, ⟨(show 0 < c_zero wr ∧ ∃ En : String, En = "java/util/NoSuchElementException" ∧ c_zero wr = 1 from ⟨(by omega), _, hcx9⟩), (congrArg iI hfin)⟩, by rw [ht_]; exact hP, hD⟩, hS.F ht_⟩) hS.2.2 dX0_refusalReason_13
  · intro u_4 H locs hC hP hD hS
    have hu_4 : c_zero wr = 0 := hC
    have hP : va_P E.1 CL (([(cw, .inr (1, [.ref stA, .ref oaA, .ref osA, iv hsn, .ref hdA, .ref spA, .ref bfA, .ref lnA, .ref prA, iv ep, .ref rq]))] : va_W) ++ ([(rq, .inr (5, [pv0, pv1, pv2, pv3, pv4, pv5, iv wr, iv wd, .null]))] : va_W) ++ ([(la, loA (E.2 5) zf)] : va_W)) H := hP
    have hD : va_D A (([(cw, .inr (1, [.ref stA, .ref oaA, .ref osA, iv hsn, .ref hdA, .ref spA, .ref bfA, .ref lnA, .ref prA, iv ep, .ref rq]))] : va_W) ++ ([(rq, .inr (5, [pv0, pv1, pv2, pv3, pv4, pv5, iv wr, iv wd, .null]))] : va_W) ++ ([(la, loA (E.2 5) zf)] : va_W)) := hD
    have hz9 : c_zero wr = 0 := hu_4
    refine lv_i2l (v := (iI wr).toInt64) hx hb dX0_refusalReason_6 rfl ?_
    refine n_last1 hx hb hK.1 hP hD hS 2 rfl dX0_refusalReason_7 (ws2 := ([(cw, .inr (1, [.ref stA, .ref oaA, .ref osA, iv hsn, .ref hdA, .ref spA, .ref bfA, .ref lnA, .ref prA, iv ep, .ref rq]))] : va_W) ++ ([(rq, .inr (5, [pv0, pv1, pv2, pv3, pv4, pv5, iv wr, iv wd, .null]))] : va_W) ++ ([(la, loA (E.2 5) (vp_updL zf 0 ((iI wr).toInt64)))] : va_W)) rfl (fun H locs hP hD hS => ?_)
    have hP : va_P E.1 CL (([(cw, .inr (1, [.ref stA, .ref oaA, .ref osA, iv hsn, .ref hdA, .ref spA, .ref bfA, .ref lnA, .ref prA, iv ep, .ref rq]))] : va_W) ++ ([(rq, .inr (5, [pv0, pv1, pv2, pv3, pv4, pv5, iv wr, iv wd, .null]))] : va_W) ++ ([(la, loA (E.2 5) (vp_updL zf 0 ((iI wr).toInt64)))] : va_W)) H := hP
    have hD : va_D A (([(cw, .inr (1, [.ref stA, .ref oaA, .ref osA, iv hsn, .ref hdA, .ref spA, .ref bfA, .ref lnA, .ref prA, iv ep, .ref rq]))] : va_W) ++ ([(rq, .inr (5, [pv0, pv1, pv2, pv3, pv4, pv5, iv wr, iv wd, .null]))] : va_W) ++ ([(la, loA (E.2 5) (vp_updL zf 0 ((iI wr).toInt64)))] : va_W)) := hD
    refine lv_goto (tgt := 14) hx hb dX0_refusalReason_8 (by decide) ?_
    refine lv_iconst (v := iI 0) hx hb dX0_refusalReason_14 rfl ?_
    have hfin : 0 = c_zero wr := by
      first | exact hz9.symm | exact hk9.symm
    refine vx_ret ?_
    refine W.widen (k := 1) (n := 6) (Nat.le_of_ble_eq_true rfl) (Nat.le_of_ble_eq_true rfl) ?_
    exact W.iret (v := iI 0) hx hb hr (fun tt_ ht_ hW_ => ⟨⟨iI 0, .inl (u_4, (vp_updL zf 0 ((iI wr).toInt64))), rfl, ⟨(show (c_zero wr = 0) ∧ c_zero wr = 0 ∧ (u_4, (vp_updL zf 0 ((iI wr).toInt64))).2 0 = (iI wr).toInt64 from ⟨hu_4, hz9, rfl⟩), (congrArg iI hfin)⟩, by rw [ht_]; exact hP, hD⟩, hS.F ht_⟩) hS.2.2 dX0_refusalReason_15
set_option maxHeartbeats 2000000 in
set_option maxRecDepth 100000 in
theorem mt_X0_refusalReason_c (l : Launch) (E : EE) (cw : Nat) (stA : Nat) (oaA : Nat) (osA : Nat) (hsn : Int) (hdA : Nat) (spA : Nat) (bfA : Nat) (lnA : Nat) (prA : Nat) (ep : Int) (rq : Nat) (pv0 : Value) (pv1 : Value) (pv2 : Value) (pv3 : Value) (pv4 : Value) (pv5 : Value) (wr : Int) (wd : Int) (rq2 : Nat) (pw0 : Value) (pw1 : Value) (pw2 : Value) (pw3 : Value) (pw4 : Value) (pw5 : Value) (ws : Int) (wt : Int) (la : Nat) (zf : Nat → Int64) (hst : l.stackTraces = false) (hwr : 0 < wr ∧ wr < 100) (hwd : -2147483648 ≤ wd ∧ wd < 2147483648) (hws : 0 < ws ∧ ws < 100) (sz : Nat) : vx_Met l yX0_refusalReason (wsW_ yX0_refusalReason cX0_refusalReason 3 (some .int) [(0, 8, 11, 21)]) { frames := 10, cells := 1, slots := 6, locals := 220 } (va_Pc [.ref cw, .ref la] (UX E (([(cw, .inr (1, [.ref stA, .ref oaA, .ref osA, iv hsn, .ref hdA, .ref spA, .ref bfA, .ref lnA, .ref prA, iv ep, .ref rq]))] : va_W) ++ ([(rq, .inr (5, [pv0, pv1, pv2, pv3, pv4, pv5, iv wr, iv wd, .ref rq2]))] : va_W) ++ ([(rq2, .inr (5, [pw0, pw1, pw2, pw3, pw4, pw5, iv ws, iv wt, .null]))] : va_W) ++ ([(la, loA (E.2 5) zf)] : va_W)) sz)) (UQx E (Sum.elim (fun u : (Unit) × (Nat → Int64) => (c_zero wr = 0) ∧ c_zero wr = 0 ∧ u.2 0 = (iI wr).toInt64) (fun u : Unit => 0 < c_zero wr ∧ ∃ En : String, En = "java/util/NoSuchElementException" ∧ c_zero wr = 1)) (fun _ => c_zero wr) (Sum.elim (fun u : (Unit) × (Nat → Int64) => ([(cw, .inr (1, [.ref stA, .ref oaA, .ref osA, iv hsn, .ref hdA, .ref spA, .ref bfA, .ref lnA, .ref prA, iv ep, .ref rq]))] : va_W) ++ ([(rq, .inr (5, [pv0, pv1, pv2, pv3, pv4, pv5, iv wr, iv wd, .ref rq2]))] : va_W) ++ ([(rq2, .inr (5, [pw0, pw1, pw2, pw3, pw4, pw5, iv ws, iv wt, .null]))] : va_W) ++ ([(la, loA (E.2 5) u.2)] : va_W)) (fun u : Unit => ([(cw, .inr (1, [.ref stA, .ref oaA, .ref osA, iv hsn, .ref hdA, .ref spA, .ref bfA, .ref lnA, .ref prA, iv ep, .ref rq]))] : va_W) ++ ([(rq, .inr (5, [pv0, pv1, pv2, pv3, pv4, pv5, iv wr, iv wd, .ref rq2]))] : va_W) ++ ([(rq2, .inr (5, [pw0, pw1, pw2, pw3, pw4, pw5, iv ws, iv wt, .null]))] : va_W) ++ ([(la, loA (E.2 5) zf)] : va_W))) (va_A (([(cw, .inr (1, [.ref stA, .ref oaA, .ref osA, iv hsn, .ref hdA, .ref spA, .ref bfA, .ref lnA, .ref prA, iv ep, .ref rq]))] : va_W) ++ ([(rq, .inr (5, [pv0, pv1, pv2, pv3, pv4, pv5, iv wr, iv wd, .ref rq2]))] : va_W) ++ ([(rq2, .inr (5, [pw0, pw1, pw2, pw3, pw4, pw5, iv ws, iv wt, .null]))] : va_W) ++ ([(la, loA (E.2 5) zf)] : va_W)) sz)) (UXx E (fun (_ : String) (_ : Unit) => False) (fun _ : Unit => []) (fun _ : Unit => none) (va_A (([(cw, .inr (1, [.ref stA, .ref oaA, .ref osA, iv hsn, .ref hdA, .ref spA, .ref bfA, .ref lnA, .ref prA, iv ep, .ref rq]))] : va_W) ++ ([(rq, .inr (5, [pv0, pv1, pv2, pv3, pv4, pv5, iv wr, iv wd, .ref rq2]))] : va_W) ++ ([(rq2, .inr (5, [pw0, pw1, pw2, pw3, pw4, pw5, iv ws, iv wt, .null]))] : va_W) ++ ([(la, loA (E.2 5) zf)] : va_W)) sz)) 1 6 (va_A (([(cw, .inr (1, [.ref stA, .ref oaA, .ref osA, iv hsn, .ref hdA, .ref spA, .ref bfA, .ref lnA, .ref prA, iv ep, .ref rq]))] : va_W) ++ ([(rq, .inr (5, [pv0, pv1, pv2, pv3, pv4, pv5, iv wr, iv wd, .ref rq2]))] : va_W) ++ ([(rq2, .inr (5, [pw0, pw1, pw2, pw3, pw4, pw5, iv ws, iv wt, .null]))] : va_W) ++ ([(la, loA (E.2 5) zf)] : va_W)) sz) := by
  refine vx_ofWH (hh := [(0, 8, 11, 21)]) (cc := cX0_refusalReason) (maxL := 3) (ret := (some .int)) (by decide) rfl ?_
  intro p e s m args below meth c s₁ B hml hv
  obtain ⟨rfl, hsz, hP, hK, hD0, hE⟩ := hv
  have hx := B.exec
  have hb := B.bytes
  have hr := B.returns
  have hts := atoms_spec (ws := (wsW_ yX0_refusalReason cX0_refusalReason 3 (some .int) [(0, 8, 11, 21)])) B.pre
  have htab : c.exceptionTable.toList = tableOf [(0, 8, 11, 21)] := vx_table (x := yX0_refusalReason) B (hts _ List.mem_cons_self)
  have hts : ∀ w ∈ lw_all, w.before _ s = true := fun w h => hts w (List.mem_cons_of_mem _ h)
  have hown : s.vm.findClass RX0 = some m.cls := findClass_of_methodNamed B.named
  have hlocks := B.notSynchronized
  subst hsz
  have hD := hD0.self (sz := s.heap.size)
  generalize hAe : va_A (([(cw, .inr (1, [.ref stA, .ref oaA, .ref osA, iv hsn, .ref hdA, .ref spA, .ref bfA, .ref lnA, .ref prA, iv ep, .ref rq]))] : va_W) ++ ([(rq, .inr (5, [pv0, pv1, pv2, pv3, pv4, pv5, iv wr, iv wd, .ref rq2]))] : va_W) ++ ([(rq2, .inr (5, [pw0, pw1, pw2, pw3, pw4, pw5, iv ws, iv wt, .null]))] : va_W) ++ ([(la, loA (E.2 5) zf)] : va_W)) s.heap.size = A at hD hE ⊢
  have hA : ∀ q : Nat, s.heap.size ≤ q → A q := fun q h => by rw [← hAe]; exact Or.inr h
  have hS : va_S A s.heap s.heap [] := va_S.rf
  have hl := lv_entry ([.ref cw, .ref la]) (n := 3) (Nat.le_of_ble_eq_true rfl)
  rw [lg_entry_eq]
  generalize (lg_sl ([.ref cw, .ref la]) ++ List.replicate (3 - (lg_sl ([.ref cw, .ref la])).length) Slot.unset).toArray = ls at hl ⊢
  have hl : lv_has ls 3 [(0, .ref cw), (1, .ref la)] := hl
  refine lv_aload_n hx hb dX0_refusalReason_0 rfl (lv_at hl 1 rfl) ?_
  refine lv_iconst (v := iI 0) hx hb dX0_refusalReason_1 rfl ?_
  refine lv_aload_n hx hb dX0_refusalReason_2 rfl (lv_at hl 0 rfl) ?_
  have hg_1 : gpick [[(cw, .inr (1, [.ref stA, .ref oaA, .ref osA, iv hsn, .ref hdA, .ref spA, .ref bfA, .ref lnA, .ref prA, iv ep, .ref rq]))], [(rq, .inr (5, [pv0, pv1, pv2, pv3, pv4, pv5, iv wr, iv wd, .ref rq2]))], [(rq2, .inr (5, [pw0, pw1, pw2, pw3, pw4, pw5, iv ws, iv wt, .null]))], [(la, loA (E.2 5) zf)]] ([[(cw, .inr (1, [.ref stA, .ref oaA, .ref osA, iv hsn, .ref hdA, .ref spA, .ref bfA, .ref lnA, .ref prA, iv ep, .ref rq]))], [(rq, .inr (5, [pv0, pv1, pv2, pv3, pv4, pv5, iv wr, iv wd, .ref rq2]))], [(rq2, .inr (5, [pw0, pw1, pw2, pw3, pw4, pw5, iv ws, iv wt, .null]))]] ++ [[(la, loA (E.2 5) zf)]]) [0, 1, 2, 3] := ⟨rfl, (show List.Perm [0, 1, 2, 3] (List.range 4) from by decide)⟩
  have hg_1P : va_P E.1 CL (([(cw, .inr (1, [.ref stA, .ref oaA, .ref osA, iv hsn, .ref hdA, .ref spA, .ref bfA, .ref lnA, .ref prA, iv ep, .ref rq]))] : va_W) ++ ([(rq, .inr (5, [pv0, pv1, pv2, pv3, pv4, pv5, iv wr, iv wd, .ref rq2]))] : va_W) ++ ([(rq2, .inr (5, [pw0, pw1, pw2, pw3, pw4, pw5, iv ws, iv wt, .null]))] : va_W)) s.heap := (g_out hg_1 hP hD).1
  have hg_1D : va_D A (([(cw, .inr (1, [.ref stA, .ref oaA, .ref osA, iv hsn, .ref hdA, .ref spA, .ref bfA, .ref lnA, .ref prA, iv ep, .ref rq]))] : va_W) ++ ([(rq, .inr (5, [pv0, pv1, pv2, pv3, pv4, pv5, iv wr, iv wd, .ref rq2]))] : va_W) ++ ([(rq2, .inr (5, [pw0, pw1, pw2, pw3, pw4, pw5, iv ws, iv wt, .null]))] : va_W)) := (g_out hg_1 hP hD).2
  have hg_1F : ∀ q, va_A (([(cw, .inr (1, [.ref stA, .ref oaA, .ref osA, iv hsn, .ref hdA, .ref spA, .ref bfA, .ref lnA, .ref prA, iv ep, .ref rq]))] : va_W) ++ ([(rq, .inr (5, [pv0, pv1, pv2, pv3, pv4, pv5, iv wr, iv wd, .ref rq2]))] : va_W) ++ ([(rq2, .inr (5, [pw0, pw1, pw2, pw3, pw4, pw5, iv ws, iv wt, .null]))] : va_W)) s.heap.size q → A q := g_free hg_1 hP hD hS hA
  have hlt_2 := P_lts hP
  have hz_3 : s.heap.size ≤ s.heap.size := hS.1
  have hj_6 : ∀ u_4 : Unit, gpick ([[(cw, .inr (1, [.ref stA, .ref oaA, .ref osA, iv hsn, .ref hdA, .ref spA, .ref bfA, .ref lnA, .ref prA, iv ep, .ref rq]))], [(rq, .inr (5, [pv0, pv1, pv2, pv3, pv4, pv5, iv wr, iv wd, .ref rq2]))], [(rq2, .inr (5, [pw0, pw1, pw2, pw3, pw4, pw5, iv ws, iv wt, .null]))]] ++ [[(la, loA (E.2 5) zf)]]) [[(cw, .inr (1, [.ref stA, .ref oaA, .ref osA, iv hsn, .ref hdA, .ref spA, .ref bfA, .ref lnA, .ref prA, iv ep, .ref rq]))], [(rq, .inr (5, [pv0, pv1, pv2, pv3, pv4, pv5, iv wr, iv wd, .ref rq2]))], [(rq2, .inr (5, [pw0, pw1, pw2, pw3, pw4, pw5, iv ws, iv wt, .null]))], [(la, loA (E.2 5) zf)]] [0, 1, 2, 3] := fun u_4 => ⟨rfl, (show List.Perm [0, 1, 2, 3] (List.range 4) from by decide)⟩
  have hj_7 : ∀ u_5 : Unit, gpick ([[(cw, .inr (1, [.ref stA, .ref oaA, .ref osA, iv hsn, .ref hdA, .ref spA, .ref bfA, .ref lnA, .ref prA, iv ep, .ref rq]))], [(rq, .inr (5, [pv0, pv1, pv2, pv3, pv4, pv5, iv wr, iv wd, .ref rq2]))], [(rq2, .inr (5, [pw0, pw1, pw2, pw3, pw4, pw5, iv ws, iv wt, .null]))]] ++ [[(la, loA (E.2 5) zf)]]) [[(cw, .inr (1, [.ref stA, .ref oaA, .ref osA, iv hsn, .ref hdA, .ref spA, .ref bfA, .ref lnA, .ref prA, iv ep, .ref rq]))], [(rq, .inr (5, [pv0, pv1, pv2, pv3, pv4, pv5, iv wr, iv wd, .ref rq2]))], [(rq2, .inr (5, [pw0, pw1, pw2, pw3, pw4, pw5, iv ws, iv wt, .null]))], [(la, loA (E.2 5) zf)]] [0, 1, 2, 3] := fun u_5 => ⟨rfl, (show List.Perm [0, 1, 2, 3] (List.range 4) from by decide)⟩
  refine n_txB (x := fun u_4 => wr) (w2 := fun u_4 : Unit => ([(cw, .inr (1, [.ref stA, .ref oaA, .ref osA, iv hsn, .ref hdA, .ref spA, .ref bfA, .ref lnA, .ref prA, iv ep, .ref rq]))] : va_W) ++ ([(rq, .inr (5, [pv0, pv1, pv2, pv3, pv4, pv5, iv wr, iv wd, .ref rq2]))] : va_W) ++ ([(rq2, .inr (5, [pw0, pw1, pw2, pw3, pw4, pw5, iv ws, iv wt, .null]))] : va_W) ++ ([(la, loA (E.2 5) zf)] : va_W)) (w3 := fun u_5 : Unit => ([(cw, .inr (1, [.ref stA, .ref oaA, .ref osA, iv hsn, .ref hdA, .ref spA, .ref bfA, .ref lnA, .ref prA, iv ep, .ref rq]))] : va_W) ++ ([(rq, .inr (5, [pv0, pv1, pv2, pv3, pv4, pv5, iv wr, iv wd, .ref rq2]))] : va_W) ++ ([(rq2, .inr (5, [pw0, pw1, pw2, pw3, pw4, pw5, iv ws, iv wt, .null]))] : va_W) ++ ([(la, loA (E.2 5) zf)] : va_W)) (vx_runV (As := []) (rest := [iv 0, .ref la]) ⟨hx, hb, hml, hown, hts⟩ (mt_X1_refusalReason_c l E cw stA oaA osA hsn hdA spA bfA lnA prA ep rq pv0 pv1 pv2 pv3 pv4 pv5 wr wd rq2 pw0 pw1 pw2 pw3 pw4 pw5 ws wt  (by exact hst) (by assumption) (by omega) (by omega) _) (cwV 0 hts (lw_V q1381 q1382 q1383 q94 q1384) rfl rfl rfl (by decide +kernel) ⟨Nat.le_of_ble_eq_true rfl, Nat.le_of_ble_eq_true rfl⟩) (UX_V hg_1P hK (hg_1D) hE hS hg_1F (va_recv hK.1 hP (ci := 1) (q0 := 0) rfl rfl)) rfl rfl hl.1 rfl (lv_room (Nat.le_of_ble_eq_true rfl)) dX0_refusalReason_3 ⟨Nat.le_of_ble_eq_true rfl, Nat.le_of_ble_eq_true rfl⟩) hS hg_1F ?_ ?_ ?_ ?_
  · exact (fun u_4 _ hk9 hp9 hd9 => g_back hg_1 (hj_6 u_4) hP hD hg_1F hk9 hp9 hd9)
  · exact (fun u_5 _ hk9 hp9 hd9 => g_back hg_1 (hj_7 u_5) hP hD hg_1F hk9 hp9 hd9)
  · intro En ce q9 u_5 H locs hCx hP hD hS hxf hq9 hce hcv hcl
    have hCx : En = "java/util/NoSuchElementException" ∧ c_zero wr = 1 := hCx
    have hP : va_P E.1 CL (([(cw, .inr (1, [.ref stA, .ref oaA, .ref osA, iv hsn, .ref hdA, .ref spA, .ref bfA, .ref lnA, .ref prA, iv ep, .ref rq]))] : va_W) ++ ([(rq, .inr (5, [pv0, pv1, pv2, pv3, pv4, pv5, iv wr, iv wd, .ref rq2]))] : va_W) ++ ([(rq2, .inr (5, [pw0, pw1, pw2, pw3, pw4, pw5, iv ws, iv wt, .null]))] : va_W) ++ ([(la, loA (E.2 5) zf)] : va_W)) H := hP
    have hD : va_D A (([(cw, .inr (1, [.ref stA, .ref oaA, .ref osA, iv hsn, .ref hdA, .ref spA, .ref bfA, .ref lnA, .ref prA, iv ep, .ref rq]))] : va_W) ++ ([(rq, .inr (5, [pv0, pv1, pv2, pv3, pv4, pv5, iv wr, iv wd, .ref rq2]))] : va_W) ++ ([(rq2, .inr (5, [pw0, pw1, pw2, pw3, pw4, pw5, iv ws, iv wt, .null]))] : va_W) ++ ([(la, loA (E.2 5) zf)] : va_W)) := hD
    have hcx9 := hCx
    obtain ⟨hEn9, hk9⟩ := hCx
    subst hEn9
    refine vx_catch (own := "ClockworkTailorLaw") hown [] _ [] htab (fun z hz => by cases hz) (by decide) (by decide) (name := "java/util/NoSuchElementException") (hts _ q951) (hK.nw q976) hce hcv hcl ?_
    refine lv_astore_n (lv' := [(2, .ref q9), (0, .ref cw), (1, .ref la)]) hx hb dX0_refusalReason_11 rfl hl (by decide) rfl (fun ls hl => ?_)
    refine lv_iconst (v := iI 1) hx hb dX0_refusalReason_12 rfl ?_
    have hfin : 1 = c_zero wr := by
      first | exact hz9.symm | exact hk9.symm
    refine vx_ret ?_
    refine W.widen (k := 1) (n := 6) (Nat.le_of_ble_eq_true rfl) (Nat.le_of_ble_eq_true rfl) ?_
    exact W.iret (v := iI 1) hx hb hr (fun tt_ ht_ hW_ => ⟨⟨iI 1, .inr u_5, rfl, ⟨(show 0 < c_zero wr ∧ ∃ En : String, En = "java/util/NoSuchElementException" ∧ c_zero wr = 1 from ⟨(by omega), _, hcx9⟩), (congrArg iI hfin)⟩, by rw [ht_]; exact hP, hD⟩, hS.F ht_⟩) hS.2.2 dX0_refusalReason_13
  · intro u_4 H locs hC hP hD hS
    have hu_4 : c_zero wr = 0 := hC
    have hP : va_P E.1 CL (([(cw, .inr (1, [.ref stA, .ref oaA, .ref osA, iv hsn, .ref hdA, .ref spA, .ref bfA, .ref lnA, .ref prA, iv ep, .ref rq]))] : va_W) ++ ([(rq, .inr (5, [pv0, pv1, pv2, pv3, pv4, pv5, iv wr, iv wd, .ref rq2]))] : va_W) ++ ([(rq2, .inr (5, [pw0, pw1, pw2, pw3, pw4, pw5, iv ws, iv wt, .null]))] : va_W) ++ ([(la, loA (E.2 5) zf)] : va_W)) H := hP
    have hD : va_D A (([(cw, .inr (1, [.ref stA, .ref oaA, .ref osA, iv hsn, .ref hdA, .ref spA, .ref bfA, .ref lnA, .ref prA, iv ep, .ref rq]))] : va_W) ++ ([(rq, .inr (5, [pv0, pv1, pv2, pv3, pv4, pv5, iv wr, iv wd, .ref rq2]))] : va_W) ++ ([(rq2, .inr (5, [pw0, pw1, pw2, pw3, pw4, pw5, iv ws, iv wt, .null]))] : va_W) ++ ([(la, loA (E.2 5) zf)] : va_W)) := hD
    have hz9 : c_zero wr = 0 := hu_4
    refine lv_i2l (v := (iI wr).toInt64) hx hb dX0_refusalReason_6 rfl ?_
    refine n_last1 hx hb hK.1 hP hD hS 3 rfl dX0_refusalReason_7 (ws2 := ([(cw, .inr (1, [.ref stA, .ref oaA, .ref osA, iv hsn, .ref hdA, .ref spA, .ref bfA, .ref lnA, .ref prA, iv ep, .ref rq]))] : va_W) ++ ([(rq, .inr (5, [pv0, pv1, pv2, pv3, pv4, pv5, iv wr, iv wd, .ref rq2]))] : va_W) ++ ([(rq2, .inr (5, [pw0, pw1, pw2, pw3, pw4, pw5, iv ws, iv wt, .null]))] : va_W) ++ ([(la, loA (E.2 5) (vp_updL zf 0 ((iI wr).toInt64)))] : va_W)) rfl (fun H locs hP hD hS => ?_)
    have hP : va_P E.1 CL (([(cw, .inr (1, [.ref stA, .ref oaA, .ref osA, iv hsn, .ref hdA, .ref spA, .ref bfA, .ref lnA, .ref prA, iv ep, .ref rq]))] : va_W) ++ ([(rq, .inr (5, [pv0, pv1, pv2, pv3, pv4, pv5, iv wr, iv wd, .ref rq2]))] : va_W) ++ ([(rq2, .inr (5, [pw0, pw1, pw2, pw3, pw4, pw5, iv ws, iv wt, .null]))] : va_W) ++ ([(la, loA (E.2 5) (vp_updL zf 0 ((iI wr).toInt64)))] : va_W)) H := hP
    have hD : va_D A (([(cw, .inr (1, [.ref stA, .ref oaA, .ref osA, iv hsn, .ref hdA, .ref spA, .ref bfA, .ref lnA, .ref prA, iv ep, .ref rq]))] : va_W) ++ ([(rq, .inr (5, [pv0, pv1, pv2, pv3, pv4, pv5, iv wr, iv wd, .ref rq2]))] : va_W) ++ ([(rq2, .inr (5, [pw0, pw1, pw2, pw3, pw4, pw5, iv ws, iv wt, .null]))] : va_W) ++ ([(la, loA (E.2 5) (vp_updL zf 0 ((iI wr).toInt64)))] : va_W)) := hD
    refine lv_goto (tgt := 14) hx hb dX0_refusalReason_8 (by decide) ?_
    refine lv_iconst (v := iI 0) hx hb dX0_refusalReason_14 rfl ?_
    have hfin : 0 = c_zero wr := by
      first | exact hz9.symm | exact hk9.symm
    refine vx_ret ?_
    refine W.widen (k := 1) (n := 6) (Nat.le_of_ble_eq_true rfl) (Nat.le_of_ble_eq_true rfl) ?_
    exact W.iret (v := iI 0) hx hb hr (fun tt_ ht_ hW_ => ⟨⟨iI 0, .inl (u_4, (vp_updL zf 0 ((iI wr).toInt64))), rfl, ⟨(show (c_zero wr = 0) ∧ c_zero wr = 0 ∧ (u_4, (vp_updL zf 0 ((iI wr).toInt64))).2 0 = (iI wr).toInt64 from ⟨hu_4, hz9, rfl⟩), (congrArg iI hfin)⟩, by rw [ht_]; exact hP, hD⟩, hS.F ht_⟩) hS.2.2 dX0_refusalReason_15
set_option maxHeartbeats 2000000 in
set_option maxRecDepth 100000 in
theorem mt_X0_refusalDetail_a (l : Launch) (E : EE) (cw : Nat) (stA : Nat) (oaA : Nat) (osA : Nat) (hsn : Int) (hdA : Nat) (spA : Nat) (bfA : Nat) (lnA : Nat) (prA : Nat) (ep : Int) (la : Nat) (zf : Nat → Int64) (hst : l.stackTraces = false) (sz : Nat) : vx_Met l yX0_refusalDetail (wsW_ yX0_refusalDetail cX0_refusalDetail 3 (some .int) [(0, 8, 11, 21)]) { frames := 10, cells := 1, slots := 6, locals := 220 } (va_Pc [.ref cw, .ref la] (UX E (([(cw, .inr (1, [.ref stA, .ref oaA, .ref osA, iv hsn, .ref hdA, .ref spA, .ref bfA, .ref lnA, .ref prA, iv ep, .null]))] : va_W) ++ ([(la, loA (E.2 5) zf)] : va_W)) sz)) (UQx E (Sum.elim (fun u : (Unit) × (Nat → Int64) => (c_zero (0 : Int) = 0) ∧ c_zero (0 : Int) = 0 ∧ u.2 0 = (iI (0 : Int)).toInt64) (fun u : Unit => 0 < c_zero (0 : Int) ∧ ∃ En : String, En = "java/util/NoSuchElementException" ∧ c_zero (0 : Int) = 1)) (fun _ => c_zero (0 : Int)) (Sum.elim (fun u : (Unit) × (Nat → Int64) => ([(cw, .inr (1, [.ref stA, .ref oaA, .ref osA, iv hsn, .ref hdA, .ref spA, .ref bfA, .ref lnA, .ref prA, iv ep, .null]))] : va_W) ++ ([(la, loA (E.2 5) u.2)] : va_W)) (fun u : Unit => ([(cw, .inr (1, [.ref stA, .ref oaA, .ref osA, iv hsn, .ref hdA, .ref spA, .ref bfA, .ref lnA, .ref prA, iv ep, .null]))] : va_W) ++ ([(la, loA (E.2 5) zf)] : va_W))) (va_A (([(cw, .inr (1, [.ref stA, .ref oaA, .ref osA, iv hsn, .ref hdA, .ref spA, .ref bfA, .ref lnA, .ref prA, iv ep, .null]))] : va_W) ++ ([(la, loA (E.2 5) zf)] : va_W)) sz)) (UXx E (fun (_ : String) (_ : Unit) => False) (fun _ : Unit => []) (fun _ : Unit => none) (va_A (([(cw, .inr (1, [.ref stA, .ref oaA, .ref osA, iv hsn, .ref hdA, .ref spA, .ref bfA, .ref lnA, .ref prA, iv ep, .null]))] : va_W) ++ ([(la, loA (E.2 5) zf)] : va_W)) sz)) 1 6 (va_A (([(cw, .inr (1, [.ref stA, .ref oaA, .ref osA, iv hsn, .ref hdA, .ref spA, .ref bfA, .ref lnA, .ref prA, iv ep, .null]))] : va_W) ++ ([(la, loA (E.2 5) zf)] : va_W)) sz) := by
  refine vx_ofWH (hh := [(0, 8, 11, 21)]) (cc := cX0_refusalDetail) (maxL := 3) (ret := (some .int)) (by decide) rfl ?_
  intro p e s m args below meth c s₁ B hml hv
  obtain ⟨rfl, hsz, hP, hK, hD0, hE⟩ := hv
  have hx := B.exec
  have hb := B.bytes
  have hr := B.returns
  have hts := atoms_spec (ws := (wsW_ yX0_refusalDetail cX0_refusalDetail 3 (some .int) [(0, 8, 11, 21)])) B.pre
  have htab : c.exceptionTable.toList = tableOf [(0, 8, 11, 21)] := vx_table (x := yX0_refusalDetail) B (hts _ List.mem_cons_self)
  have hts : ∀ w ∈ lw_all, w.before _ s = true := fun w h => hts w (List.mem_cons_of_mem _ h)
  have hown : s.vm.findClass RX0 = some m.cls := findClass_of_methodNamed B.named
  have hlocks := B.notSynchronized
  subst hsz
  have hD := hD0.self (sz := s.heap.size)
  generalize hAe : va_A (([(cw, .inr (1, [.ref stA, .ref oaA, .ref osA, iv hsn, .ref hdA, .ref spA, .ref bfA, .ref lnA, .ref prA, iv ep, .null]))] : va_W) ++ ([(la, loA (E.2 5) zf)] : va_W)) s.heap.size = A at hD hE ⊢
  have hA : ∀ q : Nat, s.heap.size ≤ q → A q := fun q h => by rw [← hAe]; exact Or.inr h
  have hS : va_S A s.heap s.heap [] := va_S.rf
  have hl := lv_entry ([.ref cw, .ref la]) (n := 3) (Nat.le_of_ble_eq_true rfl)
  rw [lg_entry_eq]
  generalize (lg_sl ([.ref cw, .ref la]) ++ List.replicate (3 - (lg_sl ([.ref cw, .ref la])).length) Slot.unset).toArray = ls at hl ⊢
  have hl : lv_has ls 3 [(0, .ref cw), (1, .ref la)] := hl
  refine lv_aload_n hx hb dX0_refusalDetail_0 rfl (lv_at hl 1 rfl) ?_
  refine lv_iconst (v := iI 0) hx hb dX0_refusalDetail_1 rfl ?_
  refine lv_aload_n hx hb dX0_refusalDetail_2 rfl (lv_at hl 0 rfl) ?_
  have hg_1 : gpick [[(cw, .inr (1, [.ref stA, .ref oaA, .ref osA, iv hsn, .ref hdA, .ref spA, .ref bfA, .ref lnA, .ref prA, iv ep, .null]))], [(la, loA (E.2 5) zf)]] ([[(cw, .inr (1, [.ref stA, .ref oaA, .ref osA, iv hsn, .ref hdA, .ref spA, .ref bfA, .ref lnA, .ref prA, iv ep, .null]))]] ++ [[(la, loA (E.2 5) zf)]]) [0, 1] := ⟨rfl, (show List.Perm [0, 1] (List.range 2) from by decide)⟩
  have hg_1P : va_P E.1 CL ([(cw, .inr (1, [.ref stA, .ref oaA, .ref osA, iv hsn, .ref hdA, .ref spA, .ref bfA, .ref lnA, .ref prA, iv ep, .null]))]) s.heap := (g_out hg_1 hP hD).1
  have hg_1D : va_D A ([(cw, .inr (1, [.ref stA, .ref oaA, .ref osA, iv hsn, .ref hdA, .ref spA, .ref bfA, .ref lnA, .ref prA, iv ep, .null]))]) := (g_out hg_1 hP hD).2
  have hg_1F : ∀ q, va_A ([(cw, .inr (1, [.ref stA, .ref oaA, .ref osA, iv hsn, .ref hdA, .ref spA, .ref bfA, .ref lnA, .ref prA, iv ep, .null]))]) s.heap.size q → A q := g_free hg_1 hP hD hS hA
  have hlt_2 := P_lts hP
  have hz_3 : s.heap.size ≤ s.heap.size := hS.1
  have hj_6 : ∀ u_4 : Unit, gpick ([[(cw, .inr (1, [.ref stA, .ref oaA, .ref osA, iv hsn, .ref hdA, .ref spA, .ref bfA, .ref lnA, .ref prA, iv ep, .null]))]] ++ [[(la, loA (E.2 5) zf)]]) [[(cw, .inr (1, [.ref stA, .ref oaA, .ref osA, iv hsn, .ref hdA, .ref spA, .ref bfA, .ref lnA, .ref prA, iv ep, .null]))], [(la, loA (E.2 5) zf)]] [0, 1] := fun u_4 => ⟨rfl, (show List.Perm [0, 1] (List.range 2) from by decide)⟩
  have hj_7 : ∀ u_5 : Unit, gpick ([[(cw, .inr (1, [.ref stA, .ref oaA, .ref osA, iv hsn, .ref hdA, .ref spA, .ref bfA, .ref lnA, .ref prA, iv ep, .null]))]] ++ [[(la, loA (E.2 5) zf)]]) [[(cw, .inr (1, [.ref stA, .ref oaA, .ref osA, iv hsn, .ref hdA, .ref spA, .ref bfA, .ref lnA, .ref prA, iv ep, .null]))], [(la, loA (E.2 5) zf)]] [0, 1] := fun u_5 => ⟨rfl, (show List.Perm [0, 1] (List.range 2) from by decide)⟩
  refine n_txB (x := fun u_4 => (0 : Int)) (w2 := fun u_4 : Unit => ([(cw, .inr (1, [.ref stA, .ref oaA, .ref osA, iv hsn, .ref hdA, .ref spA, .ref bfA, .ref lnA, .ref prA, iv ep, .null]))] : va_W) ++ ([(la, loA (E.2 5) zf)] : va_W)) (w3 := fun u_5 : Unit => ([(cw, .inr (1, [.ref stA, .ref oaA, .ref osA, iv hsn, .ref hdA, .ref spA, .ref bfA, .ref lnA, .ref prA, iv ep, .null]))] : va_W) ++ ([(la, loA (E.2 5) zf)] : va_W)) (vx_runV (As := []) (rest := [iv 0, .ref la]) ⟨hx, hb, hml, hown, hts⟩ (mt_X1_refusalDetail_a l E cw stA oaA osA hsn hdA spA bfA lnA prA ep  (by exact hst) _) (cwV 0 hts (lw_V q1392 q1393 q1394 q94 q1395) rfl rfl rfl (by decide +kernel) ⟨Nat.le_of_ble_eq_true rfl, Nat.le_of_ble_eq_true rfl⟩) (UX_V hg_1P hK (hg_1D) hE hS hg_1F (va_recv hK.1 hP (ci := 1) (q0 := 0) rfl rfl)) rfl rfl hl.1 rfl (lv_room (Nat.le_of_ble_eq_true rfl)) dX0_refusalDetail_3 ⟨Nat.le_of_ble_eq_true rfl, Nat.le_of_ble_eq_true rfl⟩) hS hg_1F ?_ ?_ ?_ ?_
  · exact (fun u_4 _ hk9 hp9 hd9 => g_back hg_1 (hj_6 u_4) hP hD hg_1F hk9 hp9 hd9)
  · exact (fun u_5 _ hk9 hp9 hd9 => g_back hg_1 (hj_7 u_5) hP hD hg_1F hk9 hp9 hd9)
  · intro En ce q9 u_5 H locs hCx hP hD hS hxf hq9 hce hcv hcl
    have hCx : En = "java/util/NoSuchElementException" ∧ c_zero (0 : Int) = 1 := hCx
    have hP : va_P E.1 CL (([(cw, .inr (1, [.ref stA, .ref oaA, .ref osA, iv hsn, .ref hdA, .ref spA, .ref bfA, .ref lnA, .ref prA, iv ep, .null]))] : va_W) ++ ([(la, loA (E.2 5) zf)] : va_W)) H := hP
    have hD : va_D A (([(cw, .inr (1, [.ref stA, .ref oaA, .ref osA, iv hsn, .ref hdA, .ref spA, .ref bfA, .ref lnA, .ref prA, iv ep, .null]))] : va_W) ++ ([(la, loA (E.2 5) zf)] : va_W)) := hD
    have hcx9 := hCx
    obtain ⟨hEn9, hk9⟩ := hCx
    subst hEn9
    refine vx_catch (own := "ClockworkTailorLaw") hown [] _ [] htab (fun z hz => by cases hz) (by decide) (by decide) (name := "java/util/NoSuchElementException") (hts _ q951) (hK.nw q976) hce hcv hcl ?_
    refine lv_astore_n (lv' := [(2, .ref q9), (0, .ref cw), (1, .ref la)]) hx hb dX0_refusalDetail_11 rfl hl (by decide) rfl (fun ls hl => ?_)
    refine lv_iconst (v := iI 1) hx hb dX0_refusalDetail_12 rfl ?_
    have hfin : 1 = c_zero (0 : Int) := by
      first | exact hz9.symm | exact hk9.symm
    refine vx_ret ?_
    refine W.widen (k := 1) (n := 6) (Nat.le_of_ble_eq_true rfl) (Nat.le_of_ble_eq_true rfl) ?_
    exact W.iret (v := iI 1) hx hb hr (fun tt_ ht_ hW_ => ⟨⟨iI 1, .inr u_5, rfl, ⟨(show 0 < c_zero (0 : Int) ∧ ∃ En : String, En = "java/util/NoSuchElementException" ∧ c_zero (0 : Int) = 1 from ⟨(by omega), _, hcx9⟩), (congrArg iI hfin)⟩, by rw [ht_]; exact hP, hD⟩, hS.F ht_⟩) hS.2.2 dX0_refusalDetail_13
  · intro u_4 H locs hC hP hD hS
    have hu_4 : c_zero (0 : Int) = 0 := hC
    have hP : va_P E.1 CL (([(cw, .inr (1, [.ref stA, .ref oaA, .ref osA, iv hsn, .ref hdA, .ref spA, .ref bfA, .ref lnA, .ref prA, iv ep, .null]))] : va_W) ++ ([(la, loA (E.2 5) zf)] : va_W)) H := hP
    have hD : va_D A (([(cw, .inr (1, [.ref stA, .ref oaA, .ref osA, iv hsn, .ref hdA, .ref spA, .ref bfA, .ref lnA, .ref prA, iv ep, .null]))] : va_W) ++ ([(la, loA (E.2 5) zf)] : va_W)) := hD
    have hz9 : c_zero (0 : Int) = 0 := hu_4
    refine lv_i2l (v := (iI (0 : Int)).toInt64) hx hb dX0_refusalDetail_6 rfl ?_
    refine n_last1 hx hb hK.1 hP hD hS 1 rfl dX0_refusalDetail_7 (ws2 := ([(cw, .inr (1, [.ref stA, .ref oaA, .ref osA, iv hsn, .ref hdA, .ref spA, .ref bfA, .ref lnA, .ref prA, iv ep, .null]))] : va_W) ++ ([(la, loA (E.2 5) (vp_updL zf 0 ((iI (0 : Int)).toInt64)))] : va_W)) rfl (fun H locs hP hD hS => ?_)
    have hP : va_P E.1 CL (([(cw, .inr (1, [.ref stA, .ref oaA, .ref osA, iv hsn, .ref hdA, .ref spA, .ref bfA, .ref lnA, .ref prA, iv ep, .null]))] : va_W) ++ ([(la, loA (E.2 5) (vp_updL zf 0 ((iI (0 : Int)).toInt64)))] : va_W)) H := hP
    have hD : va_D A (([(cw, .inr (1, [.ref stA, .ref oaA, .ref osA, iv hsn, .ref hdA, .ref spA, .ref bfA, .ref lnA, .ref prA, iv ep, .null]))] : va_W) ++ ([(la, loA (E.2 5) (vp_updL zf 0 ((iI (0 : Int)).toInt64)))] : va_W)) := hD
    refine lv_goto (tgt := 14) hx hb dX0_refusalDetail_8 (by decide) ?_
    refine lv_iconst (v := iI 0) hx hb dX0_refusalDetail_14 rfl ?_
    have hfin : 0 = c_zero (0 : Int) := by
      first | exact hz9.symm | exact hk9.symm
    refine vx_ret ?_
    refine W.widen (k := 1) (n := 6) (Nat.le_of_ble_eq_true rfl) (Nat.le_of_ble_eq_true rfl) ?_
    exact W.iret (v := iI 0) hx hb hr (fun tt_ ht_ hW_ => ⟨⟨iI 0, .inl (u_4, (vp_updL zf 0 ((iI (0 : Int)).toInt64))), rfl, ⟨(show (c_zero (0 : Int) = 0) ∧ c_zero (0 : Int) = 0 ∧ (u_4, (vp_updL zf 0 ((iI (0 : Int)).toInt64))).2 0 = (iI (0 : Int)).toInt64 from ⟨hu_4, hz9, rfl⟩), (congrArg iI hfin)⟩, by rw [ht_]; exact hP, hD⟩, hS.F ht_⟩) hS.2.2 dX0_refusalDetail_15
set_option maxHeartbeats 2000000 in
set_option maxRecDepth 100000 in
theorem mt_X0_refusalDetail_b (l : Launch) (E : EE) (cw : Nat) (stA : Nat) (oaA : Nat) (osA : Nat) (hsn : Int) (hdA : Nat) (spA : Nat) (bfA : Nat) (lnA : Nat) (prA : Nat) (ep : Int) (rq : Nat) (pv0 : Value) (pv1 : Value) (pv2 : Value) (pv3 : Value) (pv4 : Value) (pv5 : Value) (wr : Int) (wd : Int) (la : Nat) (zf : Nat → Int64) (hst : l.stackTraces = false) (hwr : 0 < wr ∧ wr < 100) (hwd : -2147483648 ≤ wd ∧ wd < 2147483648) (sz : Nat) : vx_Met l yX0_refusalDetail (wsW_ yX0_refusalDetail cX0_refusalDetail 3 (some .int) [(0, 8, 11, 21)]) { frames := 10, cells := 1, slots := 6, locals := 220 } (va_Pc [.ref cw, .ref la] (UX E (([(cw, .inr (1, [.ref stA, .ref oaA, .ref osA, iv hsn, .ref hdA, .ref spA, .ref bfA, .ref lnA, .ref prA, iv ep, .ref rq]))] : va_W) ++ ([(rq, .inr (5, [pv0, pv1, pv2, pv3, pv4, pv5, iv wr, iv wd, .null]))] : va_W) ++ ([(la, loA (E.2 5) zf)] : va_W)) sz)) (UQx E (Sum.elim (fun u : (Unit) × (Nat → Int64) => (c_zero wr = 0) ∧ c_zero wr = 0 ∧ u.2 0 = (iI wd).toInt64) (fun u : Unit => 0 < c_zero wr ∧ ∃ En : String, En = "java/util/NoSuchElementException" ∧ c_zero wr = 1)) (fun _ => c_zero wr) (Sum.elim (fun u : (Unit) × (Nat → Int64) => ([(cw, .inr (1, [.ref stA, .ref oaA, .ref osA, iv hsn, .ref hdA, .ref spA, .ref bfA, .ref lnA, .ref prA, iv ep, .ref rq]))] : va_W) ++ ([(rq, .inr (5, [pv0, pv1, pv2, pv3, pv4, pv5, iv wr, iv wd, .null]))] : va_W) ++ ([(la, loA (E.2 5) u.2)] : va_W)) (fun u : Unit => ([(cw, .inr (1, [.ref stA, .ref oaA, .ref osA, iv hsn, .ref hdA, .ref spA, .ref bfA, .ref lnA, .ref prA, iv ep, .ref rq]))] : va_W) ++ ([(rq, .inr (5, [pv0, pv1, pv2, pv3, pv4, pv5, iv wr, iv wd, .null]))] : va_W) ++ ([(la, loA (E.2 5) zf)] : va_W))) (va_A (([(cw, .inr (1, [.ref stA, .ref oaA, .ref osA, iv hsn, .ref hdA, .ref spA, .ref bfA, .ref lnA, .ref prA, iv ep, .ref rq]))] : va_W) ++ ([(rq, .inr (5, [pv0, pv1, pv2, pv3, pv4, pv5, iv wr, iv wd, .null]))] : va_W) ++ ([(la, loA (E.2 5) zf)] : va_W)) sz)) (UXx E (fun (_ : String) (_ : Unit) => False) (fun _ : Unit => []) (fun _ : Unit => none) (va_A (([(cw, .inr (1, [.ref stA, .ref oaA, .ref osA, iv hsn, .ref hdA, .ref spA, .ref bfA, .ref lnA, .ref prA, iv ep, .ref rq]))] : va_W) ++ ([(rq, .inr (5, [pv0, pv1, pv2, pv3, pv4, pv5, iv wr, iv wd, .null]))] : va_W) ++ ([(la, loA (E.2 5) zf)] : va_W)) sz)) 1 6 (va_A (([(cw, .inr (1, [.ref stA, .ref oaA, .ref osA, iv hsn, .ref hdA, .ref spA, .ref bfA, .ref lnA, .ref prA, iv ep, .ref rq]))] : va_W) ++ ([(rq, .inr (5, [pv0, pv1, pv2, pv3, pv4, pv5, iv wr, iv wd, .null]))] : va_W) ++ ([(la, loA (E.2 5) zf)] : va_W)) sz) := by
  refine vx_ofWH (hh := [(0, 8, 11, 21)]) (cc := cX0_refusalDetail) (maxL := 3) (ret := (some .int)) (by decide) rfl ?_
  intro p e s m args below meth c s₁ B hml hv
  obtain ⟨rfl, hsz, hP, hK, hD0, hE⟩ := hv
  have hx := B.exec
  have hb := B.bytes
  have hr := B.returns
  have hts := atoms_spec (ws := (wsW_ yX0_refusalDetail cX0_refusalDetail 3 (some .int) [(0, 8, 11, 21)])) B.pre
  have htab : c.exceptionTable.toList = tableOf [(0, 8, 11, 21)] := vx_table (x := yX0_refusalDetail) B (hts _ List.mem_cons_self)
  have hts : ∀ w ∈ lw_all, w.before _ s = true := fun w h => hts w (List.mem_cons_of_mem _ h)
  have hown : s.vm.findClass RX0 = some m.cls := findClass_of_methodNamed B.named
  have hlocks := B.notSynchronized
  subst hsz
  have hD := hD0.self (sz := s.heap.size)
  generalize hAe : va_A (([(cw, .inr (1, [.ref stA, .ref oaA, .ref osA, iv hsn, .ref hdA, .ref spA, .ref bfA, .ref lnA, .ref prA, iv ep, .ref rq]))] : va_W) ++ ([(rq, .inr (5, [pv0, pv1, pv2, pv3, pv4, pv5, iv wr, iv wd, .null]))] : va_W) ++ ([(la, loA (E.2 5) zf)] : va_W)) s.heap.size = A at hD hE ⊢
  have hA : ∀ q : Nat, s.heap.size ≤ q → A q := fun q h => by rw [← hAe]; exact Or.inr h
  have hS : va_S A s.heap s.heap [] := va_S.rf
  have hl := lv_entry ([.ref cw, .ref la]) (n := 3) (Nat.le_of_ble_eq_true rfl)
  rw [lg_entry_eq]
  generalize (lg_sl ([.ref cw, .ref la]) ++ List.replicate (3 - (lg_sl ([.ref cw, .ref la])).length) Slot.unset).toArray = ls at hl ⊢
  have hl : lv_has ls 3 [(0, .ref cw), (1, .ref la)] := hl
  refine lv_aload_n hx hb dX0_refusalDetail_0 rfl (lv_at hl 1 rfl) ?_
  refine lv_iconst (v := iI 0) hx hb dX0_refusalDetail_1 rfl ?_
  refine lv_aload_n hx hb dX0_refusalDetail_2 rfl (lv_at hl 0 rfl) ?_
  have hg_1 : gpick [[(cw, .inr (1, [.ref stA, .ref oaA, .ref osA, iv hsn, .ref hdA, .ref spA, .ref bfA, .ref lnA, .ref prA, iv ep, .ref rq]))], [(rq, .inr (5, [pv0, pv1, pv2, pv3, pv4, pv5, iv wr, iv wd, .null]))], [(la, loA (E.2 5) zf)]] ([[(cw, .inr (1, [.ref stA, .ref oaA, .ref osA, iv hsn, .ref hdA, .ref spA, .ref bfA, .ref lnA, .ref prA, iv ep, .ref rq]))], [(rq, .inr (5, [pv0, pv1, pv2, pv3, pv4, pv5, iv wr, iv wd, .null]))]] ++ [[(la, loA (E.2 5) zf)]]) [0, 1, 2] := ⟨rfl, (show List.Perm [0, 1, 2] (List.range 3) from by decide)⟩
  have hg_1P : va_P E.1 CL (([(cw, .inr (1, [.ref stA, .ref oaA, .ref osA, iv hsn, .ref hdA, .ref spA, .ref bfA, .ref lnA, .ref prA, iv ep, .ref rq]))] : va_W) ++ ([(rq, .inr (5, [pv0, pv1, pv2, pv3, pv4, pv5, iv wr, iv wd, .null]))] : va_W)) s.heap := (g_out hg_1 hP hD).1
  have hg_1D : va_D A (([(cw, .inr (1, [.ref stA, .ref oaA, .ref osA, iv hsn, .ref hdA, .ref spA, .ref bfA, .ref lnA, .ref prA, iv ep, .ref rq]))] : va_W) ++ ([(rq, .inr (5, [pv0, pv1, pv2, pv3, pv4, pv5, iv wr, iv wd, .null]))] : va_W)) := (g_out hg_1 hP hD).2
  have hg_1F : ∀ q, va_A (([(cw, .inr (1, [.ref stA, .ref oaA, .ref osA, iv hsn, .ref hdA, .ref spA, .ref bfA, .ref lnA, .ref prA, iv ep, .ref rq]))] : va_W) ++ ([(rq, .inr (5, [pv0, pv1, pv2, pv3, pv4, pv5, iv wr, iv wd, .null]))] : va_W)) s.heap.size q → A q := g_free hg_1 hP hD hS hA
  have hlt_2 := P_lts hP
  have hz_3 : s.heap.size ≤ s.heap.size := hS.1
  have hj_6 : ∀ u_4 : Unit, gpick ([[(cw, .inr (1, [.ref stA, .ref oaA, .ref osA, iv hsn, .ref hdA, .ref spA, .ref bfA, .ref lnA, .ref prA, iv ep, .ref rq]))], [(rq, .inr (5, [pv0, pv1, pv2, pv3, pv4, pv5, iv wr, iv wd, .null]))]] ++ [[(la, loA (E.2 5) zf)]]) [[(cw, .inr (1, [.ref stA, .ref oaA, .ref osA, iv hsn, .ref hdA, .ref spA, .ref bfA, .ref lnA, .ref prA, iv ep, .ref rq]))], [(rq, .inr (5, [pv0, pv1, pv2, pv3, pv4, pv5, iv wr, iv wd, .null]))], [(la, loA (E.2 5) zf)]] [0, 1, 2] := fun u_4 => ⟨rfl, (show List.Perm [0, 1, 2] (List.range 3) from by decide)⟩
  have hj_7 : ∀ u_5 : Unit, gpick ([[(cw, .inr (1, [.ref stA, .ref oaA, .ref osA, iv hsn, .ref hdA, .ref spA, .ref bfA, .ref lnA, .ref prA, iv ep, .ref rq]))], [(rq, .inr (5, [pv0, pv1, pv2, pv3, pv4, pv5, iv wr, iv wd, .null]))]] ++ [[(la, loA (E.2 5) zf)]]) [[(cw, .inr (1, [.ref stA, .ref oaA, .ref osA, iv hsn, .ref hdA, .ref spA, .ref bfA, .ref lnA, .ref prA, iv ep, .ref rq]))], [(rq, .inr (5, [pv0, pv1, pv2, pv3, pv4, pv5, iv wr, iv wd, .null]))], [(la, loA (E.2 5) zf)]] [0, 1, 2] := fun u_5 => ⟨rfl, (show List.Perm [0, 1, 2] (List.range 3) from by decide)⟩
  refine n_txB (x := fun u_4 => wd) (w2 := fun u_4 : Unit => ([(cw, .inr (1, [.ref stA, .ref oaA, .ref osA, iv hsn, .ref hdA, .ref spA, .ref bfA, .ref lnA, .ref prA, iv ep, .ref rq]))] : va_W) ++ ([(rq, .inr (5, [pv0, pv1, pv2, pv3, pv4, pv5, iv wr, iv wd, .null]))] : va_W) ++ ([(la, loA (E.2 5) zf)] : va_W)) (w3 := fun u_5 : Unit => ([(cw, .inr (1, [.ref stA, .ref oaA, .ref osA, iv hsn, .ref hdA, .ref spA, .ref bfA, .ref lnA, .ref prA, iv ep, .ref rq]))] : va_W) ++ ([(rq, .inr (5, [pv0, pv1, pv2, pv3, pv4, pv5, iv wr, iv wd, .null]))] : va_W) ++ ([(la, loA (E.2 5) zf)] : va_W)) (vx_runV (As := []) (rest := [iv 0, .ref la]) ⟨hx, hb, hml, hown, hts⟩ (mt_X1_refusalDetail_b l E cw stA oaA osA hsn hdA spA bfA lnA prA ep rq pv0 pv1 pv2 pv3 pv4 pv5 wr wd  (by exact hst) (by assumption) (by omega) _) (cwV 0 hts (lw_V q1392 q1393 q1394 q94 q1395) rfl rfl rfl (by decide +kernel) ⟨Nat.le_of_ble_eq_true rfl, Nat.le_of_ble_eq_true rfl⟩) (UX_V hg_1P hK (hg_1D) hE hS hg_1F (va_recv hK.1 hP (ci := 1) (q0 := 0) rfl rfl)) rfl rfl hl.1 rfl (lv_room (Nat.le_of_ble_eq_true rfl)) dX0_refusalDetail_3 ⟨Nat.le_of_ble_eq_true rfl, Nat.le_of_ble_eq_true rfl⟩) hS hg_1F ?_ ?_ ?_ ?_
  · exact (fun u_4 _ hk9 hp9 hd9 => g_back hg_1 (hj_6 u_4) hP hD hg_1F hk9 hp9 hd9)
  · exact (fun u_5 _ hk9 hp9 hd9 => g_back hg_1 (hj_7 u_5) hP hD hg_1F hk9 hp9 hd9)
  · intro En ce q9 u_5 H locs hCx hP hD hS hxf hq9 hce hcv hcl
    have hCx : En = "java/util/NoSuchElementException" ∧ c_zero wr = 1 := hCx
    have hP : va_P E.1 CL (([(cw, .inr (1, [.ref stA, .ref oaA, .ref osA, iv hsn, .ref hdA, .ref spA, .ref bfA, .ref lnA, .ref prA, iv ep, .ref rq]))] : va_W) ++ ([(rq, .inr (5, [pv0, pv1, pv2, pv3, pv4, pv5, iv wr, iv wd, .null]))] : va_W) ++ ([(la, loA (E.2 5) zf)] : va_W)) H := hP
    have hD : va_D A (([(cw, .inr (1, [.ref stA, .ref oaA, .ref osA, iv hsn, .ref hdA, .ref spA, .ref bfA, .ref lnA, .ref prA, iv ep, .ref rq]))] : va_W) ++ ([(rq, .inr (5, [pv0, pv1, pv2, pv3, pv4, pv5, iv wr, iv wd, .null]))] : va_W) ++ ([(la, loA (E.2 5) zf)] : va_W)) := hD
    have hcx9 := hCx
    obtain ⟨hEn9, hk9⟩ := hCx
    subst hEn9
    refine vx_catch (own := "ClockworkTailorLaw") hown [] _ [] htab (fun z hz => by cases hz) (by decide) (by decide) (name := "java/util/NoSuchElementException") (hts _ q951) (hK.nw q976) hce hcv hcl ?_
    refine lv_astore_n (lv' := [(2, .ref q9), (0, .ref cw), (1, .ref la)]) hx hb dX0_refusalDetail_11 rfl hl (by decide) rfl (fun ls hl => ?_)
    refine lv_iconst (v := iI 1) hx hb dX0_refusalDetail_12 rfl ?_
    have hfin : 1 = c_zero wr := by
      first | exact hz9.symm | exact hk9.symm
    refine vx_ret ?_
    refine W.widen (k := 1) (n := 6) (Nat.le_of_ble_eq_true rfl) (Nat.le_of_ble_eq_true rfl) ?_
    exact W.iret (v := iI 1) hx hb hr (fun tt_ ht_ hW_ => ⟨⟨iI 1, .inr u_5, rfl, ⟨(show 0 < c_zero wr ∧ ∃ En : String, En = "java/util/NoSuchElementException" ∧ c_zero wr = 1 from ⟨(by omega), _, hcx9⟩), (congrArg iI hfin)⟩, by rw [ht_]; exact hP, hD⟩, hS.F ht_⟩) hS.2.2 dX0_refusalDetail_13
  · intro u_4 H locs hC hP hD hS
    have hu_4 : c_zero wr = 0 := hC
    have hP : va_P E.1 CL (([(cw, .inr (1, [.ref stA, .ref oaA, .ref osA, iv hsn, .ref hdA, .ref spA, .ref bfA, .ref lnA, .ref prA, iv ep, .ref rq]))] : va_W) ++ ([(rq, .inr (5, [pv0, pv1, pv2, pv3, pv4, pv5, iv wr, iv wd, .null]))] : va_W) ++ ([(la, loA (E.2 5) zf)] : va_W)) H := hP
    have hD : va_D A (([(cw, .inr (1, [.ref stA, .ref oaA, .ref osA, iv hsn, .ref hdA, .ref spA, .ref bfA, .ref lnA, .ref prA, iv ep, .ref rq]))] : va_W) ++ ([(rq, .inr (5, [pv0, pv1, pv2, pv3, pv4, pv5, iv wr, iv wd, .null]))] : va_W) ++ ([(la, loA (E.2 5) zf)] : va_W)) := hD
    have hz9 : c_zero wr = 0 := hu_4
    refine lv_i2l (v := (iI wd).toInt64) hx hb dX0_refusalDetail_6 rfl ?_
    refine n_last1 hx hb hK.1 hP hD hS 2 rfl dX0_refusalDetail_7 (ws2 := ([(cw, .inr (1, [.ref stA, .ref oaA, .ref osA, iv hsn, .ref hdA, .ref spA, .ref bfA, .ref lnA, .ref prA, iv ep, .ref rq]))] : va_W) ++ ([(rq, .inr (5, [pv0, pv1, pv2, pv3, pv4, pv5, iv wr, iv wd, .null]))] : va_W) ++ ([(la, loA (E.2 5) (vp_updL zf 0 ((iI wd).toInt64)))] : va_W)) rfl (fun H locs hP hD hS => ?_)
    have hP : va_P E.1 CL (([(cw, .inr (1, [.ref stA, .ref oaA, .ref osA, iv hsn, .ref hdA, .ref spA, .ref bfA, .ref lnA, .ref prA, iv ep, .ref rq]))] : va_W) ++ ([(rq, .inr (5, [pv0, pv1, pv2, pv3, pv4, pv5, iv wr, iv wd, .null]))] : va_W) ++ ([(la, loA (E.2 5) (vp_updL zf 0 ((iI wd).toInt64)))] : va_W)) H := hP
    have hD : va_D A (([(cw, .inr (1, [.ref stA, .ref oaA, .ref osA, iv hsn, .ref hdA, .ref spA, .ref bfA, .ref lnA, .ref prA, iv ep, .ref rq]))] : va_W) ++ ([(rq, .inr (5, [pv0, pv1, pv2, pv3, pv4, pv5, iv wr, iv wd, .null]))] : va_W) ++ ([(la, loA (E.2 5) (vp_updL zf 0 ((iI wd).toInt64)))] : va_W)) := hD
    refine lv_goto (tgt := 14) hx hb dX0_refusalDetail_8 (by decide) ?_
    refine lv_iconst (v := iI 0) hx hb dX0_refusalDetail_14 rfl ?_
    have hfin : 0 = c_zero wr := by
      first | exact hz9.symm | exact hk9.symm
    refine vx_ret ?_
    refine W.widen (k := 1) (n := 6) (Nat.le_of_ble_eq_true rfl) (Nat.le_of_ble_eq_true rfl) ?_
    exact W.iret (v := iI 0) hx hb hr (fun tt_ ht_ hW_ => ⟨⟨iI 0, .inl (u_4, (vp_updL zf 0 ((iI wd).toInt64))), rfl, ⟨(show (c_zero wr = 0) ∧ c_zero wr = 0 ∧ (u_4, (vp_updL zf 0 ((iI wd).toInt64))).2 0 = (iI wd).toInt64 from ⟨hu_4, hz9, rfl⟩), (congrArg iI hfin)⟩, by rw [ht_]; exact hP, hD⟩, hS.F ht_⟩) hS.2.2 dX0_refusalDetail_15
set_option maxHeartbeats 2000000 in
set_option maxRecDepth 100000 in
theorem mt_X0_refusalDetail_c (l : Launch) (E : EE) (cw : Nat) (stA : Nat) (oaA : Nat) (osA : Nat) (hsn : Int) (hdA : Nat) (spA : Nat) (bfA : Nat) (lnA : Nat) (prA : Nat) (ep : Int) (rq : Nat) (pv0 : Value) (pv1 : Value) (pv2 : Value) (pv3 : Value) (pv4 : Value) (pv5 : Value) (wr : Int) (wd : Int) (rq2 : Nat) (pw0 : Value) (pw1 : Value) (pw2 : Value) (pw3 : Value) (pw4 : Value) (pw5 : Value) (ws : Int) (wt : Int) (la : Nat) (zf : Nat → Int64) (hst : l.stackTraces = false) (hwr : 0 < wr ∧ wr < 100) (hwd : -2147483648 ≤ wd ∧ wd < 2147483648) (hws : 0 < ws ∧ ws < 100) (sz : Nat) : vx_Met l yX0_refusalDetail (wsW_ yX0_refusalDetail cX0_refusalDetail 3 (some .int) [(0, 8, 11, 21)]) { frames := 10, cells := 1, slots := 6, locals := 220 } (va_Pc [.ref cw, .ref la] (UX E (([(cw, .inr (1, [.ref stA, .ref oaA, .ref osA, iv hsn, .ref hdA, .ref spA, .ref bfA, .ref lnA, .ref prA, iv ep, .ref rq]))] : va_W) ++ ([(rq, .inr (5, [pv0, pv1, pv2, pv3, pv4, pv5, iv wr, iv wd, .ref rq2]))] : va_W) ++ ([(rq2, .inr (5, [pw0, pw1, pw2, pw3, pw4, pw5, iv ws, iv wt, .null]))] : va_W) ++ ([(la, loA (E.2 5) zf)] : va_W)) sz)) (UQx E (Sum.elim (fun u : (Unit) × (Nat → Int64) => (c_zero wr = 0) ∧ c_zero wr = 0 ∧ u.2 0 = (iI wd).toInt64) (fun u : Unit => 0 < c_zero wr ∧ ∃ En : String, En = "java/util/NoSuchElementException" ∧ c_zero wr = 1)) (fun _ => c_zero wr) (Sum.elim (fun u : (Unit) × (Nat → Int64) => ([(cw, .inr (1, [.ref stA, .ref oaA, .ref osA, iv hsn, .ref hdA, .ref spA, .ref bfA, .ref lnA, .ref prA, iv ep, .ref rq]))] : va_W) ++ ([(rq, .inr (5, [pv0, pv1, pv2, pv3, pv4, pv5, iv wr, iv wd, .ref rq2]))] : va_W) ++ ([(rq2, .inr (5, [pw0, pw1, pw2, pw3, pw4, pw5, iv ws, iv wt, .null]))] : va_W) ++ ([(la, loA (E.2 5) u.2)] : va_W)) (fun u : Unit => ([(cw, .inr (1, [.ref stA, .ref oaA, .ref osA, iv hsn, .ref hdA, .ref spA, .ref bfA, .ref lnA, .ref prA, iv ep, .ref rq]))] : va_W) ++ ([(rq, .inr (5, [pv0, pv1, pv2, pv3, pv4, pv5, iv wr, iv wd, .ref rq2]))] : va_W) ++ ([(rq2, .inr (5, [pw0, pw1, pw2, pw3, pw4, pw5, iv ws, iv wt, .null]))] : va_W) ++ ([(la, loA (E.2 5) zf)] : va_W))) (va_A (([(cw, .inr (1, [.ref stA, .ref oaA, .ref osA, iv hsn, .ref hdA, .ref spA, .ref bfA, .ref lnA, .ref prA, iv ep, .ref rq]))] : va_W) ++ ([(rq, .inr (5, [pv0, pv1, pv2, pv3, pv4, pv5, iv wr, iv wd, .ref rq2]))] : va_W) ++ ([(rq2, .inr (5, [pw0, pw1, pw2, pw3, pw4, pw5, iv ws, iv wt, .null]))] : va_W) ++ ([(la, loA (E.2 5) zf)] : va_W)) sz)) (UXx E (fun (_ : String) (_ : Unit) => False) (fun _ : Unit => []) (fun _ : Unit => none) (va_A (([(cw, .inr (1, [.ref stA, .ref oaA, .ref osA, iv hsn, .ref hdA, .ref spA, .ref bfA, .ref lnA, .ref prA, iv ep, .ref rq]))] : va_W) ++ ([(rq, .inr (5, [pv0, pv1, pv2, pv3, pv4, pv5, iv wr, iv wd, .ref rq2]))] : va_W) ++ ([(rq2, .inr (5, [pw0, pw1, pw2, pw3, pw4, pw5, iv ws, iv wt, .null]))] : va_W) ++ ([(la, loA (E.2 5) zf)] : va_W)) sz)) 1 6 (va_A (([(cw, .inr (1, [.ref stA, .ref oaA, .ref osA, iv hsn, .ref hdA, .ref spA, .ref bfA, .ref lnA, .ref prA, iv ep, .ref rq]))] : va_W) ++ ([(rq, .inr (5, [pv0, pv1, pv2, pv3, pv4, pv5, iv wr, iv wd, .ref rq2]))] : va_W) ++ ([(rq2, .inr (5, [pw0, pw1, pw2, pw3, pw4, pw5, iv ws, iv wt, .null]))] : va_W) ++ ([(la, loA (E.2 5) zf)] : va_W)) sz) := by
  refine vx_ofWH (hh := [(0, 8, 11, 21)]) (cc := cX0_refusalDetail) (maxL := 3) (ret := (some .int)) (by decide) rfl ?_
  intro p e s m args below meth c s₁ B hml hv
  obtain ⟨rfl, hsz, hP, hK, hD0, hE⟩ := hv
  have hx := B.exec
  have hb := B.bytes
  have hr := B.returns
  have hts := atoms_spec (ws := (wsW_ yX0_refusalDetail cX0_refusalDetail 3 (some .int) [(0, 8, 11, 21)])) B.pre
  have htab : c.exceptionTable.toList = tableOf [(0, 8, 11, 21)] := vx_table (x := yX0_refusalDetail) B (hts _ List.mem_cons_self)
  have hts : ∀ w ∈ lw_all, w.before _ s = true := fun w h => hts w (List.mem_cons_of_mem _ h)
  have hown : s.vm.findClass RX0 = some m.cls := findClass_of_methodNamed B.named
  have hlocks := B.notSynchronized
  subst hsz
  have hD := hD0.self (sz := s.heap.size)
  generalize hAe : va_A (([(cw, .inr (1, [.ref stA, .ref oaA, .ref osA, iv hsn, .ref hdA, .ref spA, .ref bfA, .ref lnA, .ref prA, iv ep, .ref rq]))] : va_W) ++ ([(rq, .inr (5, [pv0, pv1, pv2, pv3, pv4, pv5, iv wr, iv wd, .ref rq2]))] : va_W) ++ ([(rq2, .inr (5, [pw0, pw1, pw2, pw3, pw4, pw5, iv ws, iv wt, .null]))] : va_W) ++ ([(la, loA (E.2 5) zf)] : va_W)) s.heap.size = A at hD hE ⊢
  have hA : ∀ q : Nat, s.heap.size ≤ q → A q := fun q h => by rw [← hAe]; exact Or.inr h
  have hS : va_S A s.heap s.heap [] := va_S.rf
  have hl := lv_entry ([.ref cw, .ref la]) (n := 3) (Nat.le_of_ble_eq_true rfl)
  rw [lg_entry_eq]
  generalize (lg_sl ([.ref cw, .ref la]) ++ List.replicate (3 - (lg_sl ([.ref cw, .ref la])).length) Slot.unset).toArray = ls at hl ⊢
  have hl : lv_has ls 3 [(0, .ref cw), (1, .ref la)] := hl
  refine lv_aload_n hx hb dX0_refusalDetail_0 rfl (lv_at hl 1 rfl) ?_
  refine lv_iconst (v := iI 0) hx hb dX0_refusalDetail_1 rfl ?_
  refine lv_aload_n hx hb dX0_refusalDetail_2 rfl (lv_at hl 0 rfl) ?_
  have hg_1 : gpick [[(cw, .inr (1, [.ref stA, .ref oaA, .ref osA, iv hsn, .ref hdA, .ref spA, .ref bfA, .ref lnA, .ref prA, iv ep, .ref rq]))], [(rq, .inr (5, [pv0, pv1, pv2, pv3, pv4, pv5, iv wr, iv wd, .ref rq2]))], [(rq2, .inr (5, [pw0, pw1, pw2, pw3, pw4, pw5, iv ws, iv wt, .null]))], [(la, loA (E.2 5) zf)]] ([[(cw, .inr (1, [.ref stA, .ref oaA, .ref osA, iv hsn, .ref hdA, .ref spA, .ref bfA, .ref lnA, .ref prA, iv ep, .ref rq]))], [(rq, .inr (5, [pv0, pv1, pv2, pv3, pv4, pv5, iv wr, iv wd, .ref rq2]))], [(rq2, .inr (5, [pw0, pw1, pw2, pw3, pw4, pw5, iv ws, iv wt, .null]))]] ++ [[(la, loA (E.2 5) zf)]]) [0, 1, 2, 3] := ⟨rfl, (show List.Perm [0, 1, 2, 3] (List.range 4) from by decide)⟩
  have hg_1P : va_P E.1 CL (([(cw, .inr (1, [.ref stA, .ref oaA, .ref osA, iv hsn, .ref hdA, .ref spA, .ref bfA, .ref lnA, .ref prA, iv ep, .ref rq]))] : va_W) ++ ([(rq, .inr (5, [pv0, pv1, pv2, pv3, pv4, pv5, iv wr, iv wd, .ref rq2]))] : va_W) ++ ([(rq2, .inr (5, [pw0, pw1, pw2, pw3, pw4, pw5, iv ws, iv wt, .null]))] : va_W)) s.heap := (g_out hg_1 hP hD).1
  have hg_1D : va_D A (([(cw, .inr (1, [.ref stA, .ref oaA, .ref osA, iv hsn, .ref hdA, .ref spA, .ref bfA, .ref lnA, .ref prA, iv ep, .ref rq]))] : va_W) ++ ([(rq, .inr (5, [pv0, pv1, pv2, pv3, pv4, pv5, iv wr, iv wd, .ref rq2]))] : va_W) ++ ([(rq2, .inr (5, [pw0, pw1, pw2, pw3, pw4, pw5, iv ws, iv wt, .null]))] : va_W)) := (g_out hg_1 hP hD).2
  have hg_1F : ∀ q, va_A (([(cw, .inr (1, [.ref stA, .ref oaA, .ref osA, iv hsn, .ref hdA, .ref spA, .ref bfA, .ref lnA, .ref prA, iv ep, .ref rq]))] : va_W) ++ ([(rq, .inr (5, [pv0, pv1, pv2, pv3, pv4, pv5, iv wr, iv wd, .ref rq2]))] : va_W) ++ ([(rq2, .inr (5, [pw0, pw1, pw2, pw3, pw4, pw5, iv ws, iv wt, .null]))] : va_W)) s.heap.size q → A q := g_free hg_1 hP hD hS hA
  have hlt_2 := P_lts hP
  have hz_3 : s.heap.size ≤ s.heap.size := hS.1
  have hj_6 : ∀ u_4 : Unit, gpick ([[(cw, .inr (1, [.ref stA, .ref oaA, .ref osA, iv hsn, .ref hdA, .ref spA, .ref bfA, .ref lnA, .ref prA, iv ep, .ref rq]))], [(rq, .inr (5, [pv0, pv1, pv2, pv3, pv4, pv5, iv wr, iv wd, .ref rq2]))], [(rq2, .inr (5, [pw0, pw1, pw2, pw3, pw4, pw5, iv ws, iv wt, .null]))]] ++ [[(la, loA (E.2 5) zf)]]) [[(cw, .inr (1, [.ref stA, .ref oaA, .ref osA, iv hsn, .ref hdA, .ref spA, .ref bfA, .ref lnA, .ref prA, iv ep, .ref rq]))], [(rq, .inr (5, [pv0, pv1, pv2, pv3, pv4, pv5, iv wr, iv wd, .ref rq2]))], [(rq2, .inr (5, [pw0, pw1, pw2, pw3, pw4, pw5, iv ws, iv wt, .null]))], [(la, loA (E.2 5) zf)]] [0, 1, 2, 3] := fun u_4 => ⟨rfl, (show List.Perm [0, 1, 2, 3] (List.range 4) from by decide)⟩
  have hj_7 : ∀ u_5 : Unit, gpick ([[(cw, .inr (1, [.ref stA, .ref oaA, .ref osA, iv hsn, .ref hdA, .ref spA, .ref bfA, .ref lnA, .ref prA, iv ep, .ref rq]))], [(rq, .inr (5, [pv0, pv1, pv2, pv3, pv4, pv5, iv wr, iv wd, .ref rq2]))], [(rq2, .inr (5, [pw0, pw1, pw2, pw3, pw4, pw5, iv ws, iv wt, .null]))]] ++ [[(la, loA (E.2 5) zf)]]) [[(cw, .inr (1, [.ref stA, .ref oaA, .ref osA, iv hsn, .ref hdA, .ref spA, .ref bfA, .ref lnA, .ref prA, iv ep, .ref rq]))], [(rq, .inr (5, [pv0, pv1, pv2, pv3, pv4, pv5, iv wr, iv wd, .ref rq2]))], [(rq2, .inr (5, [pw0, pw1, pw2, pw3, pw4, pw5, iv ws, iv wt, .null]))], [(la, loA (E.2 5) zf)]] [0, 1, 2, 3] := fun u_5 => ⟨rfl, (show List.Perm [0, 1, 2, 3] (List.range 4) from by decide)⟩
  refine n_txB (x := fun u_4 => wd) (w2 := fun u_4 : Unit => ([(cw, .inr (1, [.ref stA, .ref oaA, .ref osA, iv hsn, .ref hdA, .ref spA, .ref bfA, .ref lnA, .ref prA, iv ep, .ref rq]))] : va_W) ++ ([(rq, .inr (5, [pv0, pv1, pv2, pv3, pv4, pv5, iv wr, iv wd, .ref rq2]))] : va_W) ++ ([(rq2, .inr (5, [pw0, pw1, pw2, pw3, pw4, pw5, iv ws, iv wt, .null]))] : va_W) ++ ([(la, loA (E.2 5) zf)] : va_W)) (w3 := fun u_5 : Unit => ([(cw, .inr (1, [.ref stA, .ref oaA, .ref osA, iv hsn, .ref hdA, .ref spA, .ref bfA, .ref lnA, .ref prA, iv ep, .ref rq]))] : va_W) ++ ([(rq, .inr (5, [pv0, pv1, pv2, pv3, pv4, pv5, iv wr, iv wd, .ref rq2]))] : va_W) ++ ([(rq2, .inr (5, [pw0, pw1, pw2, pw3, pw4, pw5, iv ws, iv wt, .null]))] : va_W) ++ ([(la, loA (E.2 5) zf)] : va_W)) (vx_runV (As := []) (rest := [iv 0, .ref la]) ⟨hx, hb, hml, hown, hts⟩ (mt_X1_refusalDetail_c l E cw stA oaA osA hsn hdA spA bfA lnA prA ep rq pv0 pv1 pv2 pv3 pv4 pv5 wr wd rq2 pw0 pw1 pw2 pw3 pw4 pw5 ws wt  (by exact hst) (by assumption) (by omega) (by omega) _) (cwV 0 hts (lw_V q1392 q1393 q1394 q94 q1395) rfl rfl rfl (by decide +kernel) ⟨Nat.le_of_ble_eq_true rfl, Nat.le_of_ble_eq_true rfl⟩) (UX_V hg_1P hK (hg_1D) hE hS hg_1F (va_recv hK.1 hP (ci := 1) (q0 := 0) rfl rfl)) rfl rfl hl.1 rfl (lv_room (Nat.le_of_ble_eq_true rfl)) dX0_refusalDetail_3 ⟨Nat.le_of_ble_eq_true rfl, Nat.le_of_ble_eq_true rfl⟩) hS hg_1F ?_ ?_ ?_ ?_
  · exact (fun u_4 _ hk9 hp9 hd9 => g_back hg_1 (hj_6 u_4) hP hD hg_1F hk9 hp9 hd9)
  · exact (fun u_5 _ hk9 hp9 hd9 => g_back hg_1 (hj_7 u_5) hP hD hg_1F hk9 hp9 hd9)
  · intro En ce q9 u_5 H locs hCx hP hD hS hxf hq9 hce hcv hcl
    have hCx : En = "java/util/NoSuchElementException" ∧ c_zero wr = 1 := hCx
    have hP : va_P E.1 CL (([(cw, .inr (1, [.ref stA, .ref oaA, .ref osA, iv hsn, .ref hdA, .ref spA, .ref bfA, .ref lnA, .ref prA, iv ep, .ref rq]))] : va_W) ++ ([(rq, .inr (5, [pv0, pv1, pv2, pv3, pv4, pv5, iv wr, iv wd, .ref rq2]))] : va_W) ++ ([(rq2, .inr (5, [pw0, pw1, pw2, pw3, pw4, pw5, iv ws, iv wt, .null]))] : va_W) ++ ([(la, loA (E.2 5) zf)] : va_W)) H := hP
    have hD : va_D A (([(cw, .inr (1, [.ref stA, .ref oaA, .ref osA, iv hsn, .ref hdA, .ref spA, .ref bfA, .ref lnA, .ref prA, iv ep, .ref rq]))] : va_W) ++ ([(rq, .inr (5, [pv0, pv1, pv2, pv3, pv4, pv5, iv wr, iv wd, .ref rq2]))] : va_W) ++ ([(rq2, .inr (5, [pw0, pw1, pw2, pw3, pw4, pw5, iv ws, iv wt, .null]))] : va_W) ++ ([(la, loA (E.2 5) zf)] : va_W)) := hD
    have hcx9 := hCx
    obtain ⟨hEn9, hk9⟩ := hCx
    subst hEn9
    refine vx_catch (own := "ClockworkTailorLaw") hown [] _ [] htab (fun z hz => by cases hz) (by decide) (by decide) (name := "java/util/NoSuchElementException") (hts _ q951) (hK.nw q976) hce hcv hcl ?_
    refine lv_astore_n (lv' := [(2, .ref q9), (0, .ref cw), (1, .ref la)]) hx hb dX0_refusalDetail_11 rfl hl (by decide) rfl (fun ls hl => ?_)
    refine lv_iconst (v := iI 1) hx hb dX0_refusalDetail_12 rfl ?_
    have hfin : 1 = c_zero wr := by
      first | exact hz9.symm | exact hk9.symm
    refine vx_ret ?_
    refine W.widen (k := 1) (n := 6) (Nat.le_of_ble_eq_true rfl) (Nat.le_of_ble_eq_true rfl) ?_
    exact W.iret (v := iI 1) hx hb hr (fun tt_ ht_ hW_ => ⟨⟨iI 1, .inr u_5, rfl, ⟨(show 0 < c_zero wr ∧ ∃ En : String, En = "java/util/NoSuchElementException" ∧ c_zero wr = 1 from ⟨(by omega), _, hcx9⟩), (congrArg iI hfin)⟩, by rw [ht_]; exact hP, hD⟩, hS.F ht_⟩) hS.2.2 dX0_refusalDetail_13
  · intro u_4 H locs hC hP hD hS
    have hu_4 : c_zero wr = 0 := hC
    have hP : va_P E.1 CL (([(cw, .inr (1, [.ref stA, .ref oaA, .ref osA, iv hsn, .ref hdA, .ref spA, .ref bfA, .ref lnA, .ref prA, iv ep, .ref rq]))] : va_W) ++ ([(rq, .inr (5, [pv0, pv1, pv2, pv3, pv4, pv5, iv wr, iv wd, .ref rq2]))] : va_W) ++ ([(rq2, .inr (5, [pw0, pw1, pw2, pw3, pw4, pw5, iv ws, iv wt, .null]))] : va_W) ++ ([(la, loA (E.2 5) zf)] : va_W)) H := hP
    have hD : va_D A (([(cw, .inr (1, [.ref stA, .ref oaA, .ref osA, iv hsn, .ref hdA, .ref spA, .ref bfA, .ref lnA, .ref prA, iv ep, .ref rq]))] : va_W) ++ ([(rq, .inr (5, [pv0, pv1, pv2, pv3, pv4, pv5, iv wr, iv wd, .ref rq2]))] : va_W) ++ ([(rq2, .inr (5, [pw0, pw1, pw2, pw3, pw4, pw5, iv ws, iv wt, .null]))] : va_W) ++ ([(la, loA (E.2 5) zf)] : va_W)) := hD
    have hz9 : c_zero wr = 0 := hu_4
    refine lv_i2l (v := (iI wd).toInt64) hx hb dX0_refusalDetail_6 rfl ?_
    refine n_last1 hx hb hK.1 hP hD hS 3 rfl dX0_refusalDetail_7 (ws2 := ([(cw, .inr (1, [.ref stA, .ref oaA, .ref osA, iv hsn, .ref hdA, .ref spA, .ref bfA, .ref lnA, .ref prA, iv ep, .ref rq]))] : va_W) ++ ([(rq, .inr (5, [pv0, pv1, pv2, pv3, pv4, pv5, iv wr, iv wd, .ref rq2]))] : va_W) ++ ([(rq2, .inr (5, [pw0, pw1, pw2, pw3, pw4, pw5, iv ws, iv wt, .null]))] : va_W) ++ ([(la, loA (E.2 5) (vp_updL zf 0 ((iI wd).toInt64)))] : va_W)) rfl (fun H locs hP hD hS => ?_)
    have hP : va_P E.1 CL (([(cw, .inr (1, [.ref stA, .ref oaA, .ref osA, iv hsn, .ref hdA, .ref spA, .ref bfA, .ref lnA, .ref prA, iv ep, .ref rq]))] : va_W) ++ ([(rq, .inr (5, [pv0, pv1, pv2, pv3, pv4, pv5, iv wr, iv wd, .ref rq2]))] : va_W) ++ ([(rq2, .inr (5, [pw0, pw1, pw2, pw3, pw4, pw5, iv ws, iv wt, .null]))] : va_W) ++ ([(la, loA (E.2 5) (vp_updL zf 0 ((iI wd).toInt64)))] : va_W)) H := hP
    have hD : va_D A (([(cw, .inr (1, [.ref stA, .ref oaA, .ref osA, iv hsn, .ref hdA, .ref spA, .ref bfA, .ref lnA, .ref prA, iv ep, .ref rq]))] : va_W) ++ ([(rq, .inr (5, [pv0, pv1, pv2, pv3, pv4, pv5, iv wr, iv wd, .ref rq2]))] : va_W) ++ ([(rq2, .inr (5, [pw0, pw1, pw2, pw3, pw4, pw5, iv ws, iv wt, .null]))] : va_W) ++ ([(la, loA (E.2 5) (vp_updL zf 0 ((iI wd).toInt64)))] : va_W)) := hD
    refine lv_goto (tgt := 14) hx hb dX0_refusalDetail_8 (by decide) ?_
    refine lv_iconst (v := iI 0) hx hb dX0_refusalDetail_14 rfl ?_
    have hfin : 0 = c_zero wr := by
      first | exact hz9.symm | exact hk9.symm
    refine vx_ret ?_
    refine W.widen (k := 1) (n := 6) (Nat.le_of_ble_eq_true rfl) (Nat.le_of_ble_eq_true rfl) ?_
    exact W.iret (v := iI 0) hx hb hr (fun tt_ ht_ hW_ => ⟨⟨iI 0, .inl (u_4, (vp_updL zf 0 ((iI wd).toInt64))), rfl, ⟨(show (c_zero wr = 0) ∧ c_zero wr = 0 ∧ (u_4, (vp_updL zf 0 ((iI wd).toInt64))).2 0 = (iI wd).toInt64 from ⟨hu_4, hz9, rfl⟩), (congrArg iI hfin)⟩, by rw [ht_]; exact hP, hD⟩, hS.F ht_⟩) hS.2.2 dX0_refusalDetail_15
set_option maxHeartbeats 2000000 in
set_option maxRecDepth 100000 in
theorem mt_X0_refusalCause_a (l : Launch) (E : EE) (cw : Nat) (stA : Nat) (oaA : Nat) (osA : Nat) (hsn : Int) (hdA : Nat) (spA : Nat) (bfA : Nat) (lnA : Nat) (prA : Nat) (ep : Int) (la : Nat) (zf : Nat → Int64) (hst : l.stackTraces = false) (sz : Nat) : vx_Met l yX0_refusalCause (wsW_ yX0_refusalCause cX0_refusalCause 3 (some .int) [(0, 8, 11, 21)]) { frames := 10, cells := 2, slots := 12, locals := 220 } (va_Pc [.ref cw, .ref la] (UX E (([(cw, .inr (1, [.ref stA, .ref oaA, .ref osA, iv hsn, .ref hdA, .ref spA, .ref bfA, .ref lnA, .ref prA, iv ep, .null]))] : va_W) ++ ([(la, loA (E.2 5) zf)] : va_W)) sz)) (UQx E (Sum.elim (fun u : (Unit) × (Nat → Int64) => (c_zero (0 : Int) = 0) ∧ c_zero (0 : Int) = 0 ∧ u.2 0 = (iI (0 : Int)).toInt64) (fun u : Unit => 0 < c_zero (0 : Int) ∧ ∃ En : String, En = "java/util/NoSuchElementException" ∧ c_zero (0 : Int) = 1)) (fun _ => c_zero (0 : Int)) (Sum.elim (fun u : (Unit) × (Nat → Int64) => ([(cw, .inr (1, [.ref stA, .ref oaA, .ref osA, iv hsn, .ref hdA, .ref spA, .ref bfA, .ref lnA, .ref prA, iv ep, .null]))] : va_W) ++ ([(la, loA (E.2 5) u.2)] : va_W)) (fun u : Unit => ([(cw, .inr (1, [.ref stA, .ref oaA, .ref osA, iv hsn, .ref hdA, .ref spA, .ref bfA, .ref lnA, .ref prA, iv ep, .null]))] : va_W) ++ ([(la, loA (E.2 5) zf)] : va_W))) (va_A (([(cw, .inr (1, [.ref stA, .ref oaA, .ref osA, iv hsn, .ref hdA, .ref spA, .ref bfA, .ref lnA, .ref prA, iv ep, .null]))] : va_W) ++ ([(la, loA (E.2 5) zf)] : va_W)) sz)) (UXx E (fun (_ : String) (_ : Unit) => False) (fun _ : Unit => []) (fun _ : Unit => none) (va_A (([(cw, .inr (1, [.ref stA, .ref oaA, .ref osA, iv hsn, .ref hdA, .ref spA, .ref bfA, .ref lnA, .ref prA, iv ep, .null]))] : va_W) ++ ([(la, loA (E.2 5) zf)] : va_W)) sz)) 2 12 (va_A (([(cw, .inr (1, [.ref stA, .ref oaA, .ref osA, iv hsn, .ref hdA, .ref spA, .ref bfA, .ref lnA, .ref prA, iv ep, .null]))] : va_W) ++ ([(la, loA (E.2 5) zf)] : va_W)) sz) := by
  refine vx_ofWH (hh := [(0, 8, 11, 21)]) (cc := cX0_refusalCause) (maxL := 3) (ret := (some .int)) (by decide) rfl ?_
  intro p e s m args below meth c s₁ B hml hv
  obtain ⟨rfl, hsz, hP, hK, hD0, hE⟩ := hv
  have hx := B.exec
  have hb := B.bytes
  have hr := B.returns
  have hts := atoms_spec (ws := (wsW_ yX0_refusalCause cX0_refusalCause 3 (some .int) [(0, 8, 11, 21)])) B.pre
  have htab : c.exceptionTable.toList = tableOf [(0, 8, 11, 21)] := vx_table (x := yX0_refusalCause) B (hts _ List.mem_cons_self)
  have hts : ∀ w ∈ lw_all, w.before _ s = true := fun w h => hts w (List.mem_cons_of_mem _ h)
  have hown : s.vm.findClass RX0 = some m.cls := findClass_of_methodNamed B.named
  have hlocks := B.notSynchronized
  subst hsz
  have hD := hD0.self (sz := s.heap.size)
  generalize hAe : va_A (([(cw, .inr (1, [.ref stA, .ref oaA, .ref osA, iv hsn, .ref hdA, .ref spA, .ref bfA, .ref lnA, .ref prA, iv ep, .null]))] : va_W) ++ ([(la, loA (E.2 5) zf)] : va_W)) s.heap.size = A at hD hE ⊢
  have hA : ∀ q : Nat, s.heap.size ≤ q → A q := fun q h => by rw [← hAe]; exact Or.inr h
  have hS : va_S A s.heap s.heap [] := va_S.rf
  have hl := lv_entry ([.ref cw, .ref la]) (n := 3) (Nat.le_of_ble_eq_true rfl)
  rw [lg_entry_eq]
  generalize (lg_sl ([.ref cw, .ref la]) ++ List.replicate (3 - (lg_sl ([.ref cw, .ref la])).length) Slot.unset).toArray = ls at hl ⊢
  have hl : lv_has ls 3 [(0, .ref cw), (1, .ref la)] := hl
  refine lv_aload_n hx hb dX0_refusalCause_0 rfl (lv_at hl 1 rfl) ?_
  refine lv_iconst (v := iI 0) hx hb dX0_refusalCause_1 rfl ?_
  refine lv_aload_n hx hb dX0_refusalCause_2 rfl (lv_at hl 0 rfl) ?_
  have hg_1 : gpick [[(cw, .inr (1, [.ref stA, .ref oaA, .ref osA, iv hsn, .ref hdA, .ref spA, .ref bfA, .ref lnA, .ref prA, iv ep, .null]))], [(la, loA (E.2 5) zf)]] ([[(cw, .inr (1, [.ref stA, .ref oaA, .ref osA, iv hsn, .ref hdA, .ref spA, .ref bfA, .ref lnA, .ref prA, iv ep, .null]))]] ++ [[(la, loA (E.2 5) zf)]]) [0, 1] := ⟨rfl, (show List.Perm [0, 1] (List.range 2) from by decide)⟩
  have hg_1P : va_P E.1 CL ([(cw, .inr (1, [.ref stA, .ref oaA, .ref osA, iv hsn, .ref hdA, .ref spA, .ref bfA, .ref lnA, .ref prA, iv ep, .null]))]) s.heap := (g_out hg_1 hP hD).1
  have hg_1D : va_D A ([(cw, .inr (1, [.ref stA, .ref oaA, .ref osA, iv hsn, .ref hdA, .ref spA, .ref bfA, .ref lnA, .ref prA, iv ep, .null]))]) := (g_out hg_1 hP hD).2
  have hg_1F : ∀ q, va_A ([(cw, .inr (1, [.ref stA, .ref oaA, .ref osA, iv hsn, .ref hdA, .ref spA, .ref bfA, .ref lnA, .ref prA, iv ep, .null]))]) s.heap.size q → A q := g_free hg_1 hP hD hS hA
  have hlt_2 := P_lts hP
  have hz_3 : s.heap.size ≤ s.heap.size := hS.1
  have hj_6 : ∀ u_4 : Unit, gpick ([[(cw, .inr (1, [.ref stA, .ref oaA, .ref osA, iv hsn, .ref hdA, .ref spA, .ref bfA, .ref lnA, .ref prA, iv ep, .null]))]] ++ [[(la, loA (E.2 5) zf)]]) [[(cw, .inr (1, [.ref stA, .ref oaA, .ref osA, iv hsn, .ref hdA, .ref spA, .ref bfA, .ref lnA, .ref prA, iv ep, .null]))], [(la, loA (E.2 5) zf)]] [0, 1] := fun u_4 => ⟨rfl, (show List.Perm [0, 1] (List.range 2) from by decide)⟩
  have hj_7 : ∀ u_5 : Unit, gpick ([[(cw, .inr (1, [.ref stA, .ref oaA, .ref osA, iv hsn, .ref hdA, .ref spA, .ref bfA, .ref lnA, .ref prA, iv ep, .null]))]] ++ [[(la, loA (E.2 5) zf)]]) [[(cw, .inr (1, [.ref stA, .ref oaA, .ref osA, iv hsn, .ref hdA, .ref spA, .ref bfA, .ref lnA, .ref prA, iv ep, .null]))], [(la, loA (E.2 5) zf)]] [0, 1] := fun u_5 => ⟨rfl, (show List.Perm [0, 1] (List.range 2) from by decide)⟩
  refine n_txB (x := fun u_4 => (0 : Int)) (w2 := fun u_4 : Unit => ([(cw, .inr (1, [.ref stA, .ref oaA, .ref osA, iv hsn, .ref hdA, .ref spA, .ref bfA, .ref lnA, .ref prA, iv ep, .null]))] : va_W) ++ ([(la, loA (E.2 5) zf)] : va_W)) (w3 := fun u_5 : Unit => ([(cw, .inr (1, [.ref stA, .ref oaA, .ref osA, iv hsn, .ref hdA, .ref spA, .ref bfA, .ref lnA, .ref prA, iv ep, .null]))] : va_W) ++ ([(la, loA (E.2 5) zf)] : va_W)) (vx_runV (As := []) (rest := [iv 0, .ref la]) ⟨hx, hb, hml, hown, hts⟩ (mt_X1_refusalCause_a l E cw stA oaA osA hsn hdA spA bfA lnA prA ep  (by exact hst) _) (cwV 0 hts (lw_V q1399 q1400 q1401 q94 q1402) rfl rfl rfl (by decide +kernel) ⟨Nat.le_of_ble_eq_true rfl, Nat.le_of_ble_eq_true rfl⟩) (UX_V hg_1P hK (hg_1D) hE hS hg_1F (va_recv hK.1 hP (ci := 1) (q0 := 0) rfl rfl)) rfl rfl hl.1 rfl (lv_room (Nat.le_of_ble_eq_true rfl)) dX0_refusalCause_3 ⟨Nat.le_of_ble_eq_true rfl, Nat.le_of_ble_eq_true rfl⟩) hS hg_1F ?_ ?_ ?_ ?_
  · exact (fun u_4 _ hk9 hp9 hd9 => g_back hg_1 (hj_6 u_4) hP hD hg_1F hk9 hp9 hd9)
  · exact (fun u_5 _ hk9 hp9 hd9 => g_back hg_1 (hj_7 u_5) hP hD hg_1F hk9 hp9 hd9)
  · intro En ce q9 u_5 H locs hCx hP hD hS hxf hq9 hce hcv hcl
    have hCx : En = "java/util/NoSuchElementException" ∧ c_zero (0 : Int) = 1 := hCx
    have hP : va_P E.1 CL (([(cw, .inr (1, [.ref stA, .ref oaA, .ref osA, iv hsn, .ref hdA, .ref spA, .ref bfA, .ref lnA, .ref prA, iv ep, .null]))] : va_W) ++ ([(la, loA (E.2 5) zf)] : va_W)) H := hP
    have hD : va_D A (([(cw, .inr (1, [.ref stA, .ref oaA, .ref osA, iv hsn, .ref hdA, .ref spA, .ref bfA, .ref lnA, .ref prA, iv ep, .null]))] : va_W) ++ ([(la, loA (E.2 5) zf)] : va_W)) := hD
    have hcx9 := hCx
    obtain ⟨hEn9, hk9⟩ := hCx
    subst hEn9
    refine vx_catch (own := "ClockworkTailorLaw") hown [] _ [] htab (fun z hz => by cases hz) (by decide) (by decide) (name := "java/util/NoSuchElementException") (hts _ q951) (hK.nw q976) hce hcv hcl ?_
    refine lv_astore_n (lv' := [(2, .ref q9), (0, .ref cw), (1, .ref la)]) hx hb dX0_refusalCause_11 rfl hl (by decide) rfl (fun ls hl => ?_)
    refine lv_iconst (v := iI 1) hx hb dX0_refusalCause_12 rfl ?_
    have hfin : 1 = c_zero (0 : Int) := by
      first | exact hz9.symm | exact hk9.symm
    refine vx_ret ?_
    refine W.widen (k := 2) (n := 12) (Nat.le_of_ble_eq_true rfl) (Nat.le_of_ble_eq_true rfl) ?_
    exact W.iret (v := iI 1) hx hb hr (fun tt_ ht_ hW_ => ⟨⟨iI 1, .inr u_5, rfl, ⟨(show 0 < c_zero (0 : Int) ∧ ∃ En : String, En = "java/util/NoSuchElementException" ∧ c_zero (0 : Int) = 1 from ⟨(by omega), _, hcx9⟩), (congrArg iI hfin)⟩, by rw [ht_]; exact hP, hD⟩, hS.F ht_⟩) hS.2.2 dX0_refusalCause_13
  · intro u_4 H locs hC hP hD hS
    have hu_4 : c_zero (0 : Int) = 0 := hC
    have hP : va_P E.1 CL (([(cw, .inr (1, [.ref stA, .ref oaA, .ref osA, iv hsn, .ref hdA, .ref spA, .ref bfA, .ref lnA, .ref prA, iv ep, .null]))] : va_W) ++ ([(la, loA (E.2 5) zf)] : va_W)) H := hP
    have hD : va_D A (([(cw, .inr (1, [.ref stA, .ref oaA, .ref osA, iv hsn, .ref hdA, .ref spA, .ref bfA, .ref lnA, .ref prA, iv ep, .null]))] : va_W) ++ ([(la, loA (E.2 5) zf)] : va_W)) := hD
    have hz9 : c_zero (0 : Int) = 0 := hu_4
    refine lv_i2l (v := (iI (0 : Int)).toInt64) hx hb dX0_refusalCause_6 rfl ?_
    refine n_last1 hx hb hK.1 hP hD hS 1 rfl dX0_refusalCause_7 (ws2 := ([(cw, .inr (1, [.ref stA, .ref oaA, .ref osA, iv hsn, .ref hdA, .ref spA, .ref bfA, .ref lnA, .ref prA, iv ep, .null]))] : va_W) ++ ([(la, loA (E.2 5) (vp_updL zf 0 ((iI (0 : Int)).toInt64)))] : va_W)) rfl (fun H locs hP hD hS => ?_)
    have hP : va_P E.1 CL (([(cw, .inr (1, [.ref stA, .ref oaA, .ref osA, iv hsn, .ref hdA, .ref spA, .ref bfA, .ref lnA, .ref prA, iv ep, .null]))] : va_W) ++ ([(la, loA (E.2 5) (vp_updL zf 0 ((iI (0 : Int)).toInt64)))] : va_W)) H := hP
    have hD : va_D A (([(cw, .inr (1, [.ref stA, .ref oaA, .ref osA, iv hsn, .ref hdA, .ref spA, .ref bfA, .ref lnA, .ref prA, iv ep, .null]))] : va_W) ++ ([(la, loA (E.2 5) (vp_updL zf 0 ((iI (0 : Int)).toInt64)))] : va_W)) := hD
    refine lv_goto (tgt := 14) hx hb dX0_refusalCause_8 (by decide) ?_
    refine lv_iconst (v := iI 0) hx hb dX0_refusalCause_14 rfl ?_
    have hfin : 0 = c_zero (0 : Int) := by
      first | exact hz9.symm | exact hk9.symm
    refine vx_ret ?_
    refine W.widen (k := 2) (n := 12) (Nat.le_of_ble_eq_true rfl) (Nat.le_of_ble_eq_true rfl) ?_
    exact W.iret (v := iI 0) hx hb hr (fun tt_ ht_ hW_ => ⟨⟨iI 0, .inl (u_4, (vp_updL zf 0 ((iI (0 : Int)).toInt64))), rfl, ⟨(show (c_zero (0 : Int) = 0) ∧ c_zero (0 : Int) = 0 ∧ (u_4, (vp_updL zf 0 ((iI (0 : Int)).toInt64))).2 0 = (iI (0 : Int)).toInt64 from ⟨hu_4, hz9, rfl⟩), (congrArg iI hfin)⟩, by rw [ht_]; exact hP, hD⟩, hS.F ht_⟩) hS.2.2 dX0_refusalCause_15
set_option maxHeartbeats 2000000 in
set_option maxRecDepth 100000 in
theorem mt_X0_refusalCause_b (l : Launch) (E : EE) (cw : Nat) (stA : Nat) (oaA : Nat) (osA : Nat) (hsn : Int) (hdA : Nat) (spA : Nat) (bfA : Nat) (lnA : Nat) (prA : Nat) (ep : Int) (rq : Nat) (pv0 : Value) (pv1 : Value) (pv2 : Value) (pv3 : Value) (pv4 : Value) (pv5 : Value) (wr : Int) (wd : Int) (la : Nat) (zf : Nat → Int64) (hst : l.stackTraces = false) (hwr : 0 < wr ∧ wr < 100) (hwd : -2147483648 ≤ wd ∧ wd < 2147483648) (sz : Nat) : vx_Met l yX0_refusalCause (wsW_ yX0_refusalCause cX0_refusalCause 3 (some .int) [(0, 8, 11, 21)]) { frames := 10, cells := 2, slots := 12, locals := 220 } (va_Pc [.ref cw, .ref la] (UX E (([(cw, .inr (1, [.ref stA, .ref oaA, .ref osA, iv hsn, .ref hdA, .ref spA, .ref bfA, .ref lnA, .ref prA, iv ep, .ref rq]))] : va_W) ++ ([(rq, .inr (5, [pv0, pv1, pv2, pv3, pv4, pv5, iv wr, iv wd, .null]))] : va_W) ++ ([(la, loA (E.2 5) zf)] : va_W)) sz)) (UQx E (Sum.elim (fun u : (Unit) × (Nat → Int64) => (c_zero (0 : Int) = 0) ∧ c_zero (0 : Int) = 0 ∧ u.2 0 = (iI (0 : Int)).toInt64) (fun u : Unit => 0 < c_zero (0 : Int) ∧ ∃ En : String, En = "java/util/NoSuchElementException" ∧ c_zero (0 : Int) = 1)) (fun _ => c_zero (0 : Int)) (Sum.elim (fun u : (Unit) × (Nat → Int64) => ([(cw, .inr (1, [.ref stA, .ref oaA, .ref osA, iv hsn, .ref hdA, .ref spA, .ref bfA, .ref lnA, .ref prA, iv ep, .ref rq]))] : va_W) ++ ([(rq, .inr (5, [pv0, pv1, pv2, pv3, pv4, pv5, iv wr, iv wd, .null]))] : va_W) ++ ([(la, loA (E.2 5) u.2)] : va_W)) (fun u : Unit => ([(cw, .inr (1, [.ref stA, .ref oaA, .ref osA, iv hsn, .ref hdA, .ref spA, .ref bfA, .ref lnA, .ref prA, iv ep, .ref rq]))] : va_W) ++ ([(rq, .inr (5, [pv0, pv1, pv2, pv3, pv4, pv5, iv wr, iv wd, .null]))] : va_W) ++ ([(la, loA (E.2 5) zf)] : va_W))) (va_A (([(cw, .inr (1, [.ref stA, .ref oaA, .ref osA, iv hsn, .ref hdA, .ref spA, .ref bfA, .ref lnA, .ref prA, iv ep, .ref rq]))] : va_W) ++ ([(rq, .inr (5, [pv0, pv1, pv2, pv3, pv4, pv5, iv wr, iv wd, .null]))] : va_W) ++ ([(la, loA (E.2 5) zf)] : va_W)) sz)) (UXx E (fun (_ : String) (_ : Unit) => False) (fun _ : Unit => []) (fun _ : Unit => none) (va_A (([(cw, .inr (1, [.ref stA, .ref oaA, .ref osA, iv hsn, .ref hdA, .ref spA, .ref bfA, .ref lnA, .ref prA, iv ep, .ref rq]))] : va_W) ++ ([(rq, .inr (5, [pv0, pv1, pv2, pv3, pv4, pv5, iv wr, iv wd, .null]))] : va_W) ++ ([(la, loA (E.2 5) zf)] : va_W)) sz)) 2 12 (va_A (([(cw, .inr (1, [.ref stA, .ref oaA, .ref osA, iv hsn, .ref hdA, .ref spA, .ref bfA, .ref lnA, .ref prA, iv ep, .ref rq]))] : va_W) ++ ([(rq, .inr (5, [pv0, pv1, pv2, pv3, pv4, pv5, iv wr, iv wd, .null]))] : va_W) ++ ([(la, loA (E.2 5) zf)] : va_W)) sz) := by
  refine vx_ofWH (hh := [(0, 8, 11, 21)]) (cc := cX0_refusalCause) (maxL := 3) (ret := (some .int)) (by decide) rfl ?_
  intro p e s m args below meth c s₁ B hml hv
  obtain ⟨rfl, hsz, hP, hK, hD0, hE⟩ := hv
  have hx := B.exec
  have hb := B.bytes
  have hr := B.returns
  have hts := atoms_spec (ws := (wsW_ yX0_refusalCause cX0_refusalCause 3 (some .int) [(0, 8, 11, 21)])) B.pre
  have htab : c.exceptionTable.toList = tableOf [(0, 8, 11, 21)] := vx_table (x := yX0_refusalCause) B (hts _ List.mem_cons_self)
  have hts : ∀ w ∈ lw_all, w.before _ s = true := fun w h => hts w (List.mem_cons_of_mem _ h)
  have hown : s.vm.findClass RX0 = some m.cls := findClass_of_methodNamed B.named
  have hlocks := B.notSynchronized
  subst hsz
  have hD := hD0.self (sz := s.heap.size)
  generalize hAe : va_A (([(cw, .inr (1, [.ref stA, .ref oaA, .ref osA, iv hsn, .ref hdA, .ref spA, .ref bfA, .ref lnA, .ref prA, iv ep, .ref rq]))] : va_W) ++ ([(rq, .inr (5, [pv0, pv1, pv2, pv3, pv4, pv5, iv wr, iv wd, .null]))] : va_W) ++ ([(la, loA (E.2 5) zf)] : va_W)) s.heap.size = A at hD hE ⊢
  have hA : ∀ q : Nat, s.heap.size ≤ q → A q := fun q h => by rw [← hAe]; exact Or.inr h
  have hS : va_S A s.heap s.heap [] := va_S.rf
  have hl := lv_entry ([.ref cw, .ref la]) (n := 3) (Nat.le_of_ble_eq_true rfl)
  rw [lg_entry_eq]
  generalize (lg_sl ([.ref cw, .ref la]) ++ List.replicate (3 - (lg_sl ([.ref cw, .ref la])).length) Slot.unset).toArray = ls at hl ⊢
  have hl : lv_has ls 3 [(0, .ref cw), (1, .ref la)] := hl
  refine lv_aload_n hx hb dX0_refusalCause_0 rfl (lv_at hl 1 rfl) ?_
  refine lv_iconst (v := iI 0) hx hb dX0_refusalCause_1 rfl ?_
  refine lv_aload_n hx hb dX0_refusalCause_2 rfl (lv_at hl 0 rfl) ?_
  have hg_1 : gpick [[(cw, .inr (1, [.ref stA, .ref oaA, .ref osA, iv hsn, .ref hdA, .ref spA, .ref bfA, .ref lnA, .ref prA, iv ep, .ref rq]))], [(rq, .inr (5, [pv0, pv1, pv2, pv3, pv4, pv5, iv wr, iv wd, .null]))], [(la, loA (E.2 5) zf)]] ([[(cw, .inr (1, [.ref stA, .ref oaA, .ref osA, iv hsn, .ref hdA, .ref spA, .ref bfA, .ref lnA, .ref prA, iv ep, .ref rq]))], [(rq, .inr (5, [pv0, pv1, pv2, pv3, pv4, pv5, iv wr, iv wd, .null]))]] ++ [[(la, loA (E.2 5) zf)]]) [0, 1, 2] := ⟨rfl, (show List.Perm [0, 1, 2] (List.range 3) from by decide)⟩
  have hg_1P : va_P E.1 CL (([(cw, .inr (1, [.ref stA, .ref oaA, .ref osA, iv hsn, .ref hdA, .ref spA, .ref bfA, .ref lnA, .ref prA, iv ep, .ref rq]))] : va_W) ++ ([(rq, .inr (5, [pv0, pv1, pv2, pv3, pv4, pv5, iv wr, iv wd, .null]))] : va_W)) s.heap := (g_out hg_1 hP hD).1
  have hg_1D : va_D A (([(cw, .inr (1, [.ref stA, .ref oaA, .ref osA, iv hsn, .ref hdA, .ref spA, .ref bfA, .ref lnA, .ref prA, iv ep, .ref rq]))] : va_W) ++ ([(rq, .inr (5, [pv0, pv1, pv2, pv3, pv4, pv5, iv wr, iv wd, .null]))] : va_W)) := (g_out hg_1 hP hD).2
  have hg_1F : ∀ q, va_A (([(cw, .inr (1, [.ref stA, .ref oaA, .ref osA, iv hsn, .ref hdA, .ref spA, .ref bfA, .ref lnA, .ref prA, iv ep, .ref rq]))] : va_W) ++ ([(rq, .inr (5, [pv0, pv1, pv2, pv3, pv4, pv5, iv wr, iv wd, .null]))] : va_W)) s.heap.size q → A q := g_free hg_1 hP hD hS hA
  have hlt_2 := P_lts hP
  have hz_3 : s.heap.size ≤ s.heap.size := hS.1
  have hj_6 : ∀ u_4 : Unit, gpick ([[(cw, .inr (1, [.ref stA, .ref oaA, .ref osA, iv hsn, .ref hdA, .ref spA, .ref bfA, .ref lnA, .ref prA, iv ep, .ref rq]))], [(rq, .inr (5, [pv0, pv1, pv2, pv3, pv4, pv5, iv wr, iv wd, .null]))]] ++ [[(la, loA (E.2 5) zf)]]) [[(cw, .inr (1, [.ref stA, .ref oaA, .ref osA, iv hsn, .ref hdA, .ref spA, .ref bfA, .ref lnA, .ref prA, iv ep, .ref rq]))], [(rq, .inr (5, [pv0, pv1, pv2, pv3, pv4, pv5, iv wr, iv wd, .null]))], [(la, loA (E.2 5) zf)]] [0, 1, 2] := fun u_4 => ⟨rfl, (show List.Perm [0, 1, 2] (List.range 3) from by decide)⟩
  have hj_7 : ∀ u_5 : Unit, gpick ([[(cw, .inr (1, [.ref stA, .ref oaA, .ref osA, iv hsn, .ref hdA, .ref spA, .ref bfA, .ref lnA, .ref prA, iv ep, .ref rq]))], [(rq, .inr (5, [pv0, pv1, pv2, pv3, pv4, pv5, iv wr, iv wd, .null]))]] ++ [[(la, loA (E.2 5) zf)]]) [[(cw, .inr (1, [.ref stA, .ref oaA, .ref osA, iv hsn, .ref hdA, .ref spA, .ref bfA, .ref lnA, .ref prA, iv ep, .ref rq]))], [(rq, .inr (5, [pv0, pv1, pv2, pv3, pv4, pv5, iv wr, iv wd, .null]))], [(la, loA (E.2 5) zf)]] [0, 1, 2] := fun u_5 => ⟨rfl, (show List.Perm [0, 1, 2] (List.range 3) from by decide)⟩
  refine n_txB (x := fun u_4 => (0 : Int)) (w2 := fun u_4 : Unit => ([(cw, .inr (1, [.ref stA, .ref oaA, .ref osA, iv hsn, .ref hdA, .ref spA, .ref bfA, .ref lnA, .ref prA, iv ep, .ref rq]))] : va_W) ++ ([(rq, .inr (5, [pv0, pv1, pv2, pv3, pv4, pv5, iv wr, iv wd, .null]))] : va_W) ++ ([(la, loA (E.2 5) zf)] : va_W)) (w3 := fun u_5 : Unit => ([(cw, .inr (1, [.ref stA, .ref oaA, .ref osA, iv hsn, .ref hdA, .ref spA, .ref bfA, .ref lnA, .ref prA, iv ep, .ref rq]))] : va_W) ++ ([(rq, .inr (5, [pv0, pv1, pv2, pv3, pv4, pv5, iv wr, iv wd, .null]))] : va_W) ++ ([(la, loA (E.2 5) zf)] : va_W)) (vx_runV (As := []) (rest := [iv 0, .ref la]) ⟨hx, hb, hml, hown, hts⟩ (mt_X1_refusalCause_b l E cw stA oaA osA hsn hdA spA bfA lnA prA ep rq pv0 pv1 pv2 pv3 pv4 pv5 wr wd  (by exact hst) (by assumption) (by omega) _) (cwV 0 hts (lw_V q1399 q1400 q1401 q94 q1402) rfl rfl rfl (by decide +kernel) ⟨Nat.le_of_ble_eq_true rfl, Nat.le_of_ble_eq_true rfl⟩) (UX_V hg_1P hK (hg_1D) hE hS hg_1F (va_recv hK.1 hP (ci := 1) (q0 := 0) rfl rfl)) rfl rfl hl.1 rfl (lv_room (Nat.le_of_ble_eq_true rfl)) dX0_refusalCause_3 ⟨Nat.le_of_ble_eq_true rfl, Nat.le_of_ble_eq_true rfl⟩) hS hg_1F ?_ ?_ ?_ ?_
  · exact (fun u_4 _ hk9 hp9 hd9 => g_back hg_1 (hj_6 u_4) hP hD hg_1F hk9 hp9 hd9)
  · exact (fun u_5 _ hk9 hp9 hd9 => g_back hg_1 (hj_7 u_5) hP hD hg_1F hk9 hp9 hd9)
  · intro En ce q9 u_5 H locs hCx hP hD hS hxf hq9 hce hcv hcl
    have hCx : En = "java/util/NoSuchElementException" ∧ c_zero (0 : Int) = 1 := hCx
    have hP : va_P E.1 CL (([(cw, .inr (1, [.ref stA, .ref oaA, .ref osA, iv hsn, .ref hdA, .ref spA, .ref bfA, .ref lnA, .ref prA, iv ep, .ref rq]))] : va_W) ++ ([(rq, .inr (5, [pv0, pv1, pv2, pv3, pv4, pv5, iv wr, iv wd, .null]))] : va_W) ++ ([(la, loA (E.2 5) zf)] : va_W)) H := hP
    have hD : va_D A (([(cw, .inr (1, [.ref stA, .ref oaA, .ref osA, iv hsn, .ref hdA, .ref spA, .ref bfA, .ref lnA, .ref prA, iv ep, .ref rq]))] : va_W) ++ ([(rq, .inr (5, [pv0, pv1, pv2, pv3, pv4, pv5, iv wr, iv wd, .null]))] : va_W) ++ ([(la, loA (E.2 5) zf)] : va_W)) := hD
    have hcx9 := hCx
    obtain ⟨hEn9, hk9⟩ := hCx
    subst hEn9
    refine vx_catch (own := "ClockworkTailorLaw") hown [] _ [] htab (fun z hz => by cases hz) (by decide) (by decide) (name := "java/util/NoSuchElementException") (hts _ q951) (hK.nw q976) hce hcv hcl ?_
    refine lv_astore_n (lv' := [(2, .ref q9), (0, .ref cw), (1, .ref la)]) hx hb dX0_refusalCause_11 rfl hl (by decide) rfl (fun ls hl => ?_)
    refine lv_iconst (v := iI 1) hx hb dX0_refusalCause_12 rfl ?_
    have hfin : 1 = c_zero (0 : Int) := by
      first | exact hz9.symm | exact hk9.symm
    refine vx_ret ?_
    refine W.widen (k := 2) (n := 12) (Nat.le_of_ble_eq_true rfl) (Nat.le_of_ble_eq_true rfl) ?_
    exact W.iret (v := iI 1) hx hb hr (fun tt_ ht_ hW_ => ⟨⟨iI 1, .inr u_5, rfl, ⟨(show 0 < c_zero (0 : Int) ∧ ∃ En : String, En = "java/util/NoSuchElementException" ∧ c_zero (0 : Int) = 1 from ⟨(by omega), _, hcx9⟩), (congrArg iI hfin)⟩, by rw [ht_]; exact hP, hD⟩, hS.F ht_⟩) hS.2.2 dX0_refusalCause_13
  · intro u_4 H locs hC hP hD hS
    have hu_4 : c_zero (0 : Int) = 0 := hC
    have hP : va_P E.1 CL (([(cw, .inr (1, [.ref stA, .ref oaA, .ref osA, iv hsn, .ref hdA, .ref spA, .ref bfA, .ref lnA, .ref prA, iv ep, .ref rq]))] : va_W) ++ ([(rq, .inr (5, [pv0, pv1, pv2, pv3, pv4, pv5, iv wr, iv wd, .null]))] : va_W) ++ ([(la, loA (E.2 5) zf)] : va_W)) H := hP
    have hD : va_D A (([(cw, .inr (1, [.ref stA, .ref oaA, .ref osA, iv hsn, .ref hdA, .ref spA, .ref bfA, .ref lnA, .ref prA, iv ep, .ref rq]))] : va_W) ++ ([(rq, .inr (5, [pv0, pv1, pv2, pv3, pv4, pv5, iv wr, iv wd, .null]))] : va_W) ++ ([(la, loA (E.2 5) zf)] : va_W)) := hD
    have hz9 : c_zero (0 : Int) = 0 := hu_4
    refine lv_i2l (v := (iI (0 : Int)).toInt64) hx hb dX0_refusalCause_6 rfl ?_
    refine n_last1 hx hb hK.1 hP hD hS 2 rfl dX0_refusalCause_7 (ws2 := ([(cw, .inr (1, [.ref stA, .ref oaA, .ref osA, iv hsn, .ref hdA, .ref spA, .ref bfA, .ref lnA, .ref prA, iv ep, .ref rq]))] : va_W) ++ ([(rq, .inr (5, [pv0, pv1, pv2, pv3, pv4, pv5, iv wr, iv wd, .null]))] : va_W) ++ ([(la, loA (E.2 5) (vp_updL zf 0 ((iI (0 : Int)).toInt64)))] : va_W)) rfl (fun H locs hP hD hS => ?_)
    have hP : va_P E.1 CL (([(cw, .inr (1, [.ref stA, .ref oaA, .ref osA, iv hsn, .ref hdA, .ref spA, .ref bfA, .ref lnA, .ref prA, iv ep, .ref rq]))] : va_W) ++ ([(rq, .inr (5, [pv0, pv1, pv2, pv3, pv4, pv5, iv wr, iv wd, .null]))] : va_W) ++ ([(la, loA (E.2 5) (vp_updL zf 0 ((iI (0 : Int)).toInt64)))] : va_W)) H := hP
    have hD : va_D A (([(cw, .inr (1, [.ref stA, .ref oaA, .ref osA, iv hsn, .ref hdA, .ref spA, .ref bfA, .ref lnA, .ref prA, iv ep, .ref rq]))] : va_W) ++ ([(rq, .inr (5, [pv0, pv1, pv2, pv3, pv4, pv5, iv wr, iv wd, .null]))] : va_W) ++ ([(la, loA (E.2 5) (vp_updL zf 0 ((iI (0 : Int)).toInt64)))] : va_W)) := hD
    refine lv_goto (tgt := 14) hx hb dX0_refusalCause_8 (by decide) ?_
    refine lv_iconst (v := iI 0) hx hb dX0_refusalCause_14 rfl ?_
    have hfin : 0 = c_zero (0 : Int) := by
      first | exact hz9.symm | exact hk9.symm
    refine vx_ret ?_
    refine W.widen (k := 2) (n := 12) (Nat.le_of_ble_eq_true rfl) (Nat.le_of_ble_eq_true rfl) ?_
    exact W.iret (v := iI 0) hx hb hr (fun tt_ ht_ hW_ => ⟨⟨iI 0, .inl (u_4, (vp_updL zf 0 ((iI (0 : Int)).toInt64))), rfl, ⟨(show (c_zero (0 : Int) = 0) ∧ c_zero (0 : Int) = 0 ∧ (u_4, (vp_updL zf 0 ((iI (0 : Int)).toInt64))).2 0 = (iI (0 : Int)).toInt64 from ⟨hu_4, hz9, rfl⟩), (congrArg iI hfin)⟩, by rw [ht_]; exact hP, hD⟩, hS.F ht_⟩) hS.2.2 dX0_refusalCause_15
set_option maxHeartbeats 2000000 in
set_option maxRecDepth 100000 in
theorem mt_X0_refusalCause_c (l : Launch) (E : EE) (cw : Nat) (stA : Nat) (oaA : Nat) (osA : Nat) (hsn : Int) (hdA : Nat) (spA : Nat) (bfA : Nat) (lnA : Nat) (prA : Nat) (ep : Int) (rq : Nat) (pv0 : Value) (pv1 : Value) (pv2 : Value) (pv3 : Value) (pv4 : Value) (pv5 : Value) (wr : Int) (wd : Int) (rq2 : Nat) (pw0 : Value) (pw1 : Value) (pw2 : Value) (pw3 : Value) (pw4 : Value) (pw5 : Value) (ws : Int) (wt : Int) (la : Nat) (zf : Nat → Int64) (hst : l.stackTraces = false) (hwr : 0 < wr ∧ wr < 100) (hwd : -2147483648 ≤ wd ∧ wd < 2147483648) (hws : 0 < ws ∧ ws < 100) (sz : Nat) : vx_Met l yX0_refusalCause (wsW_ yX0_refusalCause cX0_refusalCause 3 (some .int) [(0, 8, 11, 21)]) { frames := 10, cells := 2, slots := 12, locals := 220 } (va_Pc [.ref cw, .ref la] (UX E (([(cw, .inr (1, [.ref stA, .ref oaA, .ref osA, iv hsn, .ref hdA, .ref spA, .ref bfA, .ref lnA, .ref prA, iv ep, .ref rq]))] : va_W) ++ ([(rq, .inr (5, [pv0, pv1, pv2, pv3, pv4, pv5, iv wr, iv wd, .ref rq2]))] : va_W) ++ ([(rq2, .inr (5, [pw0, pw1, pw2, pw3, pw4, pw5, iv ws, iv wt, .null]))] : va_W) ++ ([(la, loA (E.2 5) zf)] : va_W)) sz)) (UQx E (Sum.elim (fun u : (Unit) × (Nat → Int64) => (c_zero ws = 0) ∧ c_zero ws = 0 ∧ u.2 0 = (iI ws).toInt64) (fun u : Unit => 0 < c_zero ws ∧ ∃ En : String, En = "java/util/NoSuchElementException" ∧ c_zero ws = 1)) (fun _ => c_zero ws) (Sum.elim (fun u : (Unit) × (Nat → Int64) => ([(cw, .inr (1, [.ref stA, .ref oaA, .ref osA, iv hsn, .ref hdA, .ref spA, .ref bfA, .ref lnA, .ref prA, iv ep, .ref rq]))] : va_W) ++ ([(rq, .inr (5, [pv0, pv1, pv2, pv3, pv4, pv5, iv wr, iv wd, .ref rq2]))] : va_W) ++ ([(rq2, .inr (5, [pw0, pw1, pw2, pw3, pw4, pw5, iv ws, iv wt, .null]))] : va_W) ++ ([(la, loA (E.2 5) u.2)] : va_W)) (fun u : Unit => ([(cw, .inr (1, [.ref stA, .ref oaA, .ref osA, iv hsn, .ref hdA, .ref spA, .ref bfA, .ref lnA, .ref prA, iv ep, .ref rq]))] : va_W) ++ ([(rq, .inr (5, [pv0, pv1, pv2, pv3, pv4, pv5, iv wr, iv wd, .ref rq2]))] : va_W) ++ ([(rq2, .inr (5, [pw0, pw1, pw2, pw3, pw4, pw5, iv ws, iv wt, .null]))] : va_W) ++ ([(la, loA (E.2 5) zf)] : va_W))) (va_A (([(cw, .inr (1, [.ref stA, .ref oaA, .ref osA, iv hsn, .ref hdA, .ref spA, .ref bfA, .ref lnA, .ref prA, iv ep, .ref rq]))] : va_W) ++ ([(rq, .inr (5, [pv0, pv1, pv2, pv3, pv4, pv5, iv wr, iv wd, .ref rq2]))] : va_W) ++ ([(rq2, .inr (5, [pw0, pw1, pw2, pw3, pw4, pw5, iv ws, iv wt, .null]))] : va_W) ++ ([(la, loA (E.2 5) zf)] : va_W)) sz)) (UXx E (fun (_ : String) (_ : Unit) => False) (fun _ : Unit => []) (fun _ : Unit => none) (va_A (([(cw, .inr (1, [.ref stA, .ref oaA, .ref osA, iv hsn, .ref hdA, .ref spA, .ref bfA, .ref lnA, .ref prA, iv ep, .ref rq]))] : va_W) ++ ([(rq, .inr (5, [pv0, pv1, pv2, pv3, pv4, pv5, iv wr, iv wd, .ref rq2]))] : va_W) ++ ([(rq2, .inr (5, [pw0, pw1, pw2, pw3, pw4, pw5, iv ws, iv wt, .null]))] : va_W) ++ ([(la, loA (E.2 5) zf)] : va_W)) sz)) 2 12 (va_A (([(cw, .inr (1, [.ref stA, .ref oaA, .ref osA, iv hsn, .ref hdA, .ref spA, .ref bfA, .ref lnA, .ref prA, iv ep, .ref rq]))] : va_W) ++ ([(rq, .inr (5, [pv0, pv1, pv2, pv3, pv4, pv5, iv wr, iv wd, .ref rq2]))] : va_W) ++ ([(rq2, .inr (5, [pw0, pw1, pw2, pw3, pw4, pw5, iv ws, iv wt, .null]))] : va_W) ++ ([(la, loA (E.2 5) zf)] : va_W)) sz) := by
  refine vx_ofWH (hh := [(0, 8, 11, 21)]) (cc := cX0_refusalCause) (maxL := 3) (ret := (some .int)) (by decide) rfl ?_
  intro p e s m args below meth c s₁ B hml hv
  obtain ⟨rfl, hsz, hP, hK, hD0, hE⟩ := hv
  have hx := B.exec
  have hb := B.bytes
  have hr := B.returns
  have hts := atoms_spec (ws := (wsW_ yX0_refusalCause cX0_refusalCause 3 (some .int) [(0, 8, 11, 21)])) B.pre
  have htab : c.exceptionTable.toList = tableOf [(0, 8, 11, 21)] := vx_table (x := yX0_refusalCause) B (hts _ List.mem_cons_self)
  have hts : ∀ w ∈ lw_all, w.before _ s = true := fun w h => hts w (List.mem_cons_of_mem _ h)
  have hown : s.vm.findClass RX0 = some m.cls := findClass_of_methodNamed B.named
  have hlocks := B.notSynchronized
  subst hsz
  have hD := hD0.self (sz := s.heap.size)
  generalize hAe : va_A (([(cw, .inr (1, [.ref stA, .ref oaA, .ref osA, iv hsn, .ref hdA, .ref spA, .ref bfA, .ref lnA, .ref prA, iv ep, .ref rq]))] : va_W) ++ ([(rq, .inr (5, [pv0, pv1, pv2, pv3, pv4, pv5, iv wr, iv wd, .ref rq2]))] : va_W) ++ ([(rq2, .inr (5, [pw0, pw1, pw2, pw3, pw4, pw5, iv ws, iv wt, .null]))] : va_W) ++ ([(la, loA (E.2 5) zf)] : va_W)) s.heap.size = A at hD hE ⊢
  have hA : ∀ q : Nat, s.heap.size ≤ q → A q := fun q h => by rw [← hAe]; exact Or.inr h
  have hS : va_S A s.heap s.heap [] := va_S.rf
  have hl := lv_entry ([.ref cw, .ref la]) (n := 3) (Nat.le_of_ble_eq_true rfl)
  rw [lg_entry_eq]
  generalize (lg_sl ([.ref cw, .ref la]) ++ List.replicate (3 - (lg_sl ([.ref cw, .ref la])).length) Slot.unset).toArray = ls at hl ⊢
  have hl : lv_has ls 3 [(0, .ref cw), (1, .ref la)] := hl
  refine lv_aload_n hx hb dX0_refusalCause_0 rfl (lv_at hl 1 rfl) ?_
  refine lv_iconst (v := iI 0) hx hb dX0_refusalCause_1 rfl ?_
  refine lv_aload_n hx hb dX0_refusalCause_2 rfl (lv_at hl 0 rfl) ?_
  have hg_1 : gpick [[(cw, .inr (1, [.ref stA, .ref oaA, .ref osA, iv hsn, .ref hdA, .ref spA, .ref bfA, .ref lnA, .ref prA, iv ep, .ref rq]))], [(rq, .inr (5, [pv0, pv1, pv2, pv3, pv4, pv5, iv wr, iv wd, .ref rq2]))], [(rq2, .inr (5, [pw0, pw1, pw2, pw3, pw4, pw5, iv ws, iv wt, .null]))], [(la, loA (E.2 5) zf)]] ([[(cw, .inr (1, [.ref stA, .ref oaA, .ref osA, iv hsn, .ref hdA, .ref spA, .ref bfA, .ref lnA, .ref prA, iv ep, .ref rq]))], [(rq, .inr (5, [pv0, pv1, pv2, pv3, pv4, pv5, iv wr, iv wd, .ref rq2]))], [(rq2, .inr (5, [pw0, pw1, pw2, pw3, pw4, pw5, iv ws, iv wt, .null]))]] ++ [[(la, loA (E.2 5) zf)]]) [0, 1, 2, 3] := ⟨rfl, (show List.Perm [0, 1, 2, 3] (List.range 4) from by decide)⟩
  have hg_1P : va_P E.1 CL (([(cw, .inr (1, [.ref stA, .ref oaA, .ref osA, iv hsn, .ref hdA, .ref spA, .ref bfA, .ref lnA, .ref prA, iv ep, .ref rq]))] : va_W) ++ ([(rq, .inr (5, [pv0, pv1, pv2, pv3, pv4, pv5, iv wr, iv wd, .ref rq2]))] : va_W) ++ ([(rq2, .inr (5, [pw0, pw1, pw2, pw3, pw4, pw5, iv ws, iv wt, .null]))] : va_W)) s.heap := (g_out hg_1 hP hD).1
  have hg_1D : va_D A (([(cw, .inr (1, [.ref stA, .ref oaA, .ref osA, iv hsn, .ref hdA, .ref spA, .ref bfA, .ref lnA, .ref prA, iv ep, .ref rq]))] : va_W) ++ ([(rq, .inr (5, [pv0, pv1, pv2, pv3, pv4, pv5, iv wr, iv wd, .ref rq2]))] : va_W) ++ ([(rq2, .inr (5, [pw0, pw1, pw2, pw3, pw4, pw5, iv ws, iv wt, .null]))] : va_W)) := (g_out hg_1 hP hD).2
  have hg_1F : ∀ q, va_A (([(cw, .inr (1, [.ref stA, .ref oaA, .ref osA, iv hsn, .ref hdA, .ref spA, .ref bfA, .ref lnA, .ref prA, iv ep, .ref rq]))] : va_W) ++ ([(rq, .inr (5, [pv0, pv1, pv2, pv3, pv4, pv5, iv wr, iv wd, .ref rq2]))] : va_W) ++ ([(rq2, .inr (5, [pw0, pw1, pw2, pw3, pw4, pw5, iv ws, iv wt, .null]))] : va_W)) s.heap.size q → A q := g_free hg_1 hP hD hS hA
  have hlt_2 := P_lts hP
  have hz_3 : s.heap.size ≤ s.heap.size := hS.1
  have hj_6 : ∀ u_4 : Unit, gpick ([[(cw, .inr (1, [.ref stA, .ref oaA, .ref osA, iv hsn, .ref hdA, .ref spA, .ref bfA, .ref lnA, .ref prA, iv ep, .ref rq]))], [(rq, .inr (5, [pv0, pv1, pv2, pv3, pv4, pv5, iv wr, iv wd, .ref rq2]))], [(rq2, .inr (5, [pw0, pw1, pw2, pw3, pw4, pw5, iv ws, iv wt, .null]))]] ++ [[(la, loA (E.2 5) zf)]]) [[(cw, .inr (1, [.ref stA, .ref oaA, .ref osA, iv hsn, .ref hdA, .ref spA, .ref bfA, .ref lnA, .ref prA, iv ep, .ref rq]))], [(rq, .inr (5, [pv0, pv1, pv2, pv3, pv4, pv5, iv wr, iv wd, .ref rq2]))], [(rq2, .inr (5, [pw0, pw1, pw2, pw3, pw4, pw5, iv ws, iv wt, .null]))], [(la, loA (E.2 5) zf)]] [0, 1, 2, 3] := fun u_4 => ⟨rfl, (show List.Perm [0, 1, 2, 3] (List.range 4) from by decide)⟩
  have hj_7 : ∀ u_5 : Unit, gpick ([[(cw, .inr (1, [.ref stA, .ref oaA, .ref osA, iv hsn, .ref hdA, .ref spA, .ref bfA, .ref lnA, .ref prA, iv ep, .ref rq]))], [(rq, .inr (5, [pv0, pv1, pv2, pv3, pv4, pv5, iv wr, iv wd, .ref rq2]))], [(rq2, .inr (5, [pw0, pw1, pw2, pw3, pw4, pw5, iv ws, iv wt, .null]))]] ++ [[(la, loA (E.2 5) zf)]]) [[(cw, .inr (1, [.ref stA, .ref oaA, .ref osA, iv hsn, .ref hdA, .ref spA, .ref bfA, .ref lnA, .ref prA, iv ep, .ref rq]))], [(rq, .inr (5, [pv0, pv1, pv2, pv3, pv4, pv5, iv wr, iv wd, .ref rq2]))], [(rq2, .inr (5, [pw0, pw1, pw2, pw3, pw4, pw5, iv ws, iv wt, .null]))], [(la, loA (E.2 5) zf)]] [0, 1, 2, 3] := fun u_5 => ⟨rfl, (show List.Perm [0, 1, 2, 3] (List.range 4) from by decide)⟩
  refine n_txB (x := fun u_4 => ws) (w2 := fun u_4 : Unit => ([(cw, .inr (1, [.ref stA, .ref oaA, .ref osA, iv hsn, .ref hdA, .ref spA, .ref bfA, .ref lnA, .ref prA, iv ep, .ref rq]))] : va_W) ++ ([(rq, .inr (5, [pv0, pv1, pv2, pv3, pv4, pv5, iv wr, iv wd, .ref rq2]))] : va_W) ++ ([(rq2, .inr (5, [pw0, pw1, pw2, pw3, pw4, pw5, iv ws, iv wt, .null]))] : va_W) ++ ([(la, loA (E.2 5) zf)] : va_W)) (w3 := fun u_5 : Unit => ([(cw, .inr (1, [.ref stA, .ref oaA, .ref osA, iv hsn, .ref hdA, .ref spA, .ref bfA, .ref lnA, .ref prA, iv ep, .ref rq]))] : va_W) ++ ([(rq, .inr (5, [pv0, pv1, pv2, pv3, pv4, pv5, iv wr, iv wd, .ref rq2]))] : va_W) ++ ([(rq2, .inr (5, [pw0, pw1, pw2, pw3, pw4, pw5, iv ws, iv wt, .null]))] : va_W) ++ ([(la, loA (E.2 5) zf)] : va_W)) (vx_runV (As := []) (rest := [iv 0, .ref la]) ⟨hx, hb, hml, hown, hts⟩ (mt_X1_refusalCause_c l E cw stA oaA osA hsn hdA spA bfA lnA prA ep rq pv0 pv1 pv2 pv3 pv4 pv5 wr wd rq2 pw0 pw1 pw2 pw3 pw4 pw5 ws wt  (by exact hst) (by assumption) (by omega) (by omega) _) (cwV 0 hts (lw_V q1399 q1400 q1401 q94 q1402) rfl rfl rfl (by decide +kernel) ⟨Nat.le_of_ble_eq_true rfl, Nat.le_of_ble_eq_true rfl⟩) (UX_V hg_1P hK (hg_1D) hE hS hg_1F (va_recv hK.1 hP (ci := 1) (q0 := 0) rfl rfl)) rfl rfl hl.1 rfl (lv_room (Nat.le_of_ble_eq_true rfl)) dX0_refusalCause_3 ⟨Nat.le_of_ble_eq_true rfl, Nat.le_of_ble_eq_true rfl⟩) hS hg_1F ?_ ?_ ?_ ?_
  · exact (fun u_4 _ hk9 hp9 hd9 => g_back hg_1 (hj_6 u_4) hP hD hg_1F hk9 hp9 hd9)
  · exact (fun u_5 _ hk9 hp9 hd9 => g_back hg_1 (hj_7 u_5) hP hD hg_1F hk9 hp9 hd9)
  · intro En ce q9 u_5 H locs hCx hP hD hS hxf hq9 hce hcv hcl
    have hCx : En = "java/util/NoSuchElementException" ∧ c_zero ws = 1 := hCx
    have hP : va_P E.1 CL (([(cw, .inr (1, [.ref stA, .ref oaA, .ref osA, iv hsn, .ref hdA, .ref spA, .ref bfA, .ref lnA, .ref prA, iv ep, .ref rq]))] : va_W) ++ ([(rq, .inr (5, [pv0, pv1, pv2, pv3, pv4, pv5, iv wr, iv wd, .ref rq2]))] : va_W) ++ ([(rq2, .inr (5, [pw0, pw1, pw2, pw3, pw4, pw5, iv ws, iv wt, .null]))] : va_W) ++ ([(la, loA (E.2 5) zf)] : va_W)) H := hP
    have hD : va_D A (([(cw, .inr (1, [.ref stA, .ref oaA, .ref osA, iv hsn, .ref hdA, .ref spA, .ref bfA, .ref lnA, .ref prA, iv ep, .ref rq]))] : va_W) ++ ([(rq, .inr (5, [pv0, pv1, pv2, pv3, pv4, pv5, iv wr, iv wd, .ref rq2]))] : va_W) ++ ([(rq2, .inr (5, [pw0, pw1, pw2, pw3, pw4, pw5, iv ws, iv wt, .null]))] : va_W) ++ ([(la, loA (E.2 5) zf)] : va_W)) := hD
    have hcx9 := hCx
    obtain ⟨hEn9, hk9⟩ := hCx
    subst hEn9
    refine vx_catch (own := "ClockworkTailorLaw") hown [] _ [] htab (fun z hz => by cases hz) (by decide) (by decide) (name := "java/util/NoSuchElementException") (hts _ q951) (hK.nw q976) hce hcv hcl ?_
    refine lv_astore_n (lv' := [(2, .ref q9), (0, .ref cw), (1, .ref la)]) hx hb dX0_refusalCause_11 rfl hl (by decide) rfl (fun ls hl => ?_)
    refine lv_iconst (v := iI 1) hx hb dX0_refusalCause_12 rfl ?_
    have hfin : 1 = c_zero ws := by
      first | exact hz9.symm | exact hk9.symm
    refine vx_ret ?_
    refine W.widen (k := 2) (n := 12) (Nat.le_of_ble_eq_true rfl) (Nat.le_of_ble_eq_true rfl) ?_
    exact W.iret (v := iI 1) hx hb hr (fun tt_ ht_ hW_ => ⟨⟨iI 1, .inr u_5, rfl, ⟨(show 0 < c_zero ws ∧ ∃ En : String, En = "java/util/NoSuchElementException" ∧ c_zero ws = 1 from ⟨(by omega), _, hcx9⟩), (congrArg iI hfin)⟩, by rw [ht_]; exact hP, hD⟩, hS.F ht_⟩) hS.2.2 dX0_refusalCause_13
  · intro u_4 H locs hC hP hD hS
    have hu_4 : c_zero ws = 0 := hC
    have hP : va_P E.1 CL (([(cw, .inr (1, [.ref stA, .ref oaA, .ref osA, iv hsn, .ref hdA, .ref spA, .ref bfA, .ref lnA, .ref prA, iv ep, .ref rq]))] : va_W) ++ ([(rq, .inr (5, [pv0, pv1, pv2, pv3, pv4, pv5, iv wr, iv wd, .ref rq2]))] : va_W) ++ ([(rq2, .inr (5, [pw0, pw1, pw2, pw3, pw4, pw5, iv ws, iv wt, .null]))] : va_W) ++ ([(la, loA (E.2 5) zf)] : va_W)) H := hP
    have hD : va_D A (([(cw, .inr (1, [.ref stA, .ref oaA, .ref osA, iv hsn, .ref hdA, .ref spA, .ref bfA, .ref lnA, .ref prA, iv ep, .ref rq]))] : va_W) ++ ([(rq, .inr (5, [pv0, pv1, pv2, pv3, pv4, pv5, iv wr, iv wd, .ref rq2]))] : va_W) ++ ([(rq2, .inr (5, [pw0, pw1, pw2, pw3, pw4, pw5, iv ws, iv wt, .null]))] : va_W) ++ ([(la, loA (E.2 5) zf)] : va_W)) := hD
    have hz9 : c_zero ws = 0 := hu_4
    refine lv_i2l (v := (iI ws).toInt64) hx hb dX0_refusalCause_6 rfl ?_
    refine n_last1 hx hb hK.1 hP hD hS 3 rfl dX0_refusalCause_7 (ws2 := ([(cw, .inr (1, [.ref stA, .ref oaA, .ref osA, iv hsn, .ref hdA, .ref spA, .ref bfA, .ref lnA, .ref prA, iv ep, .ref rq]))] : va_W) ++ ([(rq, .inr (5, [pv0, pv1, pv2, pv3, pv4, pv5, iv wr, iv wd, .ref rq2]))] : va_W) ++ ([(rq2, .inr (5, [pw0, pw1, pw2, pw3, pw4, pw5, iv ws, iv wt, .null]))] : va_W) ++ ([(la, loA (E.2 5) (vp_updL zf 0 ((iI ws).toInt64)))] : va_W)) rfl (fun H locs hP hD hS => ?_)
    have hP : va_P E.1 CL (([(cw, .inr (1, [.ref stA, .ref oaA, .ref osA, iv hsn, .ref hdA, .ref spA, .ref bfA, .ref lnA, .ref prA, iv ep, .ref rq]))] : va_W) ++ ([(rq, .inr (5, [pv0, pv1, pv2, pv3, pv4, pv5, iv wr, iv wd, .ref rq2]))] : va_W) ++ ([(rq2, .inr (5, [pw0, pw1, pw2, pw3, pw4, pw5, iv ws, iv wt, .null]))] : va_W) ++ ([(la, loA (E.2 5) (vp_updL zf 0 ((iI ws).toInt64)))] : va_W)) H := hP
    have hD : va_D A (([(cw, .inr (1, [.ref stA, .ref oaA, .ref osA, iv hsn, .ref hdA, .ref spA, .ref bfA, .ref lnA, .ref prA, iv ep, .ref rq]))] : va_W) ++ ([(rq, .inr (5, [pv0, pv1, pv2, pv3, pv4, pv5, iv wr, iv wd, .ref rq2]))] : va_W) ++ ([(rq2, .inr (5, [pw0, pw1, pw2, pw3, pw4, pw5, iv ws, iv wt, .null]))] : va_W) ++ ([(la, loA (E.2 5) (vp_updL zf 0 ((iI ws).toInt64)))] : va_W)) := hD
    refine lv_goto (tgt := 14) hx hb dX0_refusalCause_8 (by decide) ?_
    refine lv_iconst (v := iI 0) hx hb dX0_refusalCause_14 rfl ?_
    have hfin : 0 = c_zero ws := by
      first | exact hz9.symm | exact hk9.symm
    refine vx_ret ?_
    refine W.widen (k := 2) (n := 12) (Nat.le_of_ble_eq_true rfl) (Nat.le_of_ble_eq_true rfl) ?_
    exact W.iret (v := iI 0) hx hb hr (fun tt_ ht_ hW_ => ⟨⟨iI 0, .inl (u_4, (vp_updL zf 0 ((iI ws).toInt64))), rfl, ⟨(show (c_zero ws = 0) ∧ c_zero ws = 0 ∧ (u_4, (vp_updL zf 0 ((iI ws).toInt64))).2 0 = (iI ws).toInt64 from ⟨hu_4, hz9, rfl⟩), (congrArg iI hfin)⟩, by rw [ht_]; exact hP, hD⟩, hS.F ht_⟩) hS.2.2 dX0_refusalCause_15
set_option maxHeartbeats 2000000 in
set_option maxRecDepth 100000 in
theorem mt_X0_writeRecipe (l : Launch) (E : EE) (cw : Nat) (oaA : Nat) (osA : Nat) (hsn : Int) (hdA : Nat) (spA : Nat) (bfA : Nat) (prA : Nat) (ep : Int) (lt : Option Nat) (o : Nat → Nat) (sc : Nat → Int) (ar : Nat → Int → Int) (ln : Nat) (lm : Int) (lk : Int) (lv : Nat) (lf : Int → Int) (la : Nat) (zf : Nat → Int64) (t : Int) (g : Int → Int) (hst : l.stackTraces = false) (hsr : SR g sc ar) (ht : 0 ≤ t ∧ t < 65536) (hlk : 0 ≤ lk ∧ lk ≤ 16) (hhn : HN g) (htw : TW g) (hsw : SwOK g) (htm : TM g) (hsc : SC g) (sz : Nat) : vx_Met l yX0_writeRecipe (wsW_ yX0_writeRecipe cX0_writeRecipe 4 (some .int) [(0, 9, 12, 13), (0, 9, 15, 21)]) { frames := 10, cells := 2, slots := 12, locals := 177 } (va_Pc [.ref cw, iv t, .ref la] (UX E (([(cw, .inr (1, [.ref (o 0), .ref oaA, .ref osA, iv hsn, .ref hdA, .ref spA, .ref bfA, .ref ln, .ref prA, iv ep, va_rf lt]))] : va_W) ++ (SW E o sc ar) ++ ([(ln, .inr (10, [.ref lv, iv 0, iv lm, iv lk]))] : va_W) ++ ([(lv, ia (E.2 3) 16 lf)] : va_W) ++ ([(la, loA (E.2 5) zf)] : va_W)) sz)) (UQx E (Sum.elim (fun u : (Unit) × (Nat → Int64) => (c_none g t = 0) ∧ c_none g t = 0 ∧ u.2 0 = (iI (lenI (m_wrec g t))).toInt64) (fun u : Unit => 0 < c_none g t ∧ ∃ En : String, 0 < c_none g t ∧ En = nmX "java/lang/IllegalArgumentException" "java/util/NoSuchElementException" "java/lang/IndexOutOfBoundsException" (c_none g t))) (fun _ => c_none g t) (Sum.elim (fun u : (Unit) × (Nat → Int64) => ([(cw, .inr (1, [.ref (o 0), .ref oaA, .ref osA, iv hsn, .ref hdA, .ref spA, .ref bfA, .ref ln, .ref prA, iv ep, va_rf lt]))] : va_W) ++ (SW E o sc ar) ++ ([(ln, .inr (10, [.ref lv, iv 0, iv (if 0 < lk then 1 else lm), iv (lenI (m_wrec g t))]))] : va_W) ++ ([(lv, ia (E.2 3) 16 (wR (m_wrec g t) lf))] : va_W) ++ ([(la, loA (E.2 5) u.2)] : va_W)) (fun u : Unit => ([(cw, .inr (1, [.ref (o 0), .ref oaA, .ref osA, iv hsn, .ref hdA, .ref spA, .ref bfA, .ref ln, .ref prA, iv ep, va_rf lt]))] : va_W) ++ (SW E o sc ar) ++ ([(ln, .inr (10, [.ref lv, iv 0, iv lm, iv lk]))] : va_W) ++ ([(lv, ia (E.2 3) 16 lf)] : va_W) ++ ([(la, loA (E.2 5) zf)] : va_W))) (va_A (([(cw, .inr (1, [.ref (o 0), .ref oaA, .ref osA, iv hsn, .ref hdA, .ref spA, .ref bfA, .ref ln, .ref prA, iv ep, va_rf lt]))] : va_W) ++ (SW E o sc ar) ++ ([(ln, .inr (10, [.ref lv, iv 0, iv lm, iv lk]))] : va_W) ++ ([(lv, ia (E.2 3) 16 lf)] : va_W) ++ ([(la, loA (E.2 5) zf)] : va_W)) sz)) (UXx E (fun (_ : String) (_ : Unit) => False) (fun _ : Unit => []) (fun _ : Unit => none) (va_A (([(cw, .inr (1, [.ref (o 0), .ref oaA, .ref osA, iv hsn, .ref hdA, .ref spA, .ref bfA, .ref ln, .ref prA, iv ep, va_rf lt]))] : va_W) ++ (SW E o sc ar) ++ ([(ln, .inr (10, [.ref lv, iv 0, iv lm, iv lk]))] : va_W) ++ ([(lv, ia (E.2 3) 16 lf)] : va_W) ++ ([(la, loA (E.2 5) zf)] : va_W)) sz)) 2 12 (va_A (([(cw, .inr (1, [.ref (o 0), .ref oaA, .ref osA, iv hsn, .ref hdA, .ref spA, .ref bfA, .ref ln, .ref prA, iv ep, va_rf lt]))] : va_W) ++ (SW E o sc ar) ++ ([(ln, .inr (10, [.ref lv, iv 0, iv lm, iv lk]))] : va_W) ++ ([(lv, ia (E.2 3) 16 lf)] : va_W) ++ ([(la, loA (E.2 5) zf)] : va_W)) sz) := by
  refine vx_ofWH (hh := [(0, 9, 12, 13), (0, 9, 15, 21)]) (cc := cX0_writeRecipe) (maxL := 4) (ret := (some .int)) (by decide) rfl ?_
  intro p e s m args below meth c s₁ B hml hv
  obtain ⟨rfl, hsz, hP, hK, hD0, hE⟩ := hv
  have hx := B.exec
  have hb := B.bytes
  have hr := B.returns
  have hts := atoms_spec (ws := (wsW_ yX0_writeRecipe cX0_writeRecipe 4 (some .int) [(0, 9, 12, 13), (0, 9, 15, 21)])) B.pre
  have htab : c.exceptionTable.toList = tableOf [(0, 9, 12, 13), (0, 9, 15, 21)] := vx_table (x := yX0_writeRecipe) B (hts _ List.mem_cons_self)
  have hts : ∀ w ∈ lw_all, w.before _ s = true := fun w h => hts w (List.mem_cons_of_mem _ h)
  have hown : s.vm.findClass RX0 = some m.cls := findClass_of_methodNamed B.named
  have hlocks := B.notSynchronized
  subst hsz
  have hD := hD0.self (sz := s.heap.size)
  generalize hAe : va_A (([(cw, .inr (1, [.ref (o 0), .ref oaA, .ref osA, iv hsn, .ref hdA, .ref spA, .ref bfA, .ref ln, .ref prA, iv ep, va_rf lt]))] : va_W) ++ (SW E o sc ar) ++ ([(ln, .inr (10, [.ref lv, iv 0, iv lm, iv lk]))] : va_W) ++ ([(lv, ia (E.2 3) 16 lf)] : va_W) ++ ([(la, loA (E.2 5) zf)] : va_W)) s.heap.size = A at hD hE ⊢
  have hA : ∀ q : Nat, s.heap.size ≤ q → A q := fun q h => by rw [← hAe]; exact Or.inr h
  have hS : va_S A s.heap s.heap [] := va_S.rf
  have hl := lv_entry ([.ref cw, iv t, .ref la]) (n := 4) (Nat.le_of_ble_eq_true rfl)
  rw [lg_entry_eq]
  generalize (lg_sl ([.ref cw, iv t, .ref la]) ++ List.replicate (4 - (lg_sl ([.ref cw, iv t, .ref la])).length) Slot.unset).toArray = ls at hl ⊢
  have hl : lv_has ls 4 [(0, .ref cw), (1, iv t), (2, .ref la)] := hl
  refine lv_aload_n hx hb dX0_writeRecipe_0 rfl (lv_at hl 2 rfl) ?_
  refine lv_iconst (v := iI 0) hx hb dX0_writeRecipe_1 rfl ?_
  refine lv_aload_n hx hb dX0_writeRecipe_2 rfl (lv_at hl 0 rfl) ?_
  refine lv_iload_n hx hb dX0_writeRecipe_3 rfl (lv_at hl 1 rfl) ?_
  have hg_1 : gpick [[(cw, .inr (1, [.ref (o 0), .ref oaA, .ref osA, iv hsn, .ref hdA, .ref spA, .ref bfA, .ref ln, .ref prA, iv ep, va_rf lt]))], SW E o sc ar, [(ln, .inr (10, [.ref lv, iv 0, iv lm, iv lk]))], [(lv, ia (E.2 3) 16 lf)], [(la, loA (E.2 5) zf)]] ([[(cw, .inr (1, [.ref (o 0), .ref oaA, .ref osA, iv hsn, .ref hdA, .ref spA, .ref bfA, .ref ln, .ref prA, iv ep, va_rf lt]))], SW E o sc ar, [(ln, .inr (10, [.ref lv, iv 0, iv lm, iv lk]))], [(lv, ia (E.2 3) 16 lf)]] ++ [[(la, loA (E.2 5) zf)]]) [0, 1, 2, 3, 4] := ⟨rfl, (show List.Perm [0, 1, 2, 3, 4] (List.range 5) from by decide)⟩
  have hg_1P : va_P E.1 CL (([(cw, .inr (1, [.ref (o 0), .ref oaA, .ref osA, iv hsn, .ref hdA, .ref spA, .ref bfA, .ref ln, .ref prA, iv ep, va_rf lt]))] : va_W) ++ (SW E o sc ar) ++ ([(ln, .inr (10, [.ref lv, iv 0, iv lm, iv lk]))] : va_W) ++ ([(lv, ia (E.2 3) 16 lf)] : va_W)) s.heap := (g_out hg_1 hP hD).1
  have hg_1D : va_D A (([(cw, .inr (1, [.ref (o 0), .ref oaA, .ref osA, iv hsn, .ref hdA, .ref spA, .ref bfA, .ref ln, .ref prA, iv ep, va_rf lt]))] : va_W) ++ (SW E o sc ar) ++ ([(ln, .inr (10, [.ref lv, iv 0, iv lm, iv lk]))] : va_W) ++ ([(lv, ia (E.2 3) 16 lf)] : va_W)) := (g_out hg_1 hP hD).2
  have hg_1F : ∀ q, va_A (([(cw, .inr (1, [.ref (o 0), .ref oaA, .ref osA, iv hsn, .ref hdA, .ref spA, .ref bfA, .ref ln, .ref prA, iv ep, va_rf lt]))] : va_W) ++ (SW E o sc ar) ++ ([(ln, .inr (10, [.ref lv, iv 0, iv lm, iv lk]))] : va_W) ++ ([(lv, ia (E.2 3) 16 lf)] : va_W)) s.heap.size q → A q := g_free hg_1 hP hD hS hA
  have hlt_2 := P_lts hP
  have hz_3 : s.heap.size ≤ s.heap.size := hS.1
  have hj_6 : ∀ u_4 : Unit, gpick ([[(cw, .inr (1, [.ref (o 0), .ref oaA, .ref osA, iv hsn, .ref hdA, .ref spA, .ref bfA, .ref ln, .ref prA, iv ep, va_rf lt]))], SW E o sc ar, [(ln, .inr (10, [.ref lv, iv 0, iv (if 0 < lk then 1 else lm), iv (lenI (m_wrec g t))]))], [(lv, ia (E.2 3) 16 (wR (m_wrec g t) lf))]] ++ [[(la, loA (E.2 5) zf)]]) [[(cw, .inr (1, [.ref (o 0), .ref oaA, .ref osA, iv hsn, .ref hdA, .ref spA, .ref bfA, .ref ln, .ref prA, iv ep, va_rf lt]))], SW E o sc ar, [(ln, .inr (10, [.ref lv, iv 0, iv (if 0 < lk then 1 else lm), iv (lenI (m_wrec g t))]))], [(lv, ia (E.2 3) 16 (wR (m_wrec g t) lf))], [(la, loA (E.2 5) zf)]] [0, 1, 2, 3, 4] := fun u_4 => ⟨rfl, (show List.Perm [0, 1, 2, 3, 4] (List.range 5) from by decide)⟩
  have hj_7 : ∀ u_5 : Unit, gpick ([[(cw, .inr (1, [.ref (o 0), .ref oaA, .ref osA, iv hsn, .ref hdA, .ref spA, .ref bfA, .ref ln, .ref prA, iv ep, va_rf lt]))], SW E o sc ar, [(ln, .inr (10, [.ref lv, iv 0, iv lm, iv lk]))], [(lv, ia (E.2 3) 16 lf)]] ++ [[(la, loA (E.2 5) zf)]]) [[(cw, .inr (1, [.ref (o 0), .ref oaA, .ref osA, iv hsn, .ref hdA, .ref spA, .ref bfA, .ref ln, .ref prA, iv ep, va_rf lt]))], SW E o sc ar, [(ln, .inr (10, [.ref lv, iv 0, iv lm, iv lk]))], [(lv, ia (E.2 3) 16 lf)], [(la, loA (E.2 5) zf)]] [0, 1, 2, 3, 4] := fun u_5 => ⟨rfl, (show List.Perm [0, 1, 2, 3, 4] (List.range 5) from by decide)⟩
  refine n_txB (x := fun u_4 => lenI (m_wrec g t)) (w2 := fun u_4 : Unit => ([(cw, .inr (1, [.ref (o 0), .ref oaA, .ref osA, iv hsn, .ref hdA, .ref spA, .ref bfA, .ref ln, .ref prA, iv ep, va_rf lt]))] : va_W) ++ (SW E o sc ar) ++ ([(ln, .inr (10, [.ref lv, iv 0, iv (if 0 < lk then 1 else lm), iv (lenI (m_wrec g t))]))] : va_W) ++ ([(lv, ia (E.2 3) 16 (wR (m_wrec g t) lf))] : va_W) ++ ([(la, loA (E.2 5) zf)] : va_W)) (w3 := fun u_5 : Unit => ([(cw, .inr (1, [.ref (o 0), .ref oaA, .ref osA, iv hsn, .ref hdA, .ref spA, .ref bfA, .ref ln, .ref prA, iv ep, va_rf lt]))] : va_W) ++ (SW E o sc ar) ++ ([(ln, .inr (10, [.ref lv, iv 0, iv lm, iv lk]))] : va_W) ++ ([(lv, ia (E.2 3) 16 lf)] : va_W) ++ ([(la, loA (E.2 5) zf)] : va_W)) (vx_runV (As := [iv t]) (rest := [iv 0, .ref la]) ⟨hx, hb, hml, hown, hts⟩ (mt_X1_writeRecipe l E cw oaA osA hsn hdA spA bfA prA ep lt o sc ar ln lm lk lv lf t g (by exact hst) (by assumption) (by omega) (by omega) (by assumption) (by assumption) (by assumption) (by assumption) (by assumption) _) (cwV 1 hts (lw_V q1410 q1411 q1412 q94 q1413) rfl rfl rfl (by decide +kernel) ⟨Nat.le_of_ble_eq_true rfl, Nat.le_of_ble_eq_true rfl⟩) (UX_V hg_1P hK (hg_1D) hE hS hg_1F (va_recv hK.1 hP (ci := 1) (q0 := 0) rfl rfl)) rfl rfl hl.1 rfl (lv_room (Nat.le_of_ble_eq_true rfl)) dX0_writeRecipe_4 ⟨Nat.le_of_ble_eq_true rfl, Nat.le_of_ble_eq_true rfl⟩) hS hg_1F ?_ ?_ ?_ ?_
  · exact (fun u_4 _ hk9 hp9 hd9 => g_back hg_1 (hj_6 u_4) hP hD hg_1F hk9 hp9 hd9)
  · exact (fun u_5 _ hk9 hp9 hd9 => g_back hg_1 (hj_7 u_5) hP hD hg_1F hk9 hp9 hd9)
  · intro En ce q9 u_5 H locs hCx hP hD hS hxf hq9 hce hcv hcl
    have hCx : 0 < c_none g t ∧ En = nmX "java/lang/IllegalArgumentException" "java/util/NoSuchElementException" "java/lang/IndexOutOfBoundsException" (c_none g t) := hCx
    have hP : va_P E.1 CL (([(cw, .inr (1, [.ref (o 0), .ref oaA, .ref osA, iv hsn, .ref hdA, .ref spA, .ref bfA, .ref ln, .ref prA, iv ep, va_rf lt]))] : va_W) ++ (SW E o sc ar) ++ ([(ln, .inr (10, [.ref lv, iv 0, iv lm, iv lk]))] : va_W) ++ ([(lv, ia (E.2 3) 16 lf)] : va_W) ++ ([(la, loA (E.2 5) zf)] : va_W)) H := hP
    have hD : va_D A (([(cw, .inr (1, [.ref (o 0), .ref oaA, .ref osA, iv hsn, .ref hdA, .ref spA, .ref bfA, .ref ln, .ref prA, iv ep, va_rf lt]))] : va_W) ++ (SW E o sc ar) ++ ([(ln, .inr (10, [.ref lv, iv 0, iv lm, iv lk]))] : va_W) ++ ([(lv, ia (E.2 3) 16 lf)] : va_W) ++ ([(la, loA (E.2 5) zf)] : va_W)) := hD
    have hcx9 := hCx
    obtain ⟨hc0, hEn9⟩ := hCx
    have hcr9 : c_none g t ≤ 2 := by have := c_none_r g t; omega
    rcases (show c_none g t = 1 ∨ c_none g t = 2 by omega) with hk9 | hk9
    · have hEn9 : En = "java/lang/IllegalArgumentException" := by rw [hEn9, hk9]; rfl
      subst hEn9
      refine vx_catch (own := "ClockworkTailorLaw") hown [] _ [_] htab (fun z hz => by cases hz) (by decide) (by decide) (name := "java/lang/IllegalArgumentException") (hts _ q867) (hK.nw q894) hce hcv hcl ?_
      refine lv_astore_n (lv' := [(3, .ref q9), (0, .ref cw), (1, iv t), (2, .ref la)]) hx hb dX0_writeRecipe_12 rfl hl (by decide) rfl (fun ls hl => ?_)
      refine lv_iconst (v := iI 1) hx hb dX0_writeRecipe_13 rfl ?_
      have hfin : 1 = c_none g t := by
        first | exact hz9.symm | exact hk9.symm
      refine vx_ret ?_
      refine W.widen (k := 2) (n := 12) (Nat.le_of_ble_eq_true rfl) (Nat.le_of_ble_eq_true rfl) ?_
      exact W.iret (v := iI 1) hx hb hr (fun tt_ ht_ hW_ => ⟨⟨iI 1, .inr u_5, rfl, ⟨(show 0 < c_none g t ∧ ∃ En : String, 0 < c_none g t ∧ En = nmX "java/lang/IllegalArgumentException" "java/util/NoSuchElementException" "java/lang/IndexOutOfBoundsException" (c_none g t) from ⟨(by omega), _, hcx9⟩), (congrArg iI hfin)⟩, by rw [ht_]; exact hP, hD⟩, hS.F ht_⟩) hS.2.2 dX0_writeRecipe_14
    · have hEn9 : En = "java/util/NoSuchElementException" := by rw [hEn9, hk9]; rfl
      subst hEn9
      refine vx_catch (own := "ClockworkTailorLaw") hown [_] _ [] htab (fun z hz => by
          simp only [List.mem_cons, List.not_mem_nil, or_false] at hz
          rcases hz with rfl
          · exact Or.inr ⟨by decide, "java/lang/IllegalArgumentException", hts _ q867, hK.kx.2.2.2.2.2 (_, _) (by decide)⟩
          ) (by decide) (by decide) (name := "java/util/NoSuchElementException") (hts _ q951) (hK.nw q976) hce hcv hcl ?_
      refine lv_astore_n (lv' := [(3, .ref q9), (0, .ref cw), (1, iv t), (2, .ref la)]) hx hb dX0_writeRecipe_15 rfl hl (by decide) rfl (fun ls hl => ?_)
      refine lv_iconst (v := iI 2) hx hb dX0_writeRecipe_16 rfl ?_
      have hfin : 2 = c_none g t := by
        first | exact hz9.symm | exact hk9.symm
      refine vx_ret ?_
      refine W.widen (k := 2) (n := 12) (Nat.le_of_ble_eq_true rfl) (Nat.le_of_ble_eq_true rfl) ?_
      exact W.iret (v := iI 2) hx hb hr (fun tt_ ht_ hW_ => ⟨⟨iI 2, .inr u_5, rfl, ⟨(show 0 < c_none g t ∧ ∃ En : String, 0 < c_none g t ∧ En = nmX "java/lang/IllegalArgumentException" "java/util/NoSuchElementException" "java/lang/IndexOutOfBoundsException" (c_none g t) from ⟨(by omega), _, hcx9⟩), (congrArg iI hfin)⟩, by rw [ht_]; exact hP, hD⟩, hS.F ht_⟩) hS.2.2 dX0_writeRecipe_17
  · intro u_4 H locs hC hP hD hS
    have hu_4 : c_none g t = 0 := hC
    have hP : va_P E.1 CL (([(cw, .inr (1, [.ref (o 0), .ref oaA, .ref osA, iv hsn, .ref hdA, .ref spA, .ref bfA, .ref ln, .ref prA, iv ep, va_rf lt]))] : va_W) ++ (SW E o sc ar) ++ ([(ln, .inr (10, [.ref lv, iv 0, iv (if 0 < lk then 1 else lm), iv (lenI (m_wrec g t))]))] : va_W) ++ ([(lv, ia (E.2 3) 16 (wR (m_wrec g t) lf))] : va_W) ++ ([(la, loA (E.2 5) zf)] : va_W)) H := hP
    have hD : va_D A (([(cw, .inr (1, [.ref (o 0), .ref oaA, .ref osA, iv hsn, .ref hdA, .ref spA, .ref bfA, .ref ln, .ref prA, iv ep, va_rf lt]))] : va_W) ++ (SW E o sc ar) ++ ([(ln, .inr (10, [.ref lv, iv 0, iv (if 0 < lk then 1 else lm), iv (lenI (m_wrec g t))]))] : va_W) ++ ([(lv, ia (E.2 3) 16 (wR (m_wrec g t) lf))] : va_W) ++ ([(la, loA (E.2 5) zf)] : va_W)) := hD
    have hz9 : c_none g t = 0 := hu_4
    refine lv_i2l (v := (iI (lenI (m_wrec g t))).toInt64) hx hb dX0_writeRecipe_7 rfl ?_
    refine n_last1 hx hb hK.1 hP hD hS 20 rfl dX0_writeRecipe_8 (ws2 := ([(cw, .inr (1, [.ref (o 0), .ref oaA, .ref osA, iv hsn, .ref hdA, .ref spA, .ref bfA, .ref ln, .ref prA, iv ep, va_rf lt]))] : va_W) ++ (SW E o sc ar) ++ ([(ln, .inr (10, [.ref lv, iv 0, iv (if 0 < lk then 1 else lm), iv (lenI (m_wrec g t))]))] : va_W) ++ ([(lv, ia (E.2 3) 16 (wR (m_wrec g t) lf))] : va_W) ++ ([(la, loA (E.2 5) (vp_updL zf 0 ((iI (lenI (m_wrec g t))).toInt64)))] : va_W)) rfl (fun H locs hP hD hS => ?_)
    have hP : va_P E.1 CL (([(cw, .inr (1, [.ref (o 0), .ref oaA, .ref osA, iv hsn, .ref hdA, .ref spA, .ref bfA, .ref ln, .ref prA, iv ep, va_rf lt]))] : va_W) ++ (SW E o sc ar) ++ ([(ln, .inr (10, [.ref lv, iv 0, iv (if 0 < lk then 1 else lm), iv (lenI (m_wrec g t))]))] : va_W) ++ ([(lv, ia (E.2 3) 16 (wR (m_wrec g t) lf))] : va_W) ++ ([(la, loA (E.2 5) (vp_updL zf 0 ((iI (lenI (m_wrec g t))).toInt64)))] : va_W)) H := hP
    have hD : va_D A (([(cw, .inr (1, [.ref (o 0), .ref oaA, .ref osA, iv hsn, .ref hdA, .ref spA, .ref bfA, .ref ln, .ref prA, iv ep, va_rf lt]))] : va_W) ++ (SW E o sc ar) ++ ([(ln, .inr (10, [.ref lv, iv 0, iv (if 0 < lk then 1 else lm), iv (lenI (m_wrec g t))]))] : va_W) ++ ([(lv, ia (E.2 3) 16 (wR (m_wrec g t) lf))] : va_W) ++ ([(la, loA (E.2 5) (vp_updL zf 0 ((iI (lenI (m_wrec g t))).toInt64)))] : va_W)) := hD
    refine lv_goto (tgt := 18) hx hb dX0_writeRecipe_9 (by decide) ?_
    refine lv_iconst (v := iI 0) hx hb dX0_writeRecipe_18 rfl ?_
    have hfin : 0 = c_none g t := by
      first | exact hz9.symm | exact hk9.symm
    refine vx_ret ?_
    refine W.widen (k := 2) (n := 12) (Nat.le_of_ble_eq_true rfl) (Nat.le_of_ble_eq_true rfl) ?_
    exact W.iret (v := iI 0) hx hb hr (fun tt_ ht_ hW_ => ⟨⟨iI 0, .inl (u_4, (vp_updL zf 0 ((iI (lenI (m_wrec g t))).toInt64))), rfl, ⟨(show (c_none g t = 0) ∧ c_none g t = 0 ∧ (u_4, (vp_updL zf 0 ((iI (lenI (m_wrec g t))).toInt64))).2 0 = (iI (lenI (m_wrec g t))).toInt64 from ⟨hu_4, hz9, rfl⟩), (congrArg iI hfin)⟩, by rw [ht_]; exact hP, hD⟩, hS.F ht_⟩) hS.2.2 dX0_writeRecipe_19
set_option maxHeartbeats 2000000 in
set_option maxRecDepth 100000 in
theorem mt_X0_writeObject (l : Launch) (E : EE) (cw : Nat) (oaA : Nat) (osA : Nat) (hsn : Int) (hdA : Nat) (spA : Nat) (bfA : Nat) (prA : Nat) (ep : Int) (lt : Option Nat) (o : Nat → Nat) (sc : Nat → Int) (ar : Nat → Int → Int) (ln : Nat) (lm : Int) (lk : Int) (lv : Nat) (lf : Int → Int) (la : Nat) (zf : Nat → Int64) (k : Int) (g : Int → Int) (hst : l.stackTraces = false) (hsr : SR g sc ar) (hk : -2147483648 ≤ k ∧ k < 2147483648) (hlk : 0 ≤ lk ∧ lk ≤ 16) (how : OY g) (h100 : g 1 ≤ 100) (sz : Nat) : vx_Met l yX0_writeObject (wsW_ yX0_writeObject cX0_writeObject 4 (some .int) [(0, 9, 12, 48)]) { frames := 9, cells := 1, slots := 6, locals := 154 } (va_Pc [.ref cw, iv k, .ref la] (UX E (([(cw, .inr (1, [.ref (o 0), .ref oaA, .ref osA, iv hsn, .ref hdA, .ref spA, .ref bfA, .ref ln, .ref prA, iv ep, va_rf lt]))] : va_W) ++ (SW E o sc ar) ++ ([(ln, .inr (10, [.ref lv, iv 0, iv lm, iv lk]))] : va_W) ++ ([(lv, ia (E.2 3) 16 lf)] : va_W) ++ ([(la, loA (E.2 5) zf)] : va_W)) sz)) (UQx E (Sum.elim (fun u : (Unit) × (Nat → Int64) => (c_obj g k = 0) ∧ c_obj g k = 0 ∧ u.2 0 = (iI (lenI (m_wobj g k))).toInt64) (fun u : Unit => 0 < c_obj g k ∧ ∃ En : String, 0 < c_obj g k ∧ En = nmX "java/lang/IndexOutOfBoundsException" "" "" (c_obj g k))) (fun _ => c_obj g k) (Sum.elim (fun u : (Unit) × (Nat → Int64) => ([(cw, .inr (1, [.ref (o 0), .ref oaA, .ref osA, iv hsn, .ref hdA, .ref spA, .ref bfA, .ref ln, .ref prA, iv ep, va_rf lt]))] : va_W) ++ (SW E o sc ar) ++ ([(ln, .inr (10, [.ref lv, iv 0, iv (if 0 < lk then 1 else lm), iv (lenI (m_wobj g k))]))] : va_W) ++ ([(lv, ia (E.2 3) 16 (wR (m_wobj g k) lf))] : va_W) ++ ([(la, loA (E.2 5) u.2)] : va_W)) (fun u : Unit => ([(cw, .inr (1, [.ref (o 0), .ref oaA, .ref osA, iv hsn, .ref hdA, .ref spA, .ref bfA, .ref ln, .ref prA, iv ep, va_rf lt]))] : va_W) ++ (SW E o sc ar) ++ ([(ln, .inr (10, [.ref lv, iv 0, iv lm, iv lk]))] : va_W) ++ ([(lv, ia (E.2 3) 16 lf)] : va_W) ++ ([(la, loA (E.2 5) zf)] : va_W))) (va_A (([(cw, .inr (1, [.ref (o 0), .ref oaA, .ref osA, iv hsn, .ref hdA, .ref spA, .ref bfA, .ref ln, .ref prA, iv ep, va_rf lt]))] : va_W) ++ (SW E o sc ar) ++ ([(ln, .inr (10, [.ref lv, iv 0, iv lm, iv lk]))] : va_W) ++ ([(lv, ia (E.2 3) 16 lf)] : va_W) ++ ([(la, loA (E.2 5) zf)] : va_W)) sz)) (UXx E (fun (_ : String) (_ : Unit) => False) (fun _ : Unit => []) (fun _ : Unit => none) (va_A (([(cw, .inr (1, [.ref (o 0), .ref oaA, .ref osA, iv hsn, .ref hdA, .ref spA, .ref bfA, .ref ln, .ref prA, iv ep, va_rf lt]))] : va_W) ++ (SW E o sc ar) ++ ([(ln, .inr (10, [.ref lv, iv 0, iv lm, iv lk]))] : va_W) ++ ([(lv, ia (E.2 3) 16 lf)] : va_W) ++ ([(la, loA (E.2 5) zf)] : va_W)) sz)) 1 6 (va_A (([(cw, .inr (1, [.ref (o 0), .ref oaA, .ref osA, iv hsn, .ref hdA, .ref spA, .ref bfA, .ref ln, .ref prA, iv ep, va_rf lt]))] : va_W) ++ (SW E o sc ar) ++ ([(ln, .inr (10, [.ref lv, iv 0, iv lm, iv lk]))] : va_W) ++ ([(lv, ia (E.2 3) 16 lf)] : va_W) ++ ([(la, loA (E.2 5) zf)] : va_W)) sz) := by
  refine vx_ofWH (hh := [(0, 9, 12, 48)]) (cc := cX0_writeObject) (maxL := 4) (ret := (some .int)) (by decide) rfl ?_
  intro p e s m args below meth c s₁ B hml hv
  obtain ⟨rfl, hsz, hP, hK, hD0, hE⟩ := hv
  have hx := B.exec
  have hb := B.bytes
  have hr := B.returns
  have hts := atoms_spec (ws := (wsW_ yX0_writeObject cX0_writeObject 4 (some .int) [(0, 9, 12, 48)])) B.pre
  have htab : c.exceptionTable.toList = tableOf [(0, 9, 12, 48)] := vx_table (x := yX0_writeObject) B (hts _ List.mem_cons_self)
  have hts : ∀ w ∈ lw_all, w.before _ s = true := fun w h => hts w (List.mem_cons_of_mem _ h)
  have hown : s.vm.findClass RX0 = some m.cls := findClass_of_methodNamed B.named
  have hlocks := B.notSynchronized
  subst hsz
  have hD := hD0.self (sz := s.heap.size)
  generalize hAe : va_A (([(cw, .inr (1, [.ref (o 0), .ref oaA, .ref osA, iv hsn, .ref hdA, .ref spA, .ref bfA, .ref ln, .ref prA, iv ep, va_rf lt]))] : va_W) ++ (SW E o sc ar) ++ ([(ln, .inr (10, [.ref lv, iv 0, iv lm, iv lk]))] : va_W) ++ ([(lv, ia (E.2 3) 16 lf)] : va_W) ++ ([(la, loA (E.2 5) zf)] : va_W)) s.heap.size = A at hD hE ⊢
  have hA : ∀ q : Nat, s.heap.size ≤ q → A q := fun q h => by rw [← hAe]; exact Or.inr h
  have hS : va_S A s.heap s.heap [] := va_S.rf
  have hl := lv_entry ([.ref cw, iv k, .ref la]) (n := 4) (Nat.le_of_ble_eq_true rfl)
  rw [lg_entry_eq]
  generalize (lg_sl ([.ref cw, iv k, .ref la]) ++ List.replicate (4 - (lg_sl ([.ref cw, iv k, .ref la])).length) Slot.unset).toArray = ls at hl ⊢
  have hl : lv_has ls 4 [(0, .ref cw), (1, iv k), (2, .ref la)] := hl
  refine lv_aload_n hx hb dX0_writeObject_0 rfl (lv_at hl 2 rfl) ?_
  refine lv_iconst (v := iI 0) hx hb dX0_writeObject_1 rfl ?_
  refine lv_aload_n hx hb dX0_writeObject_2 rfl (lv_at hl 0 rfl) ?_
  refine lv_iload_n hx hb dX0_writeObject_3 rfl (lv_at hl 1 rfl) ?_
  have hg_1 : gpick [[(cw, .inr (1, [.ref (o 0), .ref oaA, .ref osA, iv hsn, .ref hdA, .ref spA, .ref bfA, .ref ln, .ref prA, iv ep, va_rf lt]))], SW E o sc ar, [(ln, .inr (10, [.ref lv, iv 0, iv lm, iv lk]))], [(lv, ia (E.2 3) 16 lf)], [(la, loA (E.2 5) zf)]] ([[(cw, .inr (1, [.ref (o 0), .ref oaA, .ref osA, iv hsn, .ref hdA, .ref spA, .ref bfA, .ref ln, .ref prA, iv ep, va_rf lt]))], SW E o sc ar, [(ln, .inr (10, [.ref lv, iv 0, iv lm, iv lk]))], [(lv, ia (E.2 3) 16 lf)]] ++ [[(la, loA (E.2 5) zf)]]) [0, 1, 2, 3, 4] := ⟨rfl, (show List.Perm [0, 1, 2, 3, 4] (List.range 5) from by decide)⟩
  have hg_1P : va_P E.1 CL (([(cw, .inr (1, [.ref (o 0), .ref oaA, .ref osA, iv hsn, .ref hdA, .ref spA, .ref bfA, .ref ln, .ref prA, iv ep, va_rf lt]))] : va_W) ++ (SW E o sc ar) ++ ([(ln, .inr (10, [.ref lv, iv 0, iv lm, iv lk]))] : va_W) ++ ([(lv, ia (E.2 3) 16 lf)] : va_W)) s.heap := (g_out hg_1 hP hD).1
  have hg_1D : va_D A (([(cw, .inr (1, [.ref (o 0), .ref oaA, .ref osA, iv hsn, .ref hdA, .ref spA, .ref bfA, .ref ln, .ref prA, iv ep, va_rf lt]))] : va_W) ++ (SW E o sc ar) ++ ([(ln, .inr (10, [.ref lv, iv 0, iv lm, iv lk]))] : va_W) ++ ([(lv, ia (E.2 3) 16 lf)] : va_W)) := (g_out hg_1 hP hD).2
  have hg_1F : ∀ q, va_A (([(cw, .inr (1, [.ref (o 0), .ref oaA, .ref osA, iv hsn, .ref hdA, .ref spA, .ref bfA, .ref ln, .ref prA, iv ep, va_rf lt]))] : va_W) ++ (SW E o sc ar) ++ ([(ln, .inr (10, [.ref lv, iv 0, iv lm, iv lk]))] : va_W) ++ ([(lv, ia (E.2 3) 16 lf)] : va_W)) s.heap.size q → A q := g_free hg_1 hP hD hS hA
  have hlt_2 := P_lts hP
  have hz_3 : s.heap.size ≤ s.heap.size := hS.1
  have hj_6 : ∀ u_4 : Unit, gpick ([[(cw, .inr (1, [.ref (o 0), .ref oaA, .ref osA, iv hsn, .ref hdA, .ref spA, .ref bfA, .ref ln, .ref prA, iv ep, va_rf lt]))], SW E o sc ar, [(ln, .inr (10, [.ref lv, iv 0, iv (if 0 < lk then 1 else lm), iv (lenI (m_wobj g k))]))], [(lv, ia (E.2 3) 16 (wR (m_wobj g k) lf))]] ++ [[(la, loA (E.2 5) zf)]]) [[(cw, .inr (1, [.ref (o 0), .ref oaA, .ref osA, iv hsn, .ref hdA, .ref spA, .ref bfA, .ref ln, .ref prA, iv ep, va_rf lt]))], SW E o sc ar, [(ln, .inr (10, [.ref lv, iv 0, iv (if 0 < lk then 1 else lm), iv (lenI (m_wobj g k))]))], [(lv, ia (E.2 3) 16 (wR (m_wobj g k) lf))], [(la, loA (E.2 5) zf)]] [0, 1, 2, 3, 4] := fun u_4 => ⟨rfl, (show List.Perm [0, 1, 2, 3, 4] (List.range 5) from by decide)⟩
  have hj_7 : ∀ u_5 : Unit, gpick ([[(cw, .inr (1, [.ref (o 0), .ref oaA, .ref osA, iv hsn, .ref hdA, .ref spA, .ref bfA, .ref ln, .ref prA, iv ep, va_rf lt]))], SW E o sc ar, [(ln, .inr (10, [.ref lv, iv 0, iv lm, iv lk]))], [(lv, ia (E.2 3) 16 lf)]] ++ [[(la, loA (E.2 5) zf)]]) [[(cw, .inr (1, [.ref (o 0), .ref oaA, .ref osA, iv hsn, .ref hdA, .ref spA, .ref bfA, .ref ln, .ref prA, iv ep, va_rf lt]))], SW E o sc ar, [(ln, .inr (10, [.ref lv, iv 0, iv lm, iv lk]))], [(lv, ia (E.2 3) 16 lf)], [(la, loA (E.2 5) zf)]] [0, 1, 2, 3, 4] := fun u_5 => ⟨rfl, (show List.Perm [0, 1, 2, 3, 4] (List.range 5) from by decide)⟩
  refine n_txB (x := fun u_4 => lenI (m_wobj g k)) (w2 := fun u_4 : Unit => ([(cw, .inr (1, [.ref (o 0), .ref oaA, .ref osA, iv hsn, .ref hdA, .ref spA, .ref bfA, .ref ln, .ref prA, iv ep, va_rf lt]))] : va_W) ++ (SW E o sc ar) ++ ([(ln, .inr (10, [.ref lv, iv 0, iv (if 0 < lk then 1 else lm), iv (lenI (m_wobj g k))]))] : va_W) ++ ([(lv, ia (E.2 3) 16 (wR (m_wobj g k) lf))] : va_W) ++ ([(la, loA (E.2 5) zf)] : va_W)) (w3 := fun u_5 : Unit => ([(cw, .inr (1, [.ref (o 0), .ref oaA, .ref osA, iv hsn, .ref hdA, .ref spA, .ref bfA, .ref ln, .ref prA, iv ep, va_rf lt]))] : va_W) ++ (SW E o sc ar) ++ ([(ln, .inr (10, [.ref lv, iv 0, iv lm, iv lk]))] : va_W) ++ ([(lv, ia (E.2 3) 16 lf)] : va_W) ++ ([(la, loA (E.2 5) zf)] : va_W)) (vx_runV (As := [iv k]) (rest := [iv 0, .ref la]) ⟨hx, hb, hml, hown, hts⟩ (mt_X1_writeObject l E cw oaA osA hsn hdA spA bfA prA ep lt o sc ar ln lm lk lv lf k g (by exact hst) (by assumption) (by omega) (by omega) (by assumption) (by omega) _) (cwV 1 hts (lw_V q1699 q1700 q1701 q94 q1702) rfl rfl rfl (by decide +kernel) ⟨Nat.le_of_ble_eq_true rfl, Nat.le_of_ble_eq_true rfl⟩) (UX_V hg_1P hK (hg_1D) hE hS hg_1F (va_recv hK.1 hP (ci := 1) (q0 := 0) rfl rfl)) rfl rfl hl.1 rfl (lv_room (Nat.le_of_ble_eq_true rfl)) dX0_writeObject_4 ⟨Nat.le_of_ble_eq_true rfl, Nat.le_of_ble_eq_true rfl⟩) hS hg_1F ?_ ?_ ?_ ?_
  · exact (fun u_4 _ hk9 hp9 hd9 => g_back hg_1 (hj_6 u_4) hP hD hg_1F hk9 hp9 hd9)
  · exact (fun u_5 _ hk9 hp9 hd9 => g_back hg_1 (hj_7 u_5) hP hD hg_1F hk9 hp9 hd9)
  · intro En ce q9 u_5 H locs hCx hP hD hS hxf hq9 hce hcv hcl
    have hCx : 0 < c_obj g k ∧ En = nmX "java/lang/IndexOutOfBoundsException" "" "" (c_obj g k) := hCx
    have hP : va_P E.1 CL (([(cw, .inr (1, [.ref (o 0), .ref oaA, .ref osA, iv hsn, .ref hdA, .ref spA, .ref bfA, .ref ln, .ref prA, iv ep, va_rf lt]))] : va_W) ++ (SW E o sc ar) ++ ([(ln, .inr (10, [.ref lv, iv 0, iv lm, iv lk]))] : va_W) ++ ([(lv, ia (E.2 3) 16 lf)] : va_W) ++ ([(la, loA (E.2 5) zf)] : va_W)) H := hP
    have hD : va_D A (([(cw, .inr (1, [.ref (o 0), .ref oaA, .ref osA, iv hsn, .ref hdA, .ref spA, .ref bfA, .ref ln, .ref prA, iv ep, va_rf lt]))] : va_W) ++ (SW E o sc ar) ++ ([(ln, .inr (10, [.ref lv, iv 0, iv lm, iv lk]))] : va_W) ++ ([(lv, ia (E.2 3) 16 lf)] : va_W) ++ ([(la, loA (E.2 5) zf)] : va_W)) := hD
    have hcx9 := hCx
    obtain ⟨hc0, hEn9⟩ := hCx
    have hcr9 : c_obj g k ≤ 1 := by have := c_obj_r g k; omega
    have hk9 : c_obj g k = 1 := by omega
    have hEn9 : En = "java/lang/IndexOutOfBoundsException" := by rw [hEn9, hk9]; rfl
    subst hEn9
    refine vx_catch (own := "ClockworkTailorLaw") hown [] _ [] htab (fun z hz => by cases hz) (by decide) (by decide) (name := "java/lang/IndexOutOfBoundsException") (hts _ q1075) (hK.nw q1112) hce hcv hcl ?_
    refine lv_astore_n (lv' := [(3, .ref q9), (0, .ref cw), (1, iv k), (2, .ref la)]) hx hb dX0_writeObject_12 rfl hl (by decide) rfl (fun ls hl => ?_)
    refine lv_iconst (v := iI 1) hx hb dX0_writeObject_13 rfl ?_
    have hfin : 1 = c_obj g k := by
      first | exact hz9.symm | exact hk9.symm
    refine vx_ret ?_
    refine W.widen (k := 1) (n := 6) (Nat.le_of_ble_eq_true rfl) (Nat.le_of_ble_eq_true rfl) ?_
    exact W.iret (v := iI 1) hx hb hr (fun tt_ ht_ hW_ => ⟨⟨iI 1, .inr u_5, rfl, ⟨(show 0 < c_obj g k ∧ ∃ En : String, 0 < c_obj g k ∧ En = nmX "java/lang/IndexOutOfBoundsException" "" "" (c_obj g k) from ⟨(by omega), _, hcx9⟩), (congrArg iI hfin)⟩, by rw [ht_]; exact hP, hD⟩, hS.F ht_⟩) hS.2.2 dX0_writeObject_14
  · intro u_4 H locs hC hP hD hS
    have hu_4 : c_obj g k = 0 := hC
    have hP : va_P E.1 CL (([(cw, .inr (1, [.ref (o 0), .ref oaA, .ref osA, iv hsn, .ref hdA, .ref spA, .ref bfA, .ref ln, .ref prA, iv ep, va_rf lt]))] : va_W) ++ (SW E o sc ar) ++ ([(ln, .inr (10, [.ref lv, iv 0, iv (if 0 < lk then 1 else lm), iv (lenI (m_wobj g k))]))] : va_W) ++ ([(lv, ia (E.2 3) 16 (wR (m_wobj g k) lf))] : va_W) ++ ([(la, loA (E.2 5) zf)] : va_W)) H := hP
    have hD : va_D A (([(cw, .inr (1, [.ref (o 0), .ref oaA, .ref osA, iv hsn, .ref hdA, .ref spA, .ref bfA, .ref ln, .ref prA, iv ep, va_rf lt]))] : va_W) ++ (SW E o sc ar) ++ ([(ln, .inr (10, [.ref lv, iv 0, iv (if 0 < lk then 1 else lm), iv (lenI (m_wobj g k))]))] : va_W) ++ ([(lv, ia (E.2 3) 16 (wR (m_wobj g k) lf))] : va_W) ++ ([(la, loA (E.2 5) zf)] : va_W)) := hD
    have hz9 : c_obj g k = 0 := hu_4
    refine lv_i2l (v := (iI (lenI (m_wobj g k))).toInt64) hx hb dX0_writeObject_7 rfl ?_
    refine n_last1 hx hb hK.1 hP hD hS 20 rfl dX0_writeObject_8 (ws2 := ([(cw, .inr (1, [.ref (o 0), .ref oaA, .ref osA, iv hsn, .ref hdA, .ref spA, .ref bfA, .ref ln, .ref prA, iv ep, va_rf lt]))] : va_W) ++ (SW E o sc ar) ++ ([(ln, .inr (10, [.ref lv, iv 0, iv (if 0 < lk then 1 else lm), iv (lenI (m_wobj g k))]))] : va_W) ++ ([(lv, ia (E.2 3) 16 (wR (m_wobj g k) lf))] : va_W) ++ ([(la, loA (E.2 5) (vp_updL zf 0 ((iI (lenI (m_wobj g k))).toInt64)))] : va_W)) rfl (fun H locs hP hD hS => ?_)
    have hP : va_P E.1 CL (([(cw, .inr (1, [.ref (o 0), .ref oaA, .ref osA, iv hsn, .ref hdA, .ref spA, .ref bfA, .ref ln, .ref prA, iv ep, va_rf lt]))] : va_W) ++ (SW E o sc ar) ++ ([(ln, .inr (10, [.ref lv, iv 0, iv (if 0 < lk then 1 else lm), iv (lenI (m_wobj g k))]))] : va_W) ++ ([(lv, ia (E.2 3) 16 (wR (m_wobj g k) lf))] : va_W) ++ ([(la, loA (E.2 5) (vp_updL zf 0 ((iI (lenI (m_wobj g k))).toInt64)))] : va_W)) H := hP
    have hD : va_D A (([(cw, .inr (1, [.ref (o 0), .ref oaA, .ref osA, iv hsn, .ref hdA, .ref spA, .ref bfA, .ref ln, .ref prA, iv ep, va_rf lt]))] : va_W) ++ (SW E o sc ar) ++ ([(ln, .inr (10, [.ref lv, iv 0, iv (if 0 < lk then 1 else lm), iv (lenI (m_wobj g k))]))] : va_W) ++ ([(lv, ia (E.2 3) 16 (wR (m_wobj g k) lf))] : va_W) ++ ([(la, loA (E.2 5) (vp_updL zf 0 ((iI (lenI (m_wobj g k))).toInt64)))] : va_W)) := hD
    refine lv_goto (tgt := 15) hx hb dX0_writeObject_9 (by decide) ?_
    refine lv_iconst (v := iI 0) hx hb dX0_writeObject_15 rfl ?_
    have hfin : 0 = c_obj g k := by
      first | exact hz9.symm | exact hk9.symm
    refine vx_ret ?_
    refine W.widen (k := 1) (n := 6) (Nat.le_of_ble_eq_true rfl) (Nat.le_of_ble_eq_true rfl) ?_
    exact W.iret (v := iI 0) hx hb hr (fun tt_ ht_ hW_ => ⟨⟨iI 0, .inl (u_4, (vp_updL zf 0 ((iI (lenI (m_wobj g k))).toInt64))), rfl, ⟨(show (c_obj g k = 0) ∧ c_obj g k = 0 ∧ (u_4, (vp_updL zf 0 ((iI (lenI (m_wobj g k))).toInt64))).2 0 = (iI (lenI (m_wobj g k))).toInt64 from ⟨hu_4, hz9, rfl⟩), (congrArg iI hfin)⟩, by rw [ht_]; exact hP, hD⟩, hS.F ht_⟩) hS.2.2 dX0_writeObject_16
set_option maxHeartbeats 2000000 in
set_option maxRecDepth 100000 in
theorem mt_X0_lineAt (l : Launch) (E : EE) (cw : Nat) (stA : Nat) (oaA : Nat) (osA : Nat) (hsn : Int) (hdA : Nat) (spA : Nat) (bfA : Nat) (prA : Nat) (ep : Int) (lt : Option Nat) (ln : Nat) (lm : Int) (lk : Int) (lv : Nat) (lf : Int → Int) (la : Nat) (zf : Nat → Int64) (k : Int) (hst : l.stackTraces = false) (hk : -2147483648 ≤ k ∧ k < 2147483648) (hlk : 0 ≤ lk ∧ lk ≤ 16) (hb7 : B7 lf) (sz : Nat) : vx_Met l yX0_lineAt (wsW_ yX0_lineAt cX0_lineAt 4 (some .int) [(0, 9, 12, 48)]) { frames := 8, cells := 1, slots := 6, locals := 133 } (va_Pc [.ref cw, iv k, .ref la] (UX E (([(cw, .inr (1, [.ref stA, .ref oaA, .ref osA, iv hsn, .ref hdA, .ref spA, .ref bfA, .ref ln, .ref prA, iv ep, va_rf lt]))] : va_W) ++ ([(ln, .inr (10, [.ref lv, iv 0, iv lm, iv lk]))] : va_W) ++ ([(lv, ia (E.2 3) 16 lf)] : va_W) ++ ([(la, loA (E.2 5) zf)] : va_W)) sz)) (UQx E (Sum.elim (fun u : (Unit) × (Nat → Int64) => (c_line lk k = 0) ∧ c_line lk k = 0 ∧ u.2 0 = (iI (lf k)).toInt64) (fun u : Unit => 0 < c_line lk k ∧ ∃ En : String, 0 < c_line lk k ∧ En = nmX "java/lang/IndexOutOfBoundsException" "" "" (c_line lk k))) (fun _ => c_line lk k) (Sum.elim (fun u : (Unit) × (Nat → Int64) => ([(cw, .inr (1, [.ref stA, .ref oaA, .ref osA, iv hsn, .ref hdA, .ref spA, .ref bfA, .ref ln, .ref prA, iv ep, va_rf lt]))] : va_W) ++ ([(ln, .inr (10, [.ref lv, iv 0, iv lm, iv lk]))] : va_W) ++ ([(lv, ia (E.2 3) 16 lf)] : va_W) ++ ([(la, loA (E.2 5) u.2)] : va_W)) (fun u : Unit => ([(cw, .inr (1, [.ref stA, .ref oaA, .ref osA, iv hsn, .ref hdA, .ref spA, .ref bfA, .ref ln, .ref prA, iv ep, va_rf lt]))] : va_W) ++ ([(ln, .inr (10, [.ref lv, iv 0, iv lm, iv lk]))] : va_W) ++ ([(lv, ia (E.2 3) 16 lf)] : va_W) ++ ([(la, loA (E.2 5) zf)] : va_W))) (va_A (([(cw, .inr (1, [.ref stA, .ref oaA, .ref osA, iv hsn, .ref hdA, .ref spA, .ref bfA, .ref ln, .ref prA, iv ep, va_rf lt]))] : va_W) ++ ([(ln, .inr (10, [.ref lv, iv 0, iv lm, iv lk]))] : va_W) ++ ([(lv, ia (E.2 3) 16 lf)] : va_W) ++ ([(la, loA (E.2 5) zf)] : va_W)) sz)) (UXx E (fun (_ : String) (_ : Unit) => False) (fun _ : Unit => []) (fun _ : Unit => none) (va_A (([(cw, .inr (1, [.ref stA, .ref oaA, .ref osA, iv hsn, .ref hdA, .ref spA, .ref bfA, .ref ln, .ref prA, iv ep, va_rf lt]))] : va_W) ++ ([(ln, .inr (10, [.ref lv, iv 0, iv lm, iv lk]))] : va_W) ++ ([(lv, ia (E.2 3) 16 lf)] : va_W) ++ ([(la, loA (E.2 5) zf)] : va_W)) sz)) 1 6 (va_A (([(cw, .inr (1, [.ref stA, .ref oaA, .ref osA, iv hsn, .ref hdA, .ref spA, .ref bfA, .ref ln, .ref prA, iv ep, va_rf lt]))] : va_W) ++ ([(ln, .inr (10, [.ref lv, iv 0, iv lm, iv lk]))] : va_W) ++ ([(lv, ia (E.2 3) 16 lf)] : va_W) ++ ([(la, loA (E.2 5) zf)] : va_W)) sz) := by
  refine vx_ofWH (hh := [(0, 9, 12, 48)]) (cc := cX0_lineAt) (maxL := 4) (ret := (some .int)) (by decide) rfl ?_
  intro p e s m args below meth c s₁ B hml hv
  obtain ⟨rfl, hsz, hP, hK, hD0, hE⟩ := hv
  have hx := B.exec
  have hb := B.bytes
  have hr := B.returns
  have hts := atoms_spec (ws := (wsW_ yX0_lineAt cX0_lineAt 4 (some .int) [(0, 9, 12, 48)])) B.pre
  have htab : c.exceptionTable.toList = tableOf [(0, 9, 12, 48)] := vx_table (x := yX0_lineAt) B (hts _ List.mem_cons_self)
  have hts : ∀ w ∈ lw_all, w.before _ s = true := fun w h => hts w (List.mem_cons_of_mem _ h)
  have hown : s.vm.findClass RX0 = some m.cls := findClass_of_methodNamed B.named
  have hlocks := B.notSynchronized
  subst hsz
  have hD := hD0.self (sz := s.heap.size)
  generalize hAe : va_A (([(cw, .inr (1, [.ref stA, .ref oaA, .ref osA, iv hsn, .ref hdA, .ref spA, .ref bfA, .ref ln, .ref prA, iv ep, va_rf lt]))] : va_W) ++ ([(ln, .inr (10, [.ref lv, iv 0, iv lm, iv lk]))] : va_W) ++ ([(lv, ia (E.2 3) 16 lf)] : va_W) ++ ([(la, loA (E.2 5) zf)] : va_W)) s.heap.size = A at hD hE ⊢
  have hA : ∀ q : Nat, s.heap.size ≤ q → A q := fun q h => by rw [← hAe]; exact Or.inr h
  have hS : va_S A s.heap s.heap [] := va_S.rf
  have hl := lv_entry ([.ref cw, iv k, .ref la]) (n := 4) (Nat.le_of_ble_eq_true rfl)
  rw [lg_entry_eq]
  generalize (lg_sl ([.ref cw, iv k, .ref la]) ++ List.replicate (4 - (lg_sl ([.ref cw, iv k, .ref la])).length) Slot.unset).toArray = ls at hl ⊢
  have hl : lv_has ls 4 [(0, .ref cw), (1, iv k), (2, .ref la)] := hl
  refine lv_aload_n hx hb dX0_lineAt_0 rfl (lv_at hl 2 rfl) ?_
  refine lv_iconst (v := iI 0) hx hb dX0_lineAt_1 rfl ?_
  refine lv_aload_n hx hb dX0_lineAt_2 rfl (lv_at hl 0 rfl) ?_
  refine lv_iload_n hx hb dX0_lineAt_3 rfl (lv_at hl 1 rfl) ?_
  have hg_1 : gpick [[(cw, .inr (1, [.ref stA, .ref oaA, .ref osA, iv hsn, .ref hdA, .ref spA, .ref bfA, .ref ln, .ref prA, iv ep, va_rf lt]))], [(ln, .inr (10, [.ref lv, iv 0, iv lm, iv lk]))], [(lv, ia (E.2 3) 16 lf)], [(la, loA (E.2 5) zf)]] ([[(cw, .inr (1, [.ref stA, .ref oaA, .ref osA, iv hsn, .ref hdA, .ref spA, .ref bfA, .ref ln, .ref prA, iv ep, va_rf lt]))], [(ln, .inr (10, [.ref lv, iv 0, iv lm, iv lk]))], [(lv, ia (E.2 3) 16 lf)]] ++ [[(la, loA (E.2 5) zf)]]) [0, 1, 2, 3] := ⟨rfl, (show List.Perm [0, 1, 2, 3] (List.range 4) from by decide)⟩
  have hg_1P : va_P E.1 CL (([(cw, .inr (1, [.ref stA, .ref oaA, .ref osA, iv hsn, .ref hdA, .ref spA, .ref bfA, .ref ln, .ref prA, iv ep, va_rf lt]))] : va_W) ++ ([(ln, .inr (10, [.ref lv, iv 0, iv lm, iv lk]))] : va_W) ++ ([(lv, ia (E.2 3) 16 lf)] : va_W)) s.heap := (g_out hg_1 hP hD).1
  have hg_1D : va_D A (([(cw, .inr (1, [.ref stA, .ref oaA, .ref osA, iv hsn, .ref hdA, .ref spA, .ref bfA, .ref ln, .ref prA, iv ep, va_rf lt]))] : va_W) ++ ([(ln, .inr (10, [.ref lv, iv 0, iv lm, iv lk]))] : va_W) ++ ([(lv, ia (E.2 3) 16 lf)] : va_W)) := (g_out hg_1 hP hD).2
  have hg_1F : ∀ q, va_A (([(cw, .inr (1, [.ref stA, .ref oaA, .ref osA, iv hsn, .ref hdA, .ref spA, .ref bfA, .ref ln, .ref prA, iv ep, va_rf lt]))] : va_W) ++ ([(ln, .inr (10, [.ref lv, iv 0, iv lm, iv lk]))] : va_W) ++ ([(lv, ia (E.2 3) 16 lf)] : va_W)) s.heap.size q → A q := g_free hg_1 hP hD hS hA
  have hlt_2 := P_lts hP
  have hz_3 : s.heap.size ≤ s.heap.size := hS.1
  have hj_6 : ∀ u_4 : Unit, gpick ([[(cw, .inr (1, [.ref stA, .ref oaA, .ref osA, iv hsn, .ref hdA, .ref spA, .ref bfA, .ref ln, .ref prA, iv ep, va_rf lt]))], [(ln, .inr (10, [.ref lv, iv 0, iv lm, iv lk]))], [(lv, ia (E.2 3) 16 lf)]] ++ [[(la, loA (E.2 5) zf)]]) [[(cw, .inr (1, [.ref stA, .ref oaA, .ref osA, iv hsn, .ref hdA, .ref spA, .ref bfA, .ref ln, .ref prA, iv ep, va_rf lt]))], [(ln, .inr (10, [.ref lv, iv 0, iv lm, iv lk]))], [(lv, ia (E.2 3) 16 lf)], [(la, loA (E.2 5) zf)]] [0, 1, 2, 3] := fun u_4 => ⟨rfl, (show List.Perm [0, 1, 2, 3] (List.range 4) from by decide)⟩
  have hj_7 : ∀ u_5 : Unit, gpick ([[(cw, .inr (1, [.ref stA, .ref oaA, .ref osA, iv hsn, .ref hdA, .ref spA, .ref bfA, .ref ln, .ref prA, iv ep, va_rf lt]))], [(ln, .inr (10, [.ref lv, iv 0, iv lm, iv lk]))], [(lv, ia (E.2 3) 16 lf)]] ++ [[(la, loA (E.2 5) zf)]]) [[(cw, .inr (1, [.ref stA, .ref oaA, .ref osA, iv hsn, .ref hdA, .ref spA, .ref bfA, .ref ln, .ref prA, iv ep, va_rf lt]))], [(ln, .inr (10, [.ref lv, iv 0, iv lm, iv lk]))], [(lv, ia (E.2 3) 16 lf)], [(la, loA (E.2 5) zf)]] [0, 1, 2, 3] := fun u_5 => ⟨rfl, (show List.Perm [0, 1, 2, 3] (List.range 4) from by decide)⟩
  refine n_txB (x := fun u_4 => lf k) (w2 := fun u_4 : Unit => ([(cw, .inr (1, [.ref stA, .ref oaA, .ref osA, iv hsn, .ref hdA, .ref spA, .ref bfA, .ref ln, .ref prA, iv ep, va_rf lt]))] : va_W) ++ ([(ln, .inr (10, [.ref lv, iv 0, iv lm, iv lk]))] : va_W) ++ ([(lv, ia (E.2 3) 16 lf)] : va_W) ++ ([(la, loA (E.2 5) zf)] : va_W)) (w3 := fun u_5 : Unit => ([(cw, .inr (1, [.ref stA, .ref oaA, .ref osA, iv hsn, .ref hdA, .ref spA, .ref bfA, .ref ln, .ref prA, iv ep, va_rf lt]))] : va_W) ++ ([(ln, .inr (10, [.ref lv, iv 0, iv lm, iv lk]))] : va_W) ++ ([(lv, ia (E.2 3) 16 lf)] : va_W) ++ ([(la, loA (E.2 5) zf)] : va_W)) (vx_runV (As := [iv k]) (rest := [iv 0, .ref la]) ⟨hx, hb, hml, hown, hts⟩ (mt_X1_lineAt l E cw stA oaA osA hsn hdA spA bfA prA ep lt ln lm lk lv lf k (by exact hst) (by omega) (by omega) (by assumption) _) (cwV 1 hts (lw_V q1714 q1715 q1716 q94 q1717) rfl rfl rfl (by decide +kernel) ⟨Nat.le_of_ble_eq_true rfl, Nat.le_of_ble_eq_true rfl⟩) (UX_V hg_1P hK (hg_1D) hE hS hg_1F (va_recv hK.1 hP (ci := 1) (q0 := 0) rfl rfl)) rfl rfl hl.1 rfl (lv_room (Nat.le_of_ble_eq_true rfl)) dX0_lineAt_4 ⟨Nat.le_of_ble_eq_true rfl, Nat.le_of_ble_eq_true rfl⟩) hS hg_1F ?_ ?_ ?_ ?_
  · exact (fun u_4 _ hk9 hp9 hd9 => g_back hg_1 (hj_6 u_4) hP hD hg_1F hk9 hp9 hd9)
  · exact (fun u_5 _ hk9 hp9 hd9 => g_back hg_1 (hj_7 u_5) hP hD hg_1F hk9 hp9 hd9)
  · intro En ce q9 u_5 H locs hCx hP hD hS hxf hq9 hce hcv hcl
    have hCx : 0 < c_line lk k ∧ En = nmX "java/lang/IndexOutOfBoundsException" "" "" (c_line lk k) := hCx
    have hP : va_P E.1 CL (([(cw, .inr (1, [.ref stA, .ref oaA, .ref osA, iv hsn, .ref hdA, .ref spA, .ref bfA, .ref ln, .ref prA, iv ep, va_rf lt]))] : va_W) ++ ([(ln, .inr (10, [.ref lv, iv 0, iv lm, iv lk]))] : va_W) ++ ([(lv, ia (E.2 3) 16 lf)] : va_W) ++ ([(la, loA (E.2 5) zf)] : va_W)) H := hP
    have hD : va_D A (([(cw, .inr (1, [.ref stA, .ref oaA, .ref osA, iv hsn, .ref hdA, .ref spA, .ref bfA, .ref ln, .ref prA, iv ep, va_rf lt]))] : va_W) ++ ([(ln, .inr (10, [.ref lv, iv 0, iv lm, iv lk]))] : va_W) ++ ([(lv, ia (E.2 3) 16 lf)] : va_W) ++ ([(la, loA (E.2 5) zf)] : va_W)) := hD
    have hcx9 := hCx
    obtain ⟨hc0, hEn9⟩ := hCx
    have hcr9 : c_line lk k ≤ 1 := by have := c_line_r lk k; omega
    have hk9 : c_line lk k = 1 := by omega
    have hEn9 : En = "java/lang/IndexOutOfBoundsException" := by rw [hEn9, hk9]; rfl
    subst hEn9
    refine vx_catch (own := "ClockworkTailorLaw") hown [] _ [] htab (fun z hz => by cases hz) (by decide) (by decide) (name := "java/lang/IndexOutOfBoundsException") (hts _ q1075) (hK.nw q1112) hce hcv hcl ?_
    refine lv_astore_n (lv' := [(3, .ref q9), (0, .ref cw), (1, iv k), (2, .ref la)]) hx hb dX0_lineAt_12 rfl hl (by decide) rfl (fun ls hl => ?_)
    refine lv_iconst (v := iI 1) hx hb dX0_lineAt_13 rfl ?_
    have hfin : 1 = c_line lk k := by
      first | exact hz9.symm | exact hk9.symm
    refine vx_ret ?_
    refine W.widen (k := 1) (n := 6) (Nat.le_of_ble_eq_true rfl) (Nat.le_of_ble_eq_true rfl) ?_
    exact W.iret (v := iI 1) hx hb hr (fun tt_ ht_ hW_ => ⟨⟨iI 1, .inr u_5, rfl, ⟨(show 0 < c_line lk k ∧ ∃ En : String, 0 < c_line lk k ∧ En = nmX "java/lang/IndexOutOfBoundsException" "" "" (c_line lk k) from ⟨(by omega), _, hcx9⟩), (congrArg iI hfin)⟩, by rw [ht_]; exact hP, hD⟩, hS.F ht_⟩) hS.2.2 dX0_lineAt_14
  · intro u_4 H locs hC hP hD hS
    have hu_4 : c_line lk k = 0 := hC
    have hP : va_P E.1 CL (([(cw, .inr (1, [.ref stA, .ref oaA, .ref osA, iv hsn, .ref hdA, .ref spA, .ref bfA, .ref ln, .ref prA, iv ep, va_rf lt]))] : va_W) ++ ([(ln, .inr (10, [.ref lv, iv 0, iv lm, iv lk]))] : va_W) ++ ([(lv, ia (E.2 3) 16 lf)] : va_W) ++ ([(la, loA (E.2 5) zf)] : va_W)) H := hP
    have hD : va_D A (([(cw, .inr (1, [.ref stA, .ref oaA, .ref osA, iv hsn, .ref hdA, .ref spA, .ref bfA, .ref ln, .ref prA, iv ep, va_rf lt]))] : va_W) ++ ([(ln, .inr (10, [.ref lv, iv 0, iv lm, iv lk]))] : va_W) ++ ([(lv, ia (E.2 3) 16 lf)] : va_W) ++ ([(la, loA (E.2 5) zf)] : va_W)) := hD
    have hz9 : c_line lk k = 0 := hu_4
    refine lv_i2l (v := (iI (lf k)).toInt64) hx hb dX0_lineAt_7 rfl ?_
    refine n_last1 hx hb hK.1 hP hD hS 3 rfl dX0_lineAt_8 (ws2 := ([(cw, .inr (1, [.ref stA, .ref oaA, .ref osA, iv hsn, .ref hdA, .ref spA, .ref bfA, .ref ln, .ref prA, iv ep, va_rf lt]))] : va_W) ++ ([(ln, .inr (10, [.ref lv, iv 0, iv lm, iv lk]))] : va_W) ++ ([(lv, ia (E.2 3) 16 lf)] : va_W) ++ ([(la, loA (E.2 5) (vp_updL zf 0 ((iI (lf k)).toInt64)))] : va_W)) rfl (fun H locs hP hD hS => ?_)
    have hP : va_P E.1 CL (([(cw, .inr (1, [.ref stA, .ref oaA, .ref osA, iv hsn, .ref hdA, .ref spA, .ref bfA, .ref ln, .ref prA, iv ep, va_rf lt]))] : va_W) ++ ([(ln, .inr (10, [.ref lv, iv 0, iv lm, iv lk]))] : va_W) ++ ([(lv, ia (E.2 3) 16 lf)] : va_W) ++ ([(la, loA (E.2 5) (vp_updL zf 0 ((iI (lf k)).toInt64)))] : va_W)) H := hP
    have hD : va_D A (([(cw, .inr (1, [.ref stA, .ref oaA, .ref osA, iv hsn, .ref hdA, .ref spA, .ref bfA, .ref ln, .ref prA, iv ep, va_rf lt]))] : va_W) ++ ([(ln, .inr (10, [.ref lv, iv 0, iv lm, iv lk]))] : va_W) ++ ([(lv, ia (E.2 3) 16 lf)] : va_W) ++ ([(la, loA (E.2 5) (vp_updL zf 0 ((iI (lf k)).toInt64)))] : va_W)) := hD
    refine lv_goto (tgt := 15) hx hb dX0_lineAt_9 (by decide) ?_
    refine lv_iconst (v := iI 0) hx hb dX0_lineAt_15 rfl ?_
    have hfin : 0 = c_line lk k := by
      first | exact hz9.symm | exact hk9.symm
    refine vx_ret ?_
    refine W.widen (k := 1) (n := 6) (Nat.le_of_ble_eq_true rfl) (Nat.le_of_ble_eq_true rfl) ?_
    exact W.iret (v := iI 0) hx hb hr (fun tt_ ht_ hW_ => ⟨⟨iI 0, .inl (u_4, (vp_updL zf 0 ((iI (lf k)).toInt64))), rfl, ⟨(show (c_line lk k = 0) ∧ c_line lk k = 0 ∧ (u_4, (vp_updL zf 0 ((iI (lf k)).toInt64))).2 0 = (iI (lf k)).toInt64 from ⟨hu_4, hz9, rfl⟩), (congrArg iI hfin)⟩, by rw [ht_]; exact hP, hD⟩, hS.F ht_⟩) hS.2.2 dX0_lineAt_16
set_option maxHeartbeats 2000000 in
set_option maxRecDepth 100000 in
theorem mt_X0_type_a (l : Launch) (E : EE) (cw : Nat) (stA : Nat) (oaA : Nat) (osA : Nat) (hsn : Int) (hdA : Nat) (spA : Nat) (lnA : Nat) (prA : Nat) (ep : Int) (lt : Option Nat) (bf : Nat) (bm : Int) (bc : Int) (bv : Nat) (bg : Int → Int) (la : Nat) (zf : Nat → Int64) (v : Int) (bn : Nat) (hst : l.stackTraces = false) (hv : 0 ≤ v ∧ v < 65536) (hbc : 0 ≤ bc ∧ bc < (bn : Int) ∧ bc ≤ 60) (hbn : bn ≤ 64) (sz : Nat) : vx_Met l yX0_type (wsW_ yX0_type cX0_type 4 (some .int) [(0, 9, 12, 13), (0, 9, 15, 15)]) { frames := 8, cells := 2, slots := 12, locals := 133 } (va_Pc [.ref cw, iv v, .ref la] (UX E (([(cw, .inr (1, [.ref stA, .ref oaA, .ref osA, iv hsn, .ref hdA, .ref spA, .ref bf, .ref lnA, .ref prA, iv ep, va_rf lt]))] : va_W) ++ ([(bf, .inr (10, [.ref bv, iv 0, iv bm, iv bc]))] : va_W) ++ ([(bv, ia (E.2 3) bn bg)] : va_W) ++ ([(la, loA (E.2 5) zf)] : va_W)) sz)) (UQx E (Sum.elim (fun u : (Unit) × (Nat → Int64) => (c_type bc v = 0) ∧ c_type bc v = 0 ∧ u.2 0 = (iI (bc + 1)).toInt64) (fun u : Unit => 0 < c_type bc v ∧ ∃ En : String, 0 < c_type bc v ∧ En = nmX "java/lang/IllegalArgumentException" "java/lang/IllegalStateException" "" (c_type bc v))) (fun _ => c_type bc v) (Sum.elim (fun u : (Unit) × (Nat → Int64) => ([(cw, .inr (1, [.ref stA, .ref oaA, .ref osA, iv hsn, .ref hdA, .ref spA, .ref bf, .ref lnA, .ref prA, iv ep, va_rf lt]))] : va_W) ++ ([(bf, .inr (10, [.ref bv, iv 0, iv bm, iv (bc + 1)]))] : va_W) ++ ([(bv, ia (E.2 3) bn (ui bg bc v))] : va_W) ++ ([(la, loA (E.2 5) u.2)] : va_W)) (fun u : Unit => ([(cw, .inr (1, [.ref stA, .ref oaA, .ref osA, iv hsn, .ref hdA, .ref spA, .ref bf, .ref lnA, .ref prA, iv ep, va_rf lt]))] : va_W) ++ ([(bf, .inr (10, [.ref bv, iv 0, iv bm, iv bc]))] : va_W) ++ ([(bv, ia (E.2 3) bn bg)] : va_W) ++ ([(la, loA (E.2 5) zf)] : va_W))) (va_A (([(cw, .inr (1, [.ref stA, .ref oaA, .ref osA, iv hsn, .ref hdA, .ref spA, .ref bf, .ref lnA, .ref prA, iv ep, va_rf lt]))] : va_W) ++ ([(bf, .inr (10, [.ref bv, iv 0, iv bm, iv bc]))] : va_W) ++ ([(bv, ia (E.2 3) bn bg)] : va_W) ++ ([(la, loA (E.2 5) zf)] : va_W)) sz)) (UXx E (fun (_ : String) (_ : Unit) => False) (fun _ : Unit => []) (fun _ : Unit => none) (va_A (([(cw, .inr (1, [.ref stA, .ref oaA, .ref osA, iv hsn, .ref hdA, .ref spA, .ref bf, .ref lnA, .ref prA, iv ep, va_rf lt]))] : va_W) ++ ([(bf, .inr (10, [.ref bv, iv 0, iv bm, iv bc]))] : va_W) ++ ([(bv, ia (E.2 3) bn bg)] : va_W) ++ ([(la, loA (E.2 5) zf)] : va_W)) sz)) 2 12 (va_A (([(cw, .inr (1, [.ref stA, .ref oaA, .ref osA, iv hsn, .ref hdA, .ref spA, .ref bf, .ref lnA, .ref prA, iv ep, va_rf lt]))] : va_W) ++ ([(bf, .inr (10, [.ref bv, iv 0, iv bm, iv bc]))] : va_W) ++ ([(bv, ia (E.2 3) bn bg)] : va_W) ++ ([(la, loA (E.2 5) zf)] : va_W)) sz) := by
  refine vx_ofWH (hh := [(0, 9, 12, 13), (0, 9, 15, 15)]) (cc := cX0_type) (maxL := 4) (ret := (some .int)) (by decide) rfl ?_
  intro p e s m args below meth c s₁ B hml hv
  obtain ⟨rfl, hsz, hP, hK, hD0, hE⟩ := hv
  have hx := B.exec
  have hb := B.bytes
  have hr := B.returns
  have hts := atoms_spec (ws := (wsW_ yX0_type cX0_type 4 (some .int) [(0, 9, 12, 13), (0, 9, 15, 15)])) B.pre
  have htab : c.exceptionTable.toList = tableOf [(0, 9, 12, 13), (0, 9, 15, 15)] := vx_table (x := yX0_type) B (hts _ List.mem_cons_self)
  have hts : ∀ w ∈ lw_all, w.before _ s = true := fun w h => hts w (List.mem_cons_of_mem _ h)
  have hown : s.vm.findClass RX0 = some m.cls := findClass_of_methodNamed B.named
  have hlocks := B.notSynchronized
  subst hsz
  have hD := hD0.self (sz := s.heap.size)
  generalize hAe : va_A (([(cw, .inr (1, [.ref stA, .ref oaA, .ref osA, iv hsn, .ref hdA, .ref spA, .ref bf, .ref lnA, .ref prA, iv ep, va_rf lt]))] : va_W) ++ ([(bf, .inr (10, [.ref bv, iv 0, iv bm, iv bc]))] : va_W) ++ ([(bv, ia (E.2 3) bn bg)] : va_W) ++ ([(la, loA (E.2 5) zf)] : va_W)) s.heap.size = A at hD hE ⊢
  have hA : ∀ q : Nat, s.heap.size ≤ q → A q := fun q h => by rw [← hAe]; exact Or.inr h
  have hS : va_S A s.heap s.heap [] := va_S.rf
  have hl := lv_entry ([.ref cw, iv v, .ref la]) (n := 4) (Nat.le_of_ble_eq_true rfl)
  rw [lg_entry_eq]
  generalize (lg_sl ([.ref cw, iv v, .ref la]) ++ List.replicate (4 - (lg_sl ([.ref cw, iv v, .ref la])).length) Slot.unset).toArray = ls at hl ⊢
  have hl : lv_has ls 4 [(0, .ref cw), (1, iv v), (2, .ref la)] := hl
  refine lv_aload_n hx hb dX0_type_0 rfl (lv_at hl 2 rfl) ?_
  refine lv_iconst (v := iI 0) hx hb dX0_type_1 rfl ?_
  refine lv_aload_n hx hb dX0_type_2 rfl (lv_at hl 0 rfl) ?_
  refine lv_iload_n hx hb dX0_type_3 rfl (lv_at hl 1 rfl) ?_
  have hg_1 : gpick [[(cw, .inr (1, [.ref stA, .ref oaA, .ref osA, iv hsn, .ref hdA, .ref spA, .ref bf, .ref lnA, .ref prA, iv ep, va_rf lt]))], [(bf, .inr (10, [.ref bv, iv 0, iv bm, iv bc]))], [(bv, ia (E.2 3) bn bg)], [(la, loA (E.2 5) zf)]] ([[(cw, .inr (1, [.ref stA, .ref oaA, .ref osA, iv hsn, .ref hdA, .ref spA, .ref bf, .ref lnA, .ref prA, iv ep, va_rf lt]))], [(bf, .inr (10, [.ref bv, iv 0, iv bm, iv bc]))], [(bv, ia (E.2 3) bn bg)]] ++ [[(la, loA (E.2 5) zf)]]) [0, 1, 2, 3] := ⟨rfl, (show List.Perm [0, 1, 2, 3] (List.range 4) from by decide)⟩
  have hg_1P : va_P E.1 CL (([(cw, .inr (1, [.ref stA, .ref oaA, .ref osA, iv hsn, .ref hdA, .ref spA, .ref bf, .ref lnA, .ref prA, iv ep, va_rf lt]))] : va_W) ++ ([(bf, .inr (10, [.ref bv, iv 0, iv bm, iv bc]))] : va_W) ++ ([(bv, ia (E.2 3) bn bg)] : va_W)) s.heap := (g_out hg_1 hP hD).1
  have hg_1D : va_D A (([(cw, .inr (1, [.ref stA, .ref oaA, .ref osA, iv hsn, .ref hdA, .ref spA, .ref bf, .ref lnA, .ref prA, iv ep, va_rf lt]))] : va_W) ++ ([(bf, .inr (10, [.ref bv, iv 0, iv bm, iv bc]))] : va_W) ++ ([(bv, ia (E.2 3) bn bg)] : va_W)) := (g_out hg_1 hP hD).2
  have hg_1F : ∀ q, va_A (([(cw, .inr (1, [.ref stA, .ref oaA, .ref osA, iv hsn, .ref hdA, .ref spA, .ref bf, .ref lnA, .ref prA, iv ep, va_rf lt]))] : va_W) ++ ([(bf, .inr (10, [.ref bv, iv 0, iv bm, iv bc]))] : va_W) ++ ([(bv, ia (E.2 3) bn bg)] : va_W)) s.heap.size q → A q := g_free hg_1 hP hD hS hA
  have hlt_2 := P_lts hP
  have hz_3 : s.heap.size ≤ s.heap.size := hS.1
  have hj_6 : ∀ u_4 : Unit, gpick ([[(cw, .inr (1, [.ref stA, .ref oaA, .ref osA, iv hsn, .ref hdA, .ref spA, .ref bf, .ref lnA, .ref prA, iv ep, va_rf lt]))], [(bf, .inr (10, [.ref bv, iv 0, iv bm, iv (bc + 1)]))], [(bv, ia (E.2 3) bn (ui bg bc v))]] ++ [[(la, loA (E.2 5) zf)]]) [[(cw, .inr (1, [.ref stA, .ref oaA, .ref osA, iv hsn, .ref hdA, .ref spA, .ref bf, .ref lnA, .ref prA, iv ep, va_rf lt]))], [(bf, .inr (10, [.ref bv, iv 0, iv bm, iv (bc + 1)]))], [(bv, ia (E.2 3) bn (ui bg bc v))], [(la, loA (E.2 5) zf)]] [0, 1, 2, 3] := fun u_4 => ⟨rfl, (show List.Perm [0, 1, 2, 3] (List.range 4) from by decide)⟩
  have hj_7 : ∀ u_5 : Unit, gpick ([[(cw, .inr (1, [.ref stA, .ref oaA, .ref osA, iv hsn, .ref hdA, .ref spA, .ref bf, .ref lnA, .ref prA, iv ep, va_rf lt]))], [(bf, .inr (10, [.ref bv, iv 0, iv bm, iv bc]))], [(bv, ia (E.2 3) bn bg)]] ++ [[(la, loA (E.2 5) zf)]]) [[(cw, .inr (1, [.ref stA, .ref oaA, .ref osA, iv hsn, .ref hdA, .ref spA, .ref bf, .ref lnA, .ref prA, iv ep, va_rf lt]))], [(bf, .inr (10, [.ref bv, iv 0, iv bm, iv bc]))], [(bv, ia (E.2 3) bn bg)], [(la, loA (E.2 5) zf)]] [0, 1, 2, 3] := fun u_5 => ⟨rfl, (show List.Perm [0, 1, 2, 3] (List.range 4) from by decide)⟩
  refine n_txB (x := fun u_4 => bc + 1) (w2 := fun u_4 : Unit => ([(cw, .inr (1, [.ref stA, .ref oaA, .ref osA, iv hsn, .ref hdA, .ref spA, .ref bf, .ref lnA, .ref prA, iv ep, va_rf lt]))] : va_W) ++ ([(bf, .inr (10, [.ref bv, iv 0, iv bm, iv (bc + 1)]))] : va_W) ++ ([(bv, ia (E.2 3) bn (ui bg bc v))] : va_W) ++ ([(la, loA (E.2 5) zf)] : va_W)) (w3 := fun u_5 : Unit => ([(cw, .inr (1, [.ref stA, .ref oaA, .ref osA, iv hsn, .ref hdA, .ref spA, .ref bf, .ref lnA, .ref prA, iv ep, va_rf lt]))] : va_W) ++ ([(bf, .inr (10, [.ref bv, iv 0, iv bm, iv bc]))] : va_W) ++ ([(bv, ia (E.2 3) bn bg)] : va_W) ++ ([(la, loA (E.2 5) zf)] : va_W)) (vx_runV (As := [iv v]) (rest := [iv 0, .ref la]) ⟨hx, hb, hml, hown, hts⟩ (mt_X1_type_a l E cw stA oaA osA hsn hdA spA lnA prA ep lt bf bm bc bv bg v (bn) (by exact hst) (by omega) (by omega) (by omega) _) (cwV 1 hts (lw_V q1731 q1732 q1733 q94 q1734) rfl rfl rfl (by decide +kernel) ⟨Nat.le_of_ble_eq_true rfl, Nat.le_of_ble_eq_true rfl⟩) (UX_V hg_1P hK (hg_1D) hE hS hg_1F (va_recv hK.1 hP (ci := 1) (q0 := 0) rfl rfl)) rfl rfl hl.1 rfl (lv_room (Nat.le_of_ble_eq_true rfl)) dX0_type_4 ⟨Nat.le_of_ble_eq_true rfl, Nat.le_of_ble_eq_true rfl⟩) hS hg_1F ?_ ?_ ?_ ?_
  · exact (fun u_4 _ hk9 hp9 hd9 => g_back hg_1 (hj_6 u_4) hP hD hg_1F hk9 hp9 hd9)
  · exact (fun u_5 _ hk9 hp9 hd9 => g_back hg_1 (hj_7 u_5) hP hD hg_1F hk9 hp9 hd9)
  · intro En ce q9 u_5 H locs hCx hP hD hS hxf hq9 hce hcv hcl
    have hCx : 0 < c_type bc v ∧ En = nmX "java/lang/IllegalArgumentException" "java/lang/IllegalStateException" "" (c_type bc v) := hCx
    have hP : va_P E.1 CL (([(cw, .inr (1, [.ref stA, .ref oaA, .ref osA, iv hsn, .ref hdA, .ref spA, .ref bf, .ref lnA, .ref prA, iv ep, va_rf lt]))] : va_W) ++ ([(bf, .inr (10, [.ref bv, iv 0, iv bm, iv bc]))] : va_W) ++ ([(bv, ia (E.2 3) bn bg)] : va_W) ++ ([(la, loA (E.2 5) zf)] : va_W)) H := hP
    have hD : va_D A (([(cw, .inr (1, [.ref stA, .ref oaA, .ref osA, iv hsn, .ref hdA, .ref spA, .ref bf, .ref lnA, .ref prA, iv ep, va_rf lt]))] : va_W) ++ ([(bf, .inr (10, [.ref bv, iv 0, iv bm, iv bc]))] : va_W) ++ ([(bv, ia (E.2 3) bn bg)] : va_W) ++ ([(la, loA (E.2 5) zf)] : va_W)) := hD
    have hcx9 := hCx
    obtain ⟨hc0, hEn9⟩ := hCx
    have hcr9 : c_type bc v ≤ 2 := by have := c_type_r bc v; omega
    rcases (show c_type bc v = 1 ∨ c_type bc v = 2 by omega) with hk9 | hk9
    · have hEn9 : En = "java/lang/IllegalArgumentException" := by rw [hEn9, hk9]; rfl
      subst hEn9
      refine vx_catch (own := "ClockworkTailorLaw") hown [] _ [_] htab (fun z hz => by cases hz) (by decide) (by decide) (name := "java/lang/IllegalArgumentException") (hts _ q867) (hK.nw q894) hce hcv hcl ?_
      refine lv_astore_n (lv' := [(3, .ref q9), (0, .ref cw), (1, iv v), (2, .ref la)]) hx hb dX0_type_12 rfl hl (by decide) rfl (fun ls hl => ?_)
      refine lv_iconst (v := iI 1) hx hb dX0_type_13 rfl ?_
      have hfin : 1 = c_type bc v := by
        first | exact hz9.symm | exact hk9.symm
      refine vx_ret ?_
      refine W.widen (k := 2) (n := 12) (Nat.le_of_ble_eq_true rfl) (Nat.le_of_ble_eq_true rfl) ?_
      exact W.iret (v := iI 1) hx hb hr (fun tt_ ht_ hW_ => ⟨⟨iI 1, .inr u_5, rfl, ⟨(show 0 < c_type bc v ∧ ∃ En : String, 0 < c_type bc v ∧ En = nmX "java/lang/IllegalArgumentException" "java/lang/IllegalStateException" "" (c_type bc v) from ⟨(by omega), _, hcx9⟩), (congrArg iI hfin)⟩, by rw [ht_]; exact hP, hD⟩, hS.F ht_⟩) hS.2.2 dX0_type_14
    · have hEn9 : En = "java/lang/IllegalStateException" := by rw [hEn9, hk9]; rfl
      subst hEn9
      refine vx_catch (own := "ClockworkTailorLaw") hown [_] _ [] htab (fun z hz => by
          simp only [List.mem_cons, List.not_mem_nil, or_false] at hz
          rcases hz with rfl
          · exact Or.inr ⟨by decide, "java/lang/IllegalArgumentException", hts _ q867, hK.kx.2.2.2.2.2 (_, _) (by decide)⟩
          ) (by decide) (by decide) (name := "java/lang/IllegalStateException") (hts _ q868) (hK.nw q357) hce hcv hcl ?_
      refine lv_astore_n (lv' := [(3, .ref q9), (0, .ref cw), (1, iv v), (2, .ref la)]) hx hb dX0_type_15 rfl hl (by decide) rfl (fun ls hl => ?_)
      refine lv_iconst (v := iI 2) hx hb dX0_type_16 rfl ?_
      have hfin : 2 = c_type bc v := by
        first | exact hz9.symm | exact hk9.symm
      refine vx_ret ?_
      refine W.widen (k := 2) (n := 12) (Nat.le_of_ble_eq_true rfl) (Nat.le_of_ble_eq_true rfl) ?_
      exact W.iret (v := iI 2) hx hb hr (fun tt_ ht_ hW_ => ⟨⟨iI 2, .inr u_5, rfl, ⟨(show 0 < c_type bc v ∧ ∃ En : String, 0 < c_type bc v ∧ En = nmX "java/lang/IllegalArgumentException" "java/lang/IllegalStateException" "" (c_type bc v) from ⟨(by omega), _, hcx9⟩), (congrArg iI hfin)⟩, by rw [ht_]; exact hP, hD⟩, hS.F ht_⟩) hS.2.2 dX0_type_17
  · intro u_4 H locs hC hP hD hS
    have hu_4 : c_type bc v = 0 := hC
    have hP : va_P E.1 CL (([(cw, .inr (1, [.ref stA, .ref oaA, .ref osA, iv hsn, .ref hdA, .ref spA, .ref bf, .ref lnA, .ref prA, iv ep, va_rf lt]))] : va_W) ++ ([(bf, .inr (10, [.ref bv, iv 0, iv bm, iv (bc + 1)]))] : va_W) ++ ([(bv, ia (E.2 3) bn (ui bg bc v))] : va_W) ++ ([(la, loA (E.2 5) zf)] : va_W)) H := hP
    have hD : va_D A (([(cw, .inr (1, [.ref stA, .ref oaA, .ref osA, iv hsn, .ref hdA, .ref spA, .ref bf, .ref lnA, .ref prA, iv ep, va_rf lt]))] : va_W) ++ ([(bf, .inr (10, [.ref bv, iv 0, iv bm, iv (bc + 1)]))] : va_W) ++ ([(bv, ia (E.2 3) bn (ui bg bc v))] : va_W) ++ ([(la, loA (E.2 5) zf)] : va_W)) := hD
    have hz9 : c_type bc v = 0 := hu_4
    refine lv_i2l (v := (iI (bc + 1)).toInt64) hx hb dX0_type_7 rfl ?_
    refine n_last1 hx hb hK.1 hP hD hS 3 rfl dX0_type_8 (ws2 := ([(cw, .inr (1, [.ref stA, .ref oaA, .ref osA, iv hsn, .ref hdA, .ref spA, .ref bf, .ref lnA, .ref prA, iv ep, va_rf lt]))] : va_W) ++ ([(bf, .inr (10, [.ref bv, iv 0, iv bm, iv (bc + 1)]))] : va_W) ++ ([(bv, ia (E.2 3) bn (ui bg bc v))] : va_W) ++ ([(la, loA (E.2 5) (vp_updL zf 0 ((iI (bc + 1)).toInt64)))] : va_W)) rfl (fun H locs hP hD hS => ?_)
    have hP : va_P E.1 CL (([(cw, .inr (1, [.ref stA, .ref oaA, .ref osA, iv hsn, .ref hdA, .ref spA, .ref bf, .ref lnA, .ref prA, iv ep, va_rf lt]))] : va_W) ++ ([(bf, .inr (10, [.ref bv, iv 0, iv bm, iv (bc + 1)]))] : va_W) ++ ([(bv, ia (E.2 3) bn (ui bg bc v))] : va_W) ++ ([(la, loA (E.2 5) (vp_updL zf 0 ((iI (bc + 1)).toInt64)))] : va_W)) H := hP
    have hD : va_D A (([(cw, .inr (1, [.ref stA, .ref oaA, .ref osA, iv hsn, .ref hdA, .ref spA, .ref bf, .ref lnA, .ref prA, iv ep, va_rf lt]))] : va_W) ++ ([(bf, .inr (10, [.ref bv, iv 0, iv bm, iv (bc + 1)]))] : va_W) ++ ([(bv, ia (E.2 3) bn (ui bg bc v))] : va_W) ++ ([(la, loA (E.2 5) (vp_updL zf 0 ((iI (bc + 1)).toInt64)))] : va_W)) := hD
    refine lv_goto (tgt := 18) hx hb dX0_type_9 (by decide) ?_
    refine lv_iconst (v := iI 0) hx hb dX0_type_18 rfl ?_
    have hfin : 0 = c_type bc v := by
      first | exact hz9.symm | exact hk9.symm
    refine vx_ret ?_
    refine W.widen (k := 2) (n := 12) (Nat.le_of_ble_eq_true rfl) (Nat.le_of_ble_eq_true rfl) ?_
    exact W.iret (v := iI 0) hx hb hr (fun tt_ ht_ hW_ => ⟨⟨iI 0, .inl (u_4, (vp_updL zf 0 ((iI (bc + 1)).toInt64))), rfl, ⟨(show (c_type bc v = 0) ∧ c_type bc v = 0 ∧ (u_4, (vp_updL zf 0 ((iI (bc + 1)).toInt64))).2 0 = (iI (bc + 1)).toInt64 from ⟨hu_4, hz9, rfl⟩), (congrArg iI hfin)⟩, by rw [ht_]; exact hP, hD⟩, hS.F ht_⟩) hS.2.2 dX0_type_19
set_option maxHeartbeats 2000000 in
set_option maxRecDepth 100000 in
theorem mt_X0_type_b (l : Launch) (E : EE) (cw : Nat) (stA : Nat) (oaA : Nat) (osA : Nat) (hsn : Int) (hdA : Nat) (spA : Nat) (lnA : Nat) (prA : Nat) (ep : Int) (lt : Option Nat) (bf : Nat) (bm : Int) (bv : Nat) (bg : Int → Int) (la : Nat) (zf : Nat → Int64) (v : Int) (hst : l.stackTraces = false) (hv : 0 ≤ v ∧ v < 65536) (hb7 : B7 bg) (sz : Nat) : vx_Met l yX0_type (wsW_ yX0_type cX0_type 4 (some .int) [(0, 9, 12, 13), (0, 9, 15, 15)]) { frames := 8, cells := 3, slots := 46, locals := 153 } (va_Pc [.ref cw, iv v, .ref la] (UX E (([(cw, .inr (1, [.ref stA, .ref oaA, .ref osA, iv hsn, .ref hdA, .ref spA, .ref bf, .ref lnA, .ref prA, iv ep, va_rf lt]))] : va_W) ++ ([(bf, .inr (10, [.ref bv, iv 0, iv bm, iv 16]))] : va_W) ++ ([(bv, ia (E.2 3) 16 bg)] : va_W) ++ ([(la, loA (E.2 5) zf)] : va_W)) sz)) (UQx E (Sum.elim (fun u : (Nat) × (Nat → Int64) => (c_type 16 v = 0) ∧ c_type 16 v = 0 ∧ u.2 0 = (iI (16 + 1)).toInt64) (fun u : Unit => 0 < c_type 16 v ∧ ∃ En : String, 0 < c_type 16 v ∧ En = nmX "java/lang/IllegalArgumentException" "java/lang/IllegalStateException" "" (c_type 16 v))) (fun _ => c_type 16 v) (Sum.elim (fun u : (Nat) × (Nat → Int64) => ([(cw, .inr (1, [.ref stA, .ref oaA, .ref osA, iv hsn, .ref hdA, .ref spA, .ref bf, .ref lnA, .ref prA, iv ep, va_rf lt]))] : va_W) ++ ([(bf, .inr (10, [.ref u.1, iv 0, iv bm, iv (16 + 1)]))] : va_W) ++ ([(bv, ia (E.2 3) 16 bg)] : va_W) ++ ([(la, loA (E.2 5) u.2)] : va_W) ++ ([(u.1, ia (E.2 3) 34 (ui (cp0 bg (fun _ => 0) 16) 16 v))] : va_W)) (fun u : Unit => ([(cw, .inr (1, [.ref stA, .ref oaA, .ref osA, iv hsn, .ref hdA, .ref spA, .ref bf, .ref lnA, .ref prA, iv ep, va_rf lt]))] : va_W) ++ ([(bf, .inr (10, [.ref bv, iv 0, iv bm, iv 16]))] : va_W) ++ ([(bv, ia (E.2 3) 16 bg)] : va_W) ++ ([(la, loA (E.2 5) zf)] : va_W))) (va_A (([(cw, .inr (1, [.ref stA, .ref oaA, .ref osA, iv hsn, .ref hdA, .ref spA, .ref bf, .ref lnA, .ref prA, iv ep, va_rf lt]))] : va_W) ++ ([(bf, .inr (10, [.ref bv, iv 0, iv bm, iv 16]))] : va_W) ++ ([(bv, ia (E.2 3) 16 bg)] : va_W) ++ ([(la, loA (E.2 5) zf)] : va_W)) sz)) (UXx E (fun (_ : String) (_ : Unit) => False) (fun _ : Unit => []) (fun _ : Unit => none) (va_A (([(cw, .inr (1, [.ref stA, .ref oaA, .ref osA, iv hsn, .ref hdA, .ref spA, .ref bf, .ref lnA, .ref prA, iv ep, va_rf lt]))] : va_W) ++ ([(bf, .inr (10, [.ref bv, iv 0, iv bm, iv 16]))] : va_W) ++ ([(bv, ia (E.2 3) 16 bg)] : va_W) ++ ([(la, loA (E.2 5) zf)] : va_W)) sz)) 3 46 (va_A (([(cw, .inr (1, [.ref stA, .ref oaA, .ref osA, iv hsn, .ref hdA, .ref spA, .ref bf, .ref lnA, .ref prA, iv ep, va_rf lt]))] : va_W) ++ ([(bf, .inr (10, [.ref bv, iv 0, iv bm, iv 16]))] : va_W) ++ ([(bv, ia (E.2 3) 16 bg)] : va_W) ++ ([(la, loA (E.2 5) zf)] : va_W)) sz) := by
  refine vx_ofWH (hh := [(0, 9, 12, 13), (0, 9, 15, 15)]) (cc := cX0_type) (maxL := 4) (ret := (some .int)) (by decide) rfl ?_
  intro p e s m args below meth c s₁ B hml hv
  obtain ⟨rfl, hsz, hP, hK, hD0, hE⟩ := hv
  have hx := B.exec
  have hb := B.bytes
  have hr := B.returns
  have hts := atoms_spec (ws := (wsW_ yX0_type cX0_type 4 (some .int) [(0, 9, 12, 13), (0, 9, 15, 15)])) B.pre
  have htab : c.exceptionTable.toList = tableOf [(0, 9, 12, 13), (0, 9, 15, 15)] := vx_table (x := yX0_type) B (hts _ List.mem_cons_self)
  have hts : ∀ w ∈ lw_all, w.before _ s = true := fun w h => hts w (List.mem_cons_of_mem _ h)
  have hown : s.vm.findClass RX0 = some m.cls := findClass_of_methodNamed B.named
  have hlocks := B.notSynchronized
  subst hsz
  have hD := hD0.self (sz := s.heap.size)
  generalize hAe : va_A (([(cw, .inr (1, [.ref stA, .ref oaA, .ref osA, iv hsn, .ref hdA, .ref spA, .ref bf, .ref lnA, .ref prA, iv ep, va_rf lt]))] : va_W) ++ ([(bf, .inr (10, [.ref bv, iv 0, iv bm, iv 16]))] : va_W) ++ ([(bv, ia (E.2 3) 16 bg)] : va_W) ++ ([(la, loA (E.2 5) zf)] : va_W)) s.heap.size = A at hD hE ⊢
  have hA : ∀ q : Nat, s.heap.size ≤ q → A q := fun q h => by rw [← hAe]; exact Or.inr h
  have hS : va_S A s.heap s.heap [] := va_S.rf
  have hl := lv_entry ([.ref cw, iv v, .ref la]) (n := 4) (Nat.le_of_ble_eq_true rfl)
  rw [lg_entry_eq]
  generalize (lg_sl ([.ref cw, iv v, .ref la]) ++ List.replicate (4 - (lg_sl ([.ref cw, iv v, .ref la])).length) Slot.unset).toArray = ls at hl ⊢
  have hl : lv_has ls 4 [(0, .ref cw), (1, iv v), (2, .ref la)] := hl
  refine lv_aload_n hx hb dX0_type_0 rfl (lv_at hl 2 rfl) ?_
  refine lv_iconst (v := iI 0) hx hb dX0_type_1 rfl ?_
  refine lv_aload_n hx hb dX0_type_2 rfl (lv_at hl 0 rfl) ?_
  refine lv_iload_n hx hb dX0_type_3 rfl (lv_at hl 1 rfl) ?_
  have hg_1 : gpick [[(cw, .inr (1, [.ref stA, .ref oaA, .ref osA, iv hsn, .ref hdA, .ref spA, .ref bf, .ref lnA, .ref prA, iv ep, va_rf lt]))], [(bf, .inr (10, [.ref bv, iv 0, iv bm, iv 16]))], [(bv, ia (E.2 3) 16 bg)], [(la, loA (E.2 5) zf)]] ([[(cw, .inr (1, [.ref stA, .ref oaA, .ref osA, iv hsn, .ref hdA, .ref spA, .ref bf, .ref lnA, .ref prA, iv ep, va_rf lt]))], [(bf, .inr (10, [.ref bv, iv 0, iv bm, iv 16]))], [(bv, ia (E.2 3) 16 bg)]] ++ [[(la, loA (E.2 5) zf)]]) [0, 1, 2, 3] := ⟨rfl, (show List.Perm [0, 1, 2, 3] (List.range 4) from by decide)⟩
  have hg_1P : va_P E.1 CL (([(cw, .inr (1, [.ref stA, .ref oaA, .ref osA, iv hsn, .ref hdA, .ref spA, .ref bf, .ref lnA, .ref prA, iv ep, va_rf lt]))] : va_W) ++ ([(bf, .inr (10, [.ref bv, iv 0, iv bm, iv 16]))] : va_W) ++ ([(bv, ia (E.2 3) 16 bg)] : va_W)) s.heap := (g_out hg_1 hP hD).1
  have hg_1D : va_D A (([(cw, .inr (1, [.ref stA, .ref oaA, .ref osA, iv hsn, .ref hdA, .ref spA, .ref bf, .ref lnA, .ref prA, iv ep, va_rf lt]))] : va_W) ++ ([(bf, .inr (10, [.ref bv, iv 0, iv bm, iv 16]))] : va_W) ++ ([(bv, ia (E.2 3) 16 bg)] : va_W)) := (g_out hg_1 hP hD).2
  have hg_1F : ∀ q, va_A (([(cw, .inr (1, [.ref stA, .ref oaA, .ref osA, iv hsn, .ref hdA, .ref spA, .ref bf, .ref lnA, .ref prA, iv ep, va_rf lt]))] : va_W) ++ ([(bf, .inr (10, [.ref bv, iv 0, iv bm, iv 16]))] : va_W) ++ ([(bv, ia (E.2 3) 16 bg)] : va_W)) s.heap.size q → A q := g_free hg_1 hP hD hS hA
  have hlt_2 := P_lts hP
  have hz_3 : s.heap.size ≤ s.heap.size := hS.1
  have hj_6 : ∀ u_4 : Nat, gpick ([[(cw, .inr (1, [.ref stA, .ref oaA, .ref osA, iv hsn, .ref hdA, .ref spA, .ref bf, .ref lnA, .ref prA, iv ep, va_rf lt]))], [(bf, .inr (10, [.ref u_4, iv 0, iv bm, iv (16 + 1)]))], [(bv, ia (E.2 3) 16 bg)], [(u_4, ia (E.2 3) 34 (ui (cp0 bg (fun _ => 0) 16) 16 v))]] ++ [[(la, loA (E.2 5) zf)]]) [[(cw, .inr (1, [.ref stA, .ref oaA, .ref osA, iv hsn, .ref hdA, .ref spA, .ref bf, .ref lnA, .ref prA, iv ep, va_rf lt]))], [(bf, .inr (10, [.ref u_4, iv 0, iv bm, iv (16 + 1)]))], [(bv, ia (E.2 3) 16 bg)], [(la, loA (E.2 5) zf)], [(u_4, ia (E.2 3) 34 (ui (cp0 bg (fun _ => 0) 16) 16 v))]] [0, 1, 2, 4, 3] := fun u_4 => ⟨rfl, (show List.Perm [0, 1, 2, 4, 3] (List.range 5) from by decide)⟩
  have hj_7 : ∀ u_5 : Unit, gpick ([[(cw, .inr (1, [.ref stA, .ref oaA, .ref osA, iv hsn, .ref hdA, .ref spA, .ref bf, .ref lnA, .ref prA, iv ep, va_rf lt]))], [(bf, .inr (10, [.ref bv, iv 0, iv bm, iv 16]))], [(bv, ia (E.2 3) 16 bg)]] ++ [[(la, loA (E.2 5) zf)]]) [[(cw, .inr (1, [.ref stA, .ref oaA, .ref osA, iv hsn, .ref hdA, .ref spA, .ref bf, .ref lnA, .ref prA, iv ep, va_rf lt]))], [(bf, .inr (10, [.ref bv, iv 0, iv bm, iv 16]))], [(bv, ia (E.2 3) 16 bg)], [(la, loA (E.2 5) zf)]] [0, 1, 2, 3] := fun u_5 => ⟨rfl, (show List.Perm [0, 1, 2, 3] (List.range 4) from by decide)⟩
  refine n_txB (x := fun u_4 => 16 + 1) (w2 := fun u_4 : Nat => ([(cw, .inr (1, [.ref stA, .ref oaA, .ref osA, iv hsn, .ref hdA, .ref spA, .ref bf, .ref lnA, .ref prA, iv ep, va_rf lt]))] : va_W) ++ ([(bf, .inr (10, [.ref u_4, iv 0, iv bm, iv (16 + 1)]))] : va_W) ++ ([(bv, ia (E.2 3) 16 bg)] : va_W) ++ ([(la, loA (E.2 5) zf)] : va_W) ++ ([(u_4, ia (E.2 3) 34 (ui (cp0 bg (fun _ => 0) 16) 16 v))] : va_W)) (w3 := fun u_5 : Unit => ([(cw, .inr (1, [.ref stA, .ref oaA, .ref osA, iv hsn, .ref hdA, .ref spA, .ref bf, .ref lnA, .ref prA, iv ep, va_rf lt]))] : va_W) ++ ([(bf, .inr (10, [.ref bv, iv 0, iv bm, iv 16]))] : va_W) ++ ([(bv, ia (E.2 3) 16 bg)] : va_W) ++ ([(la, loA (E.2 5) zf)] : va_W)) (vx_runV (As := [iv v]) (rest := [iv 0, .ref la]) ⟨hx, hb, hml, hown, hts⟩ (mt_X1_type_b l E cw stA oaA osA hsn hdA spA lnA prA ep lt bf bm bv bg v (by exact hst) (by omega) (by assumption) _) (cwV 1 hts (lw_V q1731 q1732 q1733 q94 q1734) rfl rfl rfl (by decide +kernel) ⟨Nat.le_of_ble_eq_true rfl, Nat.le_of_ble_eq_true rfl⟩) (UX_V hg_1P hK (hg_1D) hE hS hg_1F (va_recv hK.1 hP (ci := 1) (q0 := 0) rfl rfl)) rfl rfl hl.1 rfl (lv_room (Nat.le_of_ble_eq_true rfl)) dX0_type_4 ⟨Nat.le_of_ble_eq_true rfl, Nat.le_of_ble_eq_true rfl⟩) hS hg_1F ?_ ?_ ?_ ?_
  · exact (fun u_4 _ hk9 hp9 hd9 => g_back hg_1 (hj_6 u_4) hP hD hg_1F hk9 hp9 hd9)
  · exact (fun u_5 _ hk9 hp9 hd9 => g_back hg_1 (hj_7 u_5) hP hD hg_1F hk9 hp9 hd9)
  · intro En ce q9 u_5 H locs hCx hP hD hS hxf hq9 hce hcv hcl
    have hCx : 0 < c_type 16 v ∧ En = nmX "java/lang/IllegalArgumentException" "java/lang/IllegalStateException" "" (c_type 16 v) := hCx
    have hP : va_P E.1 CL (([(cw, .inr (1, [.ref stA, .ref oaA, .ref osA, iv hsn, .ref hdA, .ref spA, .ref bf, .ref lnA, .ref prA, iv ep, va_rf lt]))] : va_W) ++ ([(bf, .inr (10, [.ref bv, iv 0, iv bm, iv 16]))] : va_W) ++ ([(bv, ia (E.2 3) 16 bg)] : va_W) ++ ([(la, loA (E.2 5) zf)] : va_W)) H := hP
    have hD : va_D A (([(cw, .inr (1, [.ref stA, .ref oaA, .ref osA, iv hsn, .ref hdA, .ref spA, .ref bf, .ref lnA, .ref prA, iv ep, va_rf lt]))] : va_W) ++ ([(bf, .inr (10, [.ref bv, iv 0, iv bm, iv 16]))] : va_W) ++ ([(bv, ia (E.2 3) 16 bg)] : va_W) ++ ([(la, loA (E.2 5) zf)] : va_W)) := hD
    have hcx9 := hCx
    obtain ⟨hc0, hEn9⟩ := hCx
    have hcr9 : c_type 16 v ≤ 2 := by have := c_type_r 16 v; omega
    rcases (show c_type 16 v = 1 ∨ c_type 16 v = 2 by omega) with hk9 | hk9
    · have hEn9 : En = "java/lang/IllegalArgumentException" := by rw [hEn9, hk9]; rfl
      subst hEn9
      refine vx_catch (own := "ClockworkTailorLaw") hown [] _ [_] htab (fun z hz => by cases hz) (by decide) (by decide) (name := "java/lang/IllegalArgumentException") (hts _ q867) (hK.nw q894) hce hcv hcl ?_
      refine lv_astore_n (lv' := [(3, .ref q9), (0, .ref cw), (1, iv v), (2, .ref la)]) hx hb dX0_type_12 rfl hl (by decide) rfl (fun ls hl => ?_)
      refine lv_iconst (v := iI 1) hx hb dX0_type_13 rfl ?_
      have hfin : 1 = c_type 16 v := by
        first | exact hz9.symm | exact hk9.symm
      refine vx_ret ?_
      refine W.widen (k := 3) (n := 46) (Nat.le_of_ble_eq_true rfl) (Nat.le_of_ble_eq_true rfl) ?_
      exact W.iret (v := iI 1) hx hb hr (fun tt_ ht_ hW_ => ⟨⟨iI 1, .inr u_5, rfl, ⟨(show 0 < c_type 16 v ∧ ∃ En : String, 0 < c_type 16 v ∧ En = nmX "java/lang/IllegalArgumentException" "java/lang/IllegalStateException" "" (c_type 16 v) from ⟨(by omega), _, hcx9⟩), (congrArg iI hfin)⟩, by rw [ht_]; exact hP, hD⟩, hS.F ht_⟩) hS.2.2 dX0_type_14
    · have hEn9 : En = "java/lang/IllegalStateException" := by rw [hEn9, hk9]; rfl
      subst hEn9
      refine vx_catch (own := "ClockworkTailorLaw") hown [_] _ [] htab (fun z hz => by
          simp only [List.mem_cons, List.not_mem_nil, or_false] at hz
          rcases hz with rfl
          · exact Or.inr ⟨by decide, "java/lang/IllegalArgumentException", hts _ q867, hK.kx.2.2.2.2.2 (_, _) (by decide)⟩
          ) (by decide) (by decide) (name := "java/lang/IllegalStateException") (hts _ q868) (hK.nw q357) hce hcv hcl ?_
      refine lv_astore_n (lv' := [(3, .ref q9), (0, .ref cw), (1, iv v), (2, .ref la)]) hx hb dX0_type_15 rfl hl (by decide) rfl (fun ls hl => ?_)
      refine lv_iconst (v := iI 2) hx hb dX0_type_16 rfl ?_
      have hfin : 2 = c_type 16 v := by
        first | exact hz9.symm | exact hk9.symm
      refine vx_ret ?_
      refine W.widen (k := 3) (n := 46) (Nat.le_of_ble_eq_true rfl) (Nat.le_of_ble_eq_true rfl) ?_
      exact W.iret (v := iI 2) hx hb hr (fun tt_ ht_ hW_ => ⟨⟨iI 2, .inr u_5, rfl, ⟨(show 0 < c_type 16 v ∧ ∃ En : String, 0 < c_type 16 v ∧ En = nmX "java/lang/IllegalArgumentException" "java/lang/IllegalStateException" "" (c_type 16 v) from ⟨(by omega), _, hcx9⟩), (congrArg iI hfin)⟩, by rw [ht_]; exact hP, hD⟩, hS.F ht_⟩) hS.2.2 dX0_type_17
  · intro u_4 H locs hC hP hD hS
    have hu_4 : c_type 16 v = 0 := hC
    have hP : va_P E.1 CL (([(cw, .inr (1, [.ref stA, .ref oaA, .ref osA, iv hsn, .ref hdA, .ref spA, .ref bf, .ref lnA, .ref prA, iv ep, va_rf lt]))] : va_W) ++ ([(bf, .inr (10, [.ref u_4, iv 0, iv bm, iv (16 + 1)]))] : va_W) ++ ([(bv, ia (E.2 3) 16 bg)] : va_W) ++ ([(la, loA (E.2 5) zf)] : va_W) ++ ([(u_4, ia (E.2 3) 34 (ui (cp0 bg (fun _ => 0) 16) 16 v))] : va_W)) H := hP
    have hD : va_D A (([(cw, .inr (1, [.ref stA, .ref oaA, .ref osA, iv hsn, .ref hdA, .ref spA, .ref bf, .ref lnA, .ref prA, iv ep, va_rf lt]))] : va_W) ++ ([(bf, .inr (10, [.ref u_4, iv 0, iv bm, iv (16 + 1)]))] : va_W) ++ ([(bv, ia (E.2 3) 16 bg)] : va_W) ++ ([(la, loA (E.2 5) zf)] : va_W) ++ ([(u_4, ia (E.2 3) 34 (ui (cp0 bg (fun _ => 0) 16) 16 v))] : va_W)) := hD
    have hz9 : c_type 16 v = 0 := hu_4
    refine lv_i2l (v := (iI (16 + 1)).toInt64) hx hb dX0_type_7 rfl ?_
    refine n_last1 hx hb hK.1 hP hD hS 3 rfl dX0_type_8 (ws2 := ([(cw, .inr (1, [.ref stA, .ref oaA, .ref osA, iv hsn, .ref hdA, .ref spA, .ref bf, .ref lnA, .ref prA, iv ep, va_rf lt]))] : va_W) ++ ([(bf, .inr (10, [.ref u_4, iv 0, iv bm, iv (16 + 1)]))] : va_W) ++ ([(bv, ia (E.2 3) 16 bg)] : va_W) ++ ([(la, loA (E.2 5) (vp_updL zf 0 ((iI (16 + 1)).toInt64)))] : va_W) ++ ([(u_4, ia (E.2 3) 34 (ui (cp0 bg (fun _ => 0) 16) 16 v))] : va_W)) rfl (fun H locs hP hD hS => ?_)
    have hP : va_P E.1 CL (([(cw, .inr (1, [.ref stA, .ref oaA, .ref osA, iv hsn, .ref hdA, .ref spA, .ref bf, .ref lnA, .ref prA, iv ep, va_rf lt]))] : va_W) ++ ([(bf, .inr (10, [.ref u_4, iv 0, iv bm, iv (16 + 1)]))] : va_W) ++ ([(bv, ia (E.2 3) 16 bg)] : va_W) ++ ([(la, loA (E.2 5) (vp_updL zf 0 ((iI (16 + 1)).toInt64)))] : va_W) ++ ([(u_4, ia (E.2 3) 34 (ui (cp0 bg (fun _ => 0) 16) 16 v))] : va_W)) H := hP
    have hD : va_D A (([(cw, .inr (1, [.ref stA, .ref oaA, .ref osA, iv hsn, .ref hdA, .ref spA, .ref bf, .ref lnA, .ref prA, iv ep, va_rf lt]))] : va_W) ++ ([(bf, .inr (10, [.ref u_4, iv 0, iv bm, iv (16 + 1)]))] : va_W) ++ ([(bv, ia (E.2 3) 16 bg)] : va_W) ++ ([(la, loA (E.2 5) (vp_updL zf 0 ((iI (16 + 1)).toInt64)))] : va_W) ++ ([(u_4, ia (E.2 3) 34 (ui (cp0 bg (fun _ => 0) 16) 16 v))] : va_W)) := hD
    refine lv_goto (tgt := 18) hx hb dX0_type_9 (by decide) ?_
    refine lv_iconst (v := iI 0) hx hb dX0_type_18 rfl ?_
    have hfin : 0 = c_type 16 v := by
      first | exact hz9.symm | exact hk9.symm
    refine vx_ret ?_
    refine W.widen (k := 3) (n := 46) (Nat.le_of_ble_eq_true rfl) (Nat.le_of_ble_eq_true rfl) ?_
    exact W.iret (v := iI 0) hx hb hr (fun tt_ ht_ hW_ => ⟨⟨iI 0, .inl (u_4, (vp_updL zf 0 ((iI (16 + 1)).toInt64))), rfl, ⟨(show (c_type 16 v = 0) ∧ c_type 16 v = 0 ∧ (u_4, (vp_updL zf 0 ((iI (16 + 1)).toInt64))).2 0 = (iI (16 + 1)).toInt64 from ⟨hu_4, hz9, rfl⟩), (congrArg iI hfin)⟩, by rw [ht_]; exact hP, hD⟩, hS.F ht_⟩) hS.2.2 dX0_type_19
