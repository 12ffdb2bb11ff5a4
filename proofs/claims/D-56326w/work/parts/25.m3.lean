set_option maxHeartbeats 4000000 in
set_option maxRecDepth 100000 in
theorem mt_X5_copies (l : Launch) (E : EE) (xa : Nat) (ya : Nat) (n1 : Nat) (n2 : Nat) (f : Int → Int) (h : Int → Int) (a : Int) (b : Int) (h1 : 0 ≤ a ∧ a + 661 ≤ (n1 : Int)) (h2 : 0 ≤ b ∧ b + 661 ≤ (n2 : Int)) (h3 : n1 < 2147483648) (h4 : n2 < 2147483648) (sz : Nat) : Met l yX5_copies (ws_ yX5_copies cX5_copies 5 none) { frames := 0, cells := 0, slots := 0, locals := 0 } (va_Pc [.ref xa, iv a, .ref ya, iv b] (UW E ([(xa, ia (E.2 0) n1 f), (ya, ia (E.2 0) n2 h)]) sz)) (UQv E ([(xa, ia (E.2 0) n1 f), (ya, ia (E.2 0) n2 (cpy f h a b))]) (va_A ([(xa, ia (E.2 0) n1 f), (ya, ia (E.2 0) n2 h)]) sz)) 0 0 (va_A ([(xa, ia (E.2 0) n1 f), (ya, ia (E.2 0) n2 h)]) sz) := by
  refine Met.ofW (cc := cX5_copies) (maxL := 5) (ret := none) (by decide) rfl ?_
  intro p e s m args below meth c s₁ B hml hv
  obtain ⟨rfl, hsz, hP, hK, hD0⟩ := hv
  have hx := B.exec
  have hb := B.bytes
  have hr := B.returns
  have hts := atoms_spec (ws := (ws_ yX5_copies cX5_copies 5 none)) B.pre
  have hts : ∀ w ∈ lw_all, w.before _ s = true := fun w h => hts w (List.mem_cons_of_mem _ h)
  have hown : s.vm.findClass RX5 = some m.cls := findClass_of_methodNamed B.named
  have hlocks := B.notSynchronized
  subst hsz
  have hD := hD0.self (sz := s.heap.size)
  generalize hAe : va_A ([(xa, ia (E.2 0) n1 f), (ya, ia (E.2 0) n2 h)]) s.heap.size = A at hD ⊢
  have hA : ∀ q : Nat, s.heap.size ≤ q → A q := fun q h => by rw [← hAe]; exact Or.inr h
  have hS : va_S A s.heap s.heap [] := va_S.rf
  have hl := lv_entry ([.ref xa, iv a, .ref ya, iv b]) (n := 5) (Nat.le_of_ble_eq_true rfl)
  rw [lg_entry_eq]
  generalize (lg_sl ([.ref xa, iv a, .ref ya, iv b]) ++ List.replicate (5 - (lg_sl ([.ref xa, iv a, .ref ya, iv b])).length) Slot.unset).toArray = ls at hl ⊢
  have hl : lv_has ls 5 [(0, .ref xa), (1, iv a), (2, .ref ya), (3, iv b)] := hl
  refine lv_iconst (v := iI 0) hx hb dX5_copies_0 rfl ?_
  refine lv_istore (lv' := [(4, iv 0), (0, .ref xa), (1, iv a), (2, .ref ya), (3, iv b)]) hx hb dX5_copies_1 hl (by decide) rfl (fun ls hl => ?_)
  have l3 : ∀ (fu : Nat) (x4 : Int) (hv : Int → Int), (0 ≤ x4 ∧ x4 ≤ 661) → (∀ x, hv x = if b ≤ x ∧ x < b + x4 then f (a + (x - b)) else h x) → (661 - x4 < (fu : Int)) → ∀ (H : Heap) (locs : List Loc), va_P E.1 CL ([(xa, ia (E.2 0) n1 f), (ya, ia (E.2 0) n2 hv)]) H → va_D A ([(xa, ia (E.2 0) n1 f), (ya, ia (E.2 0) n2 hv)]) → va_S A s.heap H locs → ∀ ls : Array Slot, lv_has ls 5 [(4, iv x4), (0, .ref xa), (1, iv a), (2, .ref ya), (3, iv b)] → W p l e (headSpec (ws_ yX5_copies cX5_copies 5 none) { frames := 0, cells := 0, slots := 0, locals := 0 }).room s m ([.ref xa, iv a, .ref ya, iv b] : List Value).toArray below meth c H locs 0 0 (MQ below (UQv E ([(xa, ia (E.2 0) n1 f), (ya, ia (E.2 0) n2 (cpy f h a b))]) A) ([.ref xa, iv a, .ref ya, iv b] : List Value).toArray s 0 0 A) (F0 m 3 ls []) := by
    intro fu
    induction fu with
    | zero =>
      intro x4 hv il3_0 il3_1 hm
      exfalso; omega
    | succ fu ih =>
      intro x4 hv il3_0 il3_1 hm H locs hP hD hS ls hl
      have ihl3 := ih
      refine lv_iload hx hb dX5_copies_3 (lv_at hl 0 rfl) ?_
      refine lv_sipush (v := iI 661) hx hb dX5_copies_5 (by decide) ?_
      refine n_icmp_ge (tgt := 29) hx hb dX5_copies_8 (by decide) (by omega) (by omega) (fun c_1 => ?_) (fun c_1 => ?_)
      · have w_2 : hv = cpy f h a b := by
          funext x
          have := il3_1 x
          obtain rfl : x4 = 661 := by omega
          exact this
        rw [show [(xa, ia (E.2 0) n1 f), (ya, ia (E.2 0) n2 hv)] = [(xa, ia (E.2 0) n1 f), (ya, ia (E.2 0) n2 (cpy f h a b))] from congrArg (fun z0 : Int → Int => [(xa, ia (E.2 0) n1 f), (ya, ia (E.2 0) n2 z0)]) w_2] at hP hD
        exact W.vret hx hb hr (fun tt_ ht_ hW_ => ⟨⟨(), rfl, trivial, by rw [ht_]; exact hP, hD⟩, hS.F ht_⟩) hS.2.2 dX5_copies_29
      · refine lv_aload_n hx hb dX5_copies_11 rfl (lv_at hl 3 rfl) ?_
        refine lv_iload_n hx hb dX5_copies_12 rfl (lv_at hl 4 rfl) ?_
        refine lv_iload hx hb dX5_copies_13 (lv_at hl 0 rfl) ?_
        refine n_iadd hx hb dX5_copies_15 ?_
        refine lv_aload_n hx hb dX5_copies_16 rfl (lv_at hl 1 rfl) ?_
        refine lv_iload_n hx hb dX5_copies_17 rfl (lv_at hl 2 rfl) ?_
        refine lv_iload hx hb dX5_copies_18 (lv_at hl 0 rfl) ?_
        refine n_iadd hx hb dX5_copies_20 ?_
        refine n_iald (f := f) hx hb hK.1 hP 0 0 rfl rfl (by omega) (by omega) dX5_copies_21 ?_
        refine n_iast (f := hv) hx hb hK.1 hP hD hS 1 0 rfl rfl (by omega) (by omega) dX5_copies_22 (ws2 := [(xa, ia (E.2 0) n1 f), (ya, ia (E.2 0) n2 (ui hv (b + x4) (f (a + x4))))]) rfl (fun H locs hP hD hS => ?_)
        obtain ⟨a_3, ea_3⟩ : ∃ zz : Int → Int, zz = ui hv (b + x4) (f (a + x4)) := ⟨_, rfl⟩
        rw [← ea_3] at hP hD
        refine lv_iinc (v := iI (x4 + 1)) (lv' := [(4, iv (x4 + 1)), (0, .ref xa), (1, iv a), (2, .ref ya), (3, iv b)]) hx hb dX5_copies_23 hl (k := 0) rfl (iI_add _ _) (by decide) rfl (fun ls hl => ?_)
        refine lv_goto (tgt := 3) hx hb dX5_copies_26 (by decide) ?_
        exact ihl3 (x4 + 1) a_3 (by first | omega | rfl) (by intro x; rw [ea_3]; unfold ui; have := il3_1 x; split; (next hq => rw [if_pos (by omega)]; congr 1; omega); (next hq => rw [this]; (repeat' split) <;> first | rfl | omega)) (by omega) H locs hP hD hS ls (lv_sub hl [0, 1, 2, 3, 4] rfl)
  exact l3 662 0 h (by first | omega | rfl | trivial) (by intro x; rw [if_neg (by omega)]) (by omega) s.heap [] hP hD hS ls hl
set_option maxHeartbeats 4000000 in
set_option maxRecDepth 100000 in
theorem mt_X5_keeps1 (l : Launch) (E : EE) (o : Nat → Nat) (sc : Nat → Int) (ar : Nat → Int → Int) (hch : 0 ≤ sc 5 ∧ sc 5 ≤ 8) (hwi : 0 ≤ sc 6 ∧ sc 6 ≤ 1) (sz : Nat) : Met l yX5_keeps (ws_ yX5_keeps cX5_keeps 3 none) { frames := 1, cells := 0, slots := 0, locals := 24 } (va_Pc [.ref (o 0), .ref (o 1)] (UW E (MW E o sc ar) sz)) (UQv E (MW E o (us (us sc 5 (k_cw (sc 6) (sc 5))) 8 0) (ua ar 2 (k_kw (sc 6) (ar 2) (ar 1) (sc 5)))) (va_A (MW E o sc ar) sz)) 0 0 (va_A (MW E o sc ar) sz) := by
  refine Met.ofW (cc := cX5_keeps) (maxL := 3) (ret := none) (by decide) rfl ?_
  intro p e s m args below meth c s₁ B hml hv
  obtain ⟨rfl, hsz, hP, hK, hD0⟩ := hv
  have hx := B.exec
  have hb := B.bytes
  have hr := B.returns
  have hts := atoms_spec (ws := (ws_ yX5_keeps cX5_keeps 3 none)) B.pre
  have hts : ∀ w ∈ lw_all, w.before _ s = true := fun w h => hts w (List.mem_cons_of_mem _ h)
  have hown : s.vm.findClass RX5 = some m.cls := findClass_of_methodNamed B.named
  have hlocks := B.notSynchronized
  subst hsz
  have hD := hD0.self (sz := s.heap.size)
  generalize hAe : va_A (MW E o sc ar) s.heap.size = A at hD ⊢
  have hA : ∀ q : Nat, s.heap.size ≤ q → A q := fun q h => by rw [← hAe]; exact Or.inr h
  have hS : va_S A s.heap s.heap [] := va_S.rf
  have hl := lv_entry ([.ref (o 0), .ref (o 1)]) (n := 3) (Nat.le_of_ble_eq_true rfl)
  rw [lg_entry_eq]
  generalize (lg_sl ([.ref (o 0), .ref (o 1)]) ++ List.replicate (3 - (lg_sl ([.ref (o 0), .ref (o 1)])).length) Slot.unset).toArray = ls at hl ⊢
  have hl : lv_has ls 3 [(0, .ref (o 0)), (1, .ref (o 1))] := hl
  refine lv_aload_n hx hb dX5_keeps_0 rfl (lv_at hl 0 rfl) ?_
  refine lv_iconst (v := iI 0) hx hb dX5_keeps_1 rfl ?_
  refine va_put (D := E.1) (ci := 0) (v := iv 0) (ty := .int) (C := RX5) (T := TX5) (N := 23) hx hb hts in_X5 tyX5 tyX5_ok nmX5 hown hK.1 hP hD hS 0 rfl rfl 8 (by decide) (hts _ q2037) (fun _ h9 => h9) rfl (by decide +kernel) rfl rfl (Nat.le_of_ble_eq_true rfl) dX5_keeps_2 (fun H locs hP hD hS => ?_)
  have hP : va_P E.1 CL (MW E o (us sc 8 0) ar) H := hP
  have hD : va_D A (MW E o (us sc 8 0) ar) := hD
  refine lv_aload_n hx hb dX5_keeps_5 rfl (lv_at hl 0 rfl) ?_
  refine va_get (D := E.1) (ci := 0) (v := iv (sc 6)) (C := RX5) (T := TX5) (N := 23) hx hb hts in_X5 hown hK.1 hP 0 rfl rfl 6 (by decide) (hts _ q2035) (fun _ h9 => h9) rfl dX5_keeps_6 ?_
  refine n_if_eq (tgt := 13) hx hb dX5_keeps_9 (by decide) (by omega) (fun c_1 => ?_) (fun c_1 => ?_)
  · refine lv_aload_n hx hb dX5_keeps_13 rfl (lv_at hl 0 rfl) ?_
    refine va_get (D := E.1) (ci := 0) (v := iv (sc 5)) (C := RX5) (T := TX5) (N := 23) hx hb hts in_X5 hown hK.1 hP 0 rfl rfl 5 (by decide) (hts _ q2034) (fun _ h9 => h9) rfl dX5_keeps_14 ?_
    refine lv_bipush (v := iI 8) hx hb dX5_keeps_17 (by decide) ?_
    refine n_icmp_ne (tgt := 63) hx hb dX5_keeps_19 (by decide) (by omega) (by omega) (fun c_2 => ?_) (fun c_2 => ?_)
    · refine lv_aload_n hx hb dX5_keeps_63 rfl (lv_at hl 1 rfl) ?_
      refine lv_iconst (v := iI 0) hx hb dX5_keeps_64 rfl ?_
      refine lv_aload_n hx hb dX5_keeps_65 rfl (lv_at hl 0 rfl) ?_
      refine va_get (D := E.1) (ci := 0) (v := .ref (o 2)) (C := RX5) (T := TX5) (N := 23) hx hb hts in_X5 hown hK.1 hP 0 rfl rfl 1 (by decide) (hts _ q2030) (fun _ h9 => h9) rfl dX5_keeps_66 ?_
      refine lv_sipush (v := iI 661) hx hb dX5_keeps_69 (by decide) ?_
      refine lv_aload_n hx hb dX5_keeps_72 rfl (lv_at hl 0 rfl) ?_
      refine va_get (D := E.1) (ci := 0) (v := iv (sc 5)) (C := RX5) (T := TX5) (N := 23) hx hb hts in_X5 hown hK.1 hP 0 rfl rfl 5 (by decide) (hts _ q2034) (fun _ h9 => h9) rfl dX5_keeps_73 ?_
      refine n_imul hx hb dX5_keeps_76 ?_
      refine n_cuvS (w2 := MW E o (us sc 8 0) (ua ar 2 (cpy (ar 1) (ar 2) 0 (661 * (sc 5))))) (va_runS (As := [.ref (o 1), iv 0, .ref (o 2), iv (661 * (sc 5))]) (rest := []) ⟨hx, hb, hml, hown, hts⟩ (mt_X5_copies l E (o 1) (o 2) 661 5288 (ar 1) (ar 2) 0 (661 * (sc 5)) (by omega) (by omega) (by decide) (by decide) _) (va_cwS 4 hts (lw_S q2132 q2133 q113 q2134) rfl rfl rfl (by decide +kernel) ⟨Nat.le_of_ble_eq_true rfl, Nat.le_of_ble_eq_true rfl⟩) (UW_S (hP.sub (ws' := [(o 1, ia (E.2 0) 661 (ar 1)), (o 2, ia (E.2 0) 5288 (ar 2))]) [1, 2] rfl) hK (hD.sub (ws' := [(o 1, ia (E.2 0) 661 (ar 1)), (o 2, ia (E.2 0) 5288 (ar 2))]) [1, 2] rfl rfl)) rfl rfl hl.1 rfl (lv_room (Nat.le_of_ble_eq_true rfl)) dX5_keeps_77 ⟨Nat.le_of_ble_eq_true rfl, Nat.le_of_ble_eq_true rfl⟩) hP hD hS hA [1, 2] [0, 3, 4, 5, 6, 7, 8] [0, 7, 8, 1, 2, 3, 4, 5, 6] rfl rfl rfl rfl rfl rfl (fun H locs hP hD hS => ?_)
      have hP : va_P E.1 CL (MW E o (us sc 8 0) (ua ar 2 (cpy (ar 1) (ar 2) 0 (661 * (sc 5))))) H := hP
      have hD : va_D A (MW E o (us sc 8 0) (ua ar 2 (cpy (ar 1) (ar 2) 0 (661 * (sc 5))))) := hD
      refine lv_aload_n hx hb dX5_keeps_80 rfl (lv_at hl 0 rfl) ?_
      refine lv_dup hx hb dX5_keeps_81 rfl ?_
      refine va_get (D := E.1) (ci := 0) (v := iv (sc 5)) (C := RX5) (T := TX5) (N := 23) hx hb hts in_X5 hown hK.1 hP 0 rfl rfl 5 (by decide) (hts _ q2034) (fun _ h9 => h9) rfl dX5_keeps_82 ?_
      refine lv_iconst (v := iI 1) hx hb dX5_keeps_85 rfl ?_
      refine n_iadd hx hb dX5_keeps_86 ?_
      refine va_put (D := E.1) (ci := 0) (v := iv ((sc 5) + 1)) (ty := .int) (C := RX5) (T := TX5) (N := 23) hx hb hts in_X5 tyX5 tyX5_ok nmX5 hown hK.1 hP hD hS 0 rfl rfl 5 (by decide) (hts _ q2034) (fun _ h9 => h9) rfl (by decide +kernel) rfl rfl (Nat.le_of_ble_eq_true rfl) dX5_keeps_87 (fun H locs hP hD hS => ?_)
      have hP : va_P E.1 CL (MW E o (us (us sc 5 ((sc 5) + 1)) 8 0) (ua ar 2 (cpy (ar 1) (ar 2) 0 (661 * (sc 5))))) H := hP
      have hD : va_D A (MW E o (us (us sc 5 ((sc 5) + 1)) 8 0) (ua ar 2 (cpy (ar 1) (ar 2) 0 (661 * (sc 5))))) := hD
      have w_3 : (sc 5) + 1 = k_cw (sc 6) (sc 5) := by
        unfold k_cw k_ch
        repeat' split
        all_goals omega
      rw [show (us (us sc 5 ((sc 5) + 1)) 8 0) = (us (us sc 5 (k_cw (sc 6) (sc 5))) 8 0) from congrArg (fun z0 : Int => (us (us sc 5 z0) 8 0)) w_3] at hP hD
      have w_4 : cpy (ar 1) (ar 2) 0 (661 * (sc 5)) = k_kw (sc 6) (ar 2) (ar 1) (sc 5) := by
        first | (unfold k_kw; rw [if_neg (by assumption)]; done) | (rw [ekv]; unfold k_kw k_kept k_ch; simp [*]; done) | (unfold k_kw k_kept k_ch; simp [*]; done)
      rw [show (ua ar 2 (cpy (ar 1) (ar 2) 0 (661 * (sc 5)))) = (ua ar 2 (k_kw (sc 6) (ar 2) (ar 1) (sc 5))) from congrArg (fun z0 : Int → Int => (ua ar 2 z0)) w_4] at hP hD
      exact W.vret hx hb hr (fun tt_ ht_ hW_ => ⟨⟨(), rfl, trivial, by rw [ht_]; exact hP, hD⟩, hS.F ht_⟩) hS.2.2 dX5_keeps_90
    · refine lv_iconst (v := iI 0) hx hb dX5_keeps_22 rfl ?_
      refine lv_istore_n (lv' := [(2, iv 0), (0, .ref (o 0)), (1, .ref (o 1))]) hx hb dX5_keeps_23 rfl hl (by decide) rfl (fun ls hl => ?_)
      have l24 : ∀ (fu : Nat) (x2 : Int) (kv : Int → Int), (0 ≤ x2 ∧ x2 ≤ 4627) → (∀ x, kv x = if 0 ≤ x ∧ x < x2 then ar 2 (x + 661) else ar 2 x) → (4627 - x2 < (fu : Int)) → ∀ (H : Heap) (locs : List Loc), va_P E.1 CL (MW E o (us sc 8 0) (ua ar 2 kv)) H → va_D A (MW E o (us sc 8 0) (ua ar 2 kv)) → va_S A s.heap H locs → ∀ ls : Array Slot, lv_has ls 3 [(2, iv x2), (0, .ref (o 0)), (1, .ref (o 1))] → W p l e (headSpec (ws_ yX5_keeps cX5_keeps 3 none) { frames := 1, cells := 0, slots := 0, locals := 24 }).room s m ([.ref (o 0), .ref (o 1)] : List Value).toArray below meth c H locs 0 0 (MQ below (UQv E (MW E o (us (us sc 5 (k_cw (sc 6) (sc 5))) 8 0) (ua ar 2 (k_kw (sc 6) (ar 2) (ar 1) (sc 5)))) A) ([.ref (o 0), .ref (o 1)] : List Value).toArray s 0 0 A) (F0 m 24 ls []) := by
        intro fu
        induction fu with
        | zero =>
          intro x2 kv il24_0 il24_1 hm
          exfalso; omega
        | succ fu ih =>
          intro x2 kv il24_0 il24_1 hm H locs hP hD hS ls hl
          have ihl24 := ih
          refine lv_iload_n hx hb dX5_keeps_24 rfl (lv_at hl 0 rfl) ?_
          refine lv_sipush (v := iI 4627) hx hb dX5_keeps_25 (by decide) ?_
          refine n_icmp_ge (tgt := 53) hx hb dX5_keeps_28 (by decide) (by omega) (by omega) (fun c_5 => ?_) (fun c_5 => ?_)
          · have ekv : kv = k_shift (ar 2) := by
              funext x
              have := il24_1 x
              obtain rfl : x2 = 4627 := by omega
              exact this
            refine lv_aload_n hx hb dX5_keeps_53 rfl (lv_at hl 1 rfl) ?_
            refine lv_dup hx hb dX5_keeps_54 rfl ?_
            refine va_get (D := E.1) (ci := 0) (v := iv (sc 5)) (C := RX5) (T := TX5) (N := 23) hx hb hts in_X5 hown hK.1 hP 0 rfl rfl 5 (by decide) (hts _ q2034) (fun _ h9 => h9) rfl dX5_keeps_55 ?_
            refine lv_iconst (v := iI 1) hx hb dX5_keeps_58 rfl ?_
            refine n_isub hx hb dX5_keeps_59 ?_
            refine va_put (D := E.1) (ci := 0) (v := iv ((sc 5) - 1)) (ty := .int) (C := RX5) (T := TX5) (N := 23) hx hb hts in_X5 tyX5 tyX5_ok nmX5 hown hK.1 hP hD hS 0 rfl rfl 5 (by decide) (hts _ q2034) (fun _ h9 => h9) rfl (by decide +kernel) rfl rfl (Nat.le_of_ble_eq_true rfl) dX5_keeps_60 (fun H locs hP hD hS => ?_)
            have hP : va_P E.1 CL (MW E o (us (us sc 5 ((sc 5) - 1)) 8 0) (ua ar 2 kv)) H := hP
            have hD : va_D A (MW E o (us (us sc 5 ((sc 5) - 1)) 8 0) (ua ar 2 kv)) := hD
            refine lv_aload_n hx hb dX5_keeps_63 rfl (lv_at hl 2 rfl) ?_
            refine lv_iconst (v := iI 0) hx hb dX5_keeps_64 rfl ?_
            refine lv_aload_n hx hb dX5_keeps_65 rfl (lv_at hl 1 rfl) ?_
            refine va_get (D := E.1) (ci := 0) (v := .ref (o 2)) (C := RX5) (T := TX5) (N := 23) hx hb hts in_X5 hown hK.1 hP 0 rfl rfl 1 (by decide) (hts _ q2030) (fun _ h9 => h9) rfl dX5_keeps_66 ?_
            refine lv_sipush (v := iI 661) hx hb dX5_keeps_69 (by decide) ?_
            refine lv_aload_n hx hb dX5_keeps_72 rfl (lv_at hl 1 rfl) ?_
            refine va_get (D := E.1) (ci := 0) (v := iv ((sc 5) - 1)) (C := RX5) (T := TX5) (N := 23) hx hb hts in_X5 hown hK.1 hP 0 rfl rfl 5 (by decide) (hts _ q2034) (fun _ h9 => h9) rfl dX5_keeps_73 ?_
            refine n_imul hx hb dX5_keeps_76 ?_
            refine n_cuvS (w2 := MW E o (us (us sc 5 ((sc 5) - 1)) 8 0) (ua ar 2 (cpy (ar 1) kv 0 (661 * ((sc 5) - 1))))) (va_runS (As := [.ref (o 1), iv 0, .ref (o 2), iv (661 * ((sc 5) - 1))]) (rest := []) ⟨hx, hb, hml, hown, hts⟩ (mt_X5_copies l E (o 1) (o 2) 661 5288 (ar 1) kv 0 (661 * ((sc 5) - 1)) (by omega) (by omega) (by decide) (by decide) _) (va_cwS 4 hts (lw_S q2132 q2133 q113 q2134) rfl rfl rfl (by decide +kernel) ⟨Nat.le_of_ble_eq_true rfl, Nat.le_of_ble_eq_true rfl⟩) (UW_S (hP.sub (ws' := [(o 1, ia (E.2 0) 661 (ar 1)), (o 2, ia (E.2 0) 5288 kv)]) [1, 2] rfl) hK (hD.sub (ws' := [(o 1, ia (E.2 0) 661 (ar 1)), (o 2, ia (E.2 0) 5288 kv)]) [1, 2] rfl rfl)) rfl rfl hl.1 rfl (lv_room (Nat.le_of_ble_eq_true rfl)) dX5_keeps_77 ⟨Nat.le_of_ble_eq_true rfl, Nat.le_of_ble_eq_true rfl⟩) hP hD hS hA [1, 2] [0, 3, 4, 5, 6, 7, 8] [0, 7, 8, 1, 2, 3, 4, 5, 6] rfl rfl rfl rfl rfl rfl (fun H locs hP hD hS => ?_)
            have hP : va_P E.1 CL (MW E o (us (us sc 5 ((sc 5) - 1)) 8 0) (ua ar 2 (cpy (ar 1) kv 0 (661 * ((sc 5) - 1))))) H := hP
            have hD : va_D A (MW E o (us (us sc 5 ((sc 5) - 1)) 8 0) (ua ar 2 (cpy (ar 1) kv 0 (661 * ((sc 5) - 1))))) := hD
            refine lv_aload_n hx hb dX5_keeps_80 rfl (lv_at hl 1 rfl) ?_
            refine lv_dup hx hb dX5_keeps_81 rfl ?_
            refine va_get (D := E.1) (ci := 0) (v := iv ((sc 5) - 1)) (C := RX5) (T := TX5) (N := 23) hx hb hts in_X5 hown hK.1 hP 0 rfl rfl 5 (by decide) (hts _ q2034) (fun _ h9 => h9) rfl dX5_keeps_82 ?_
            refine lv_iconst (v := iI 1) hx hb dX5_keeps_85 rfl ?_
            refine n_iadd hx hb dX5_keeps_86 ?_
            refine va_put (D := E.1) (ci := 0) (v := iv (((sc 5) - 1) + 1)) (ty := .int) (C := RX5) (T := TX5) (N := 23) hx hb hts in_X5 tyX5 tyX5_ok nmX5 hown hK.1 hP hD hS 0 rfl rfl 5 (by decide) (hts _ q2034) (fun _ h9 => h9) rfl (by decide +kernel) rfl rfl (Nat.le_of_ble_eq_true rfl) dX5_keeps_87 (fun H locs hP hD hS => ?_)
            have hP : va_P E.1 CL (MW E o (us (us sc 5 (((sc 5) - 1) + 1)) 8 0) (ua ar 2 (cpy (ar 1) kv 0 (661 * ((sc 5) - 1))))) H := hP
            have hD : va_D A (MW E o (us (us sc 5 (((sc 5) - 1) + 1)) 8 0) (ua ar 2 (cpy (ar 1) kv 0 (661 * ((sc 5) - 1))))) := hD
            have w_6 : ((sc 5) - 1) + 1 = k_cw (sc 6) (sc 5) := by
              unfold k_cw k_ch
              repeat' split
              all_goals omega
            rw [show (us (us sc 5 (((sc 5) - 1) + 1)) 8 0) = (us (us sc 5 (k_cw (sc 6) (sc 5))) 8 0) from congrArg (fun z0 : Int => (us (us sc 5 z0) 8 0)) w_6] at hP hD
            have w_7 : cpy (ar 1) kv 0 (661 * ((sc 5) - 1)) = k_kw (sc 6) (ar 2) (ar 1) (sc 5) := by
              first | (unfold k_kw; rw [if_neg (by assumption)]; done) | (rw [ekv]; unfold k_kw k_kept k_ch; simp [*]; done) | (unfold k_kw k_kept k_ch; simp [*]; done)
            rw [show (ua ar 2 (cpy (ar 1) kv 0 (661 * ((sc 5) - 1)))) = (ua ar 2 (k_kw (sc 6) (ar 2) (ar 1) (sc 5))) from congrArg (fun z0 : Int → Int => (ua ar 2 z0)) w_7] at hP hD
            exact W.vret hx hb hr (fun tt_ ht_ hW_ => ⟨⟨(), rfl, trivial, by rw [ht_]; exact hP, hD⟩, hS.F ht_⟩) hS.2.2 dX5_keeps_90
          · refine lv_aload_n hx hb dX5_keeps_31 rfl (lv_at hl 1 rfl) ?_
            refine va_get (D := E.1) (ci := 0) (v := .ref (o 2)) (C := RX5) (T := TX5) (N := 23) hx hb hts in_X5 hown hK.1 hP 0 rfl rfl 1 (by decide) (hts _ q2030) (fun _ h9 => h9) rfl dX5_keeps_32 ?_
            refine lv_iload_n hx hb dX5_keeps_35 rfl (lv_at hl 0 rfl) ?_
            refine lv_aload_n hx hb dX5_keeps_36 rfl (lv_at hl 1 rfl) ?_
            refine va_get (D := E.1) (ci := 0) (v := .ref (o 2)) (C := RX5) (T := TX5) (N := 23) hx hb hts in_X5 hown hK.1 hP 0 rfl rfl 1 (by decide) (hts _ q2030) (fun _ h9 => h9) rfl dX5_keeps_37 ?_
            refine lv_iload_n hx hb dX5_keeps_40 rfl (lv_at hl 0 rfl) ?_
            refine lv_sipush (v := iI 661) hx hb dX5_keeps_41 (by decide) ?_
            refine n_iadd hx hb dX5_keeps_44 ?_
            refine n_iald (f := kv) hx hb hK.1 hP 2 0 rfl rfl (by omega) (by decide) dX5_keeps_45 ?_
            refine n_iast (f := kv) hx hb hK.1 hP hD hS 2 0 rfl rfl (by omega) (by decide) dX5_keeps_46 (ws2 := MW E o (us sc 8 0) (ua ar 2 (ui kv x2 (kv (x2 + 661))))) rfl (fun H locs hP hD hS => ?_)
            obtain ⟨a_8, ea_8⟩ : ∃ zz : Int → Int, zz = ui kv x2 (kv (x2 + 661)) := ⟨_, rfl⟩
            rw [← ea_8] at hP hD
            refine lv_iinc (v := iI (x2 + 1)) (lv' := [(2, iv (x2 + 1)), (0, .ref (o 0)), (1, .ref (o 1))]) hx hb dX5_keeps_47 hl (k := 0) rfl (iI_add _ _) (by decide) rfl (fun ls hl => ?_)
            refine lv_goto (tgt := 24) hx hb dX5_keeps_50 (by decide) ?_
            exact ihl24 (x2 + 1) a_8 (by first | omega | rfl) (by intro x; rw [ea_8]; unfold ui; have e1 := il24_1 x; have e2 := il24_1 (x2 + 661); split; (next hq => rw [if_pos (by omega), e2, if_neg (by omega), hq]); (next hq => rw [e1]; (repeat' split) <;> first | rfl | omega)) (by omega) H locs hP hD hS ls (lv_sub hl [0, 1, 2] rfl)
      exact l24 4628 0 (ar 2) (by first | omega | rfl | trivial) (by intro x; rw [if_neg (by omega)]) (by omega) H locs hP hD hS ls hl
  · have hP : va_P E.1 CL (MW E o (us (us sc 5 (sc 5)) 8 0) ar) H := hP
    have hD : va_D A (MW E o (us (us sc 5 (sc 5)) 8 0) ar) := hD
    have w_9 : sc 5 = k_cw (sc 6) (sc 5) := by
      unfold k_cw k_ch
      repeat' split
      all_goals omega
    rw [show (us (us sc 5 (sc 5)) 8 0) = (us (us sc 5 (k_cw (sc 6) (sc 5))) 8 0) from congrArg (fun z0 : Int => (us (us sc 5 z0) 8 0)) w_9] at hP hD
    have hP : va_P E.1 CL (MW E o (us (us sc 5 (k_cw (sc 6) (sc 5))) 8 0) (ua ar 2 (ar 2))) H := hP
    have hD : va_D A (MW E o (us (us sc 5 (k_cw (sc 6) (sc 5))) 8 0) (ua ar 2 (ar 2))) := hD
    have w_10 : ar 2 = k_kw (sc 6) (ar 2) (ar 1) (sc 5) := by
      first | (unfold k_kw; rw [if_neg (by assumption)]; done) | (rw [ekv]; unfold k_kw k_kept k_ch; simp [*]; done) | (unfold k_kw k_kept k_ch; simp [*]; done)
    rw [show (ua ar 2 (ar 2)) = (ua ar 2 (k_kw (sc 6) (ar 2) (ar 1) (sc 5))) from congrArg (fun z0 : Int → Int => (ua ar 2 z0)) w_10] at hP hD
    exact W.vret hx hb hr (fun tt_ ht_ hW_ => ⟨⟨(), rfl, trivial, by rw [ht_]; exact hP, hD⟩, hS.F ht_⟩) hS.2.2 dX5_keeps_12
set_option maxHeartbeats 4000000 in
set_option maxRecDepth 100000 in
theorem mt_X5_keeps4 (l : Launch) (E : EE) (o : Nat → Nat) (sc : Nat → Int) (ar : Nat → Int → Int) (hch : 0 ≤ sc 5 ∧ sc 5 ≤ 8) (hwi : 0 ≤ sc 6 ∧ sc 6 ≤ 1) (sz : Nat) : Met l yX5_keeps (ws_ yX5_keeps cX5_keeps 3 none) { frames := 1, cells := 0, slots := 0, locals := 24 } (va_Pc [.ref (o 0), .ref (o 4)] (UW E (MW E o sc ar) sz)) (UQv E (MW E o (us (us sc 5 (k_cw (sc 6) (sc 5))) 8 0) (ua ar 2 (k_kw (sc 6) (ar 2) (ar 4) (sc 5)))) (va_A (MW E o sc ar) sz)) 0 0 (va_A (MW E o sc ar) sz) := by
  refine Met.ofW (cc := cX5_keeps) (maxL := 3) (ret := none) (by decide) rfl ?_
  intro p e s m args below meth c s₁ B hml hv
  obtain ⟨rfl, hsz, hP, hK, hD0⟩ := hv
  have hx := B.exec
  have hb := B.bytes
  have hr := B.returns
  have hts := atoms_spec (ws := (ws_ yX5_keeps cX5_keeps 3 none)) B.pre
  have hts : ∀ w ∈ lw_all, w.before _ s = true := fun w h => hts w (List.mem_cons_of_mem _ h)
  have hown : s.vm.findClass RX5 = some m.cls := findClass_of_methodNamed B.named
  have hlocks := B.notSynchronized
  subst hsz
  have hD := hD0.self (sz := s.heap.size)
  generalize hAe : va_A (MW E o sc ar) s.heap.size = A at hD ⊢
  have hA : ∀ q : Nat, s.heap.size ≤ q → A q := fun q h => by rw [← hAe]; exact Or.inr h
  have hS : va_S A s.heap s.heap [] := va_S.rf
  have hl := lv_entry ([.ref (o 0), .ref (o 4)]) (n := 3) (Nat.le_of_ble_eq_true rfl)
  rw [lg_entry_eq]
  generalize (lg_sl ([.ref (o 0), .ref (o 4)]) ++ List.replicate (3 - (lg_sl ([.ref (o 0), .ref (o 4)])).length) Slot.unset).toArray = ls at hl ⊢
  have hl : lv_has ls 3 [(0, .ref (o 0)), (1, .ref (o 4))] := hl
  refine lv_aload_n hx hb dX5_keeps_0 rfl (lv_at hl 0 rfl) ?_
  refine lv_iconst (v := iI 0) hx hb dX5_keeps_1 rfl ?_
  refine va_put (D := E.1) (ci := 0) (v := iv 0) (ty := .int) (C := RX5) (T := TX5) (N := 23) hx hb hts in_X5 tyX5 tyX5_ok nmX5 hown hK.1 hP hD hS 0 rfl rfl 8 (by decide) (hts _ q2037) (fun _ h9 => h9) rfl (by decide +kernel) rfl rfl (Nat.le_of_ble_eq_true rfl) dX5_keeps_2 (fun H locs hP hD hS => ?_)
  have hP : va_P E.1 CL (MW E o (us sc 8 0) ar) H := hP
  have hD : va_D A (MW E o (us sc 8 0) ar) := hD
  refine lv_aload_n hx hb dX5_keeps_5 rfl (lv_at hl 0 rfl) ?_
  refine va_get (D := E.1) (ci := 0) (v := iv (sc 6)) (C := RX5) (T := TX5) (N := 23) hx hb hts in_X5 hown hK.1 hP 0 rfl rfl 6 (by decide) (hts _ q2035) (fun _ h9 => h9) rfl dX5_keeps_6 ?_
  refine n_if_eq (tgt := 13) hx hb dX5_keeps_9 (by decide) (by omega) (fun c_1 => ?_) (fun c_1 => ?_)
  · refine lv_aload_n hx hb dX5_keeps_13 rfl (lv_at hl 0 rfl) ?_
    refine va_get (D := E.1) (ci := 0) (v := iv (sc 5)) (C := RX5) (T := TX5) (N := 23) hx hb hts in_X5 hown hK.1 hP 0 rfl rfl 5 (by decide) (hts _ q2034) (fun _ h9 => h9) rfl dX5_keeps_14 ?_
    refine lv_bipush (v := iI 8) hx hb dX5_keeps_17 (by decide) ?_
    refine n_icmp_ne (tgt := 63) hx hb dX5_keeps_19 (by decide) (by omega) (by omega) (fun c_2 => ?_) (fun c_2 => ?_)
    · refine lv_aload_n hx hb dX5_keeps_63 rfl (lv_at hl 1 rfl) ?_
      refine lv_iconst (v := iI 0) hx hb dX5_keeps_64 rfl ?_
      refine lv_aload_n hx hb dX5_keeps_65 rfl (lv_at hl 0 rfl) ?_
      refine va_get (D := E.1) (ci := 0) (v := .ref (o 2)) (C := RX5) (T := TX5) (N := 23) hx hb hts in_X5 hown hK.1 hP 0 rfl rfl 1 (by decide) (hts _ q2030) (fun _ h9 => h9) rfl dX5_keeps_66 ?_
      refine lv_sipush (v := iI 661) hx hb dX5_keeps_69 (by decide) ?_
      refine lv_aload_n hx hb dX5_keeps_72 rfl (lv_at hl 0 rfl) ?_
      refine va_get (D := E.1) (ci := 0) (v := iv (sc 5)) (C := RX5) (T := TX5) (N := 23) hx hb hts in_X5 hown hK.1 hP 0 rfl rfl 5 (by decide) (hts _ q2034) (fun _ h9 => h9) rfl dX5_keeps_73 ?_
      refine n_imul hx hb dX5_keeps_76 ?_
      refine n_cuvS (w2 := MW E o (us sc 8 0) (ua ar 2 (cpy (ar 4) (ar 2) 0 (661 * (sc 5))))) (va_runS (As := [.ref (o 4), iv 0, .ref (o 2), iv (661 * (sc 5))]) (rest := []) ⟨hx, hb, hml, hown, hts⟩ (mt_X5_copies l E (o 4) (o 2) 661 5288 (ar 4) (ar 2) 0 (661 * (sc 5)) (by omega) (by omega) (by decide) (by decide) _) (va_cwS 4 hts (lw_S q2132 q2133 q113 q2134) rfl rfl rfl (by decide +kernel) ⟨Nat.le_of_ble_eq_true rfl, Nat.le_of_ble_eq_true rfl⟩) (UW_S (hP.sub (ws' := [(o 4, ia (E.2 0) 661 (ar 4)), (o 2, ia (E.2 0) 5288 (ar 2))]) [4, 2] rfl) hK (hD.sub (ws' := [(o 4, ia (E.2 0) 661 (ar 4)), (o 2, ia (E.2 0) 5288 (ar 2))]) [4, 2] rfl rfl)) rfl rfl hl.1 rfl (lv_room (Nat.le_of_ble_eq_true rfl)) dX5_keeps_77 ⟨Nat.le_of_ble_eq_true rfl, Nat.le_of_ble_eq_true rfl⟩) hP hD hS hA [4, 2] [0, 1, 3, 5, 6, 7, 8] [0, 1, 8, 2, 7, 3, 4, 5, 6] rfl rfl rfl rfl rfl rfl (fun H locs hP hD hS => ?_)
      have hP : va_P E.1 CL (MW E o (us sc 8 0) (ua ar 2 (cpy (ar 4) (ar 2) 0 (661 * (sc 5))))) H := hP
      have hD : va_D A (MW E o (us sc 8 0) (ua ar 2 (cpy (ar 4) (ar 2) 0 (661 * (sc 5))))) := hD
      refine lv_aload_n hx hb dX5_keeps_80 rfl (lv_at hl 0 rfl) ?_
      refine lv_dup hx hb dX5_keeps_81 rfl ?_
      refine va_get (D := E.1) (ci := 0) (v := iv (sc 5)) (C := RX5) (T := TX5) (N := 23) hx hb hts in_X5 hown hK.1 hP 0 rfl rfl 5 (by decide) (hts _ q2034) (fun _ h9 => h9) rfl dX5_keeps_82 ?_
      refine lv_iconst (v := iI 1) hx hb dX5_keeps_85 rfl ?_
      refine n_iadd hx hb dX5_keeps_86 ?_
      refine va_put (D := E.1) (ci := 0) (v := iv ((sc 5) + 1)) (ty := .int) (C := RX5) (T := TX5) (N := 23) hx hb hts in_X5 tyX5 tyX5_ok nmX5 hown hK.1 hP hD hS 0 rfl rfl 5 (by decide) (hts _ q2034) (fun _ h9 => h9) rfl (by decide +kernel) rfl rfl (Nat.le_of_ble_eq_true rfl) dX5_keeps_87 (fun H locs hP hD hS => ?_)
      have hP : va_P E.1 CL (MW E o (us (us sc 5 ((sc 5) + 1)) 8 0) (ua ar 2 (cpy (ar 4) (ar 2) 0 (661 * (sc 5))))) H := hP
      have hD : va_D A (MW E o (us (us sc 5 ((sc 5) + 1)) 8 0) (ua ar 2 (cpy (ar 4) (ar 2) 0 (661 * (sc 5))))) := hD
      have w_3 : (sc 5) + 1 = k_cw (sc 6) (sc 5) := by
        unfold k_cw k_ch
        repeat' split
        all_goals omega
      rw [show (us (us sc 5 ((sc 5) + 1)) 8 0) = (us (us sc 5 (k_cw (sc 6) (sc 5))) 8 0) from congrArg (fun z0 : Int => (us (us sc 5 z0) 8 0)) w_3] at hP hD
      have w_4 : cpy (ar 4) (ar 2) 0 (661 * (sc 5)) = k_kw (sc 6) (ar 2) (ar 4) (sc 5) := by
        first | (unfold k_kw; rw [if_neg (by assumption)]; done) | (rw [ekv]; unfold k_kw k_kept k_ch; simp [*]; done) | (unfold k_kw k_kept k_ch; simp [*]; done)
      rw [show (ua ar 2 (cpy (ar 4) (ar 2) 0 (661 * (sc 5)))) = (ua ar 2 (k_kw (sc 6) (ar 2) (ar 4) (sc 5))) from congrArg (fun z0 : Int → Int => (ua ar 2 z0)) w_4] at hP hD
      exact W.vret hx hb hr (fun tt_ ht_ hW_ => ⟨⟨(), rfl, trivial, by rw [ht_]; exact hP, hD⟩, hS.F ht_⟩) hS.2.2 dX5_keeps_90
    · refine lv_iconst (v := iI 0) hx hb dX5_keeps_22 rfl ?_
      refine lv_istore_n (lv' := [(2, iv 0), (0, .ref (o 0)), (1, .ref (o 4))]) hx hb dX5_keeps_23 rfl hl (by decide) rfl (fun ls hl => ?_)
      have l24 : ∀ (fu : Nat) (x2 : Int) (kv : Int → Int), (0 ≤ x2 ∧ x2 ≤ 4627) → (∀ x, kv x = if 0 ≤ x ∧ x < x2 then ar 2 (x + 661) else ar 2 x) → (4627 - x2 < (fu : Int)) → ∀ (H : Heap) (locs : List Loc), va_P E.1 CL (MW E o (us sc 8 0) (ua ar 2 kv)) H → va_D A (MW E o (us sc 8 0) (ua ar 2 kv)) → va_S A s.heap H locs → ∀ ls : Array Slot, lv_has ls 3 [(2, iv x2), (0, .ref (o 0)), (1, .ref (o 4))] → W p l e (headSpec (ws_ yX5_keeps cX5_keeps 3 none) { frames := 1, cells := 0, slots := 0, locals := 24 }).room s m ([.ref (o 0), .ref (o 4)] : List Value).toArray below meth c H locs 0 0 (MQ below (UQv E (MW E o (us (us sc 5 (k_cw (sc 6) (sc 5))) 8 0) (ua ar 2 (k_kw (sc 6) (ar 2) (ar 4) (sc 5)))) A) ([.ref (o 0), .ref (o 4)] : List Value).toArray s 0 0 A) (F0 m 24 ls []) := by
        intro fu
        induction fu with
        | zero =>
          intro x2 kv il24_0 il24_1 hm
          exfalso; omega
        | succ fu ih =>
          intro x2 kv il24_0 il24_1 hm H locs hP hD hS ls hl
          have ihl24 := ih
          refine lv_iload_n hx hb dX5_keeps_24 rfl (lv_at hl 0 rfl) ?_
          refine lv_sipush (v := iI 4627) hx hb dX5_keeps_25 (by decide) ?_
          refine n_icmp_ge (tgt := 53) hx hb dX5_keeps_28 (by decide) (by omega) (by omega) (fun c_5 => ?_) (fun c_5 => ?_)
          · have ekv : kv = k_shift (ar 2) := by
              funext x
              have := il24_1 x
              obtain rfl : x2 = 4627 := by omega
              exact this
            refine lv_aload_n hx hb dX5_keeps_53 rfl (lv_at hl 1 rfl) ?_
            refine lv_dup hx hb dX5_keeps_54 rfl ?_
            refine va_get (D := E.1) (ci := 0) (v := iv (sc 5)) (C := RX5) (T := TX5) (N := 23) hx hb hts in_X5 hown hK.1 hP 0 rfl rfl 5 (by decide) (hts _ q2034) (fun _ h9 => h9) rfl dX5_keeps_55 ?_
            refine lv_iconst (v := iI 1) hx hb dX5_keeps_58 rfl ?_
            refine n_isub hx hb dX5_keeps_59 ?_
            refine va_put (D := E.1) (ci := 0) (v := iv ((sc 5) - 1)) (ty := .int) (C := RX5) (T := TX5) (N := 23) hx hb hts in_X5 tyX5 tyX5_ok nmX5 hown hK.1 hP hD hS 0 rfl rfl 5 (by decide) (hts _ q2034) (fun _ h9 => h9) rfl (by decide +kernel) rfl rfl (Nat.le_of_ble_eq_true rfl) dX5_keeps_60 (fun H locs hP hD hS => ?_)
            have hP : va_P E.1 CL (MW E o (us (us sc 5 ((sc 5) - 1)) 8 0) (ua ar 2 kv)) H := hP
            have hD : va_D A (MW E o (us (us sc 5 ((sc 5) - 1)) 8 0) (ua ar 2 kv)) := hD
            refine lv_aload_n hx hb dX5_keeps_63 rfl (lv_at hl 2 rfl) ?_
            refine lv_iconst (v := iI 0) hx hb dX5_keeps_64 rfl ?_
            refine lv_aload_n hx hb dX5_keeps_65 rfl (lv_at hl 1 rfl) ?_
            refine va_get (D := E.1) (ci := 0) (v := .ref (o 2)) (C := RX5) (T := TX5) (N := 23) hx hb hts in_X5 hown hK.1 hP 0 rfl rfl 1 (by decide) (hts _ q2030) (fun _ h9 => h9) rfl dX5_keeps_66 ?_
            refine lv_sipush (v := iI 661) hx hb dX5_keeps_69 (by decide) ?_
            refine lv_aload_n hx hb dX5_keeps_72 rfl (lv_at hl 1 rfl) ?_
            refine va_get (D := E.1) (ci := 0) (v := iv ((sc 5) - 1)) (C := RX5) (T := TX5) (N := 23) hx hb hts in_X5 hown hK.1 hP 0 rfl rfl 5 (by decide) (hts _ q2034) (fun _ h9 => h9) rfl dX5_keeps_73 ?_
            refine n_imul hx hb dX5_keeps_76 ?_
            refine n_cuvS (w2 := MW E o (us (us sc 5 ((sc 5) - 1)) 8 0) (ua ar 2 (cpy (ar 4) kv 0 (661 * ((sc 5) - 1))))) (va_runS (As := [.ref (o 4), iv 0, .ref (o 2), iv (661 * ((sc 5) - 1))]) (rest := []) ⟨hx, hb, hml, hown, hts⟩ (mt_X5_copies l E (o 4) (o 2) 661 5288 (ar 4) kv 0 (661 * ((sc 5) - 1)) (by omega) (by omega) (by decide) (by decide) _) (va_cwS 4 hts (lw_S q2132 q2133 q113 q2134) rfl rfl rfl (by decide +kernel) ⟨Nat.le_of_ble_eq_true rfl, Nat.le_of_ble_eq_true rfl⟩) (UW_S (hP.sub (ws' := [(o 4, ia (E.2 0) 661 (ar 4)), (o 2, ia (E.2 0) 5288 kv)]) [4, 2] rfl) hK (hD.sub (ws' := [(o 4, ia (E.2 0) 661 (ar 4)), (o 2, ia (E.2 0) 5288 kv)]) [4, 2] rfl rfl)) rfl rfl hl.1 rfl (lv_room (Nat.le_of_ble_eq_true rfl)) dX5_keeps_77 ⟨Nat.le_of_ble_eq_true rfl, Nat.le_of_ble_eq_true rfl⟩) hP hD hS hA [4, 2] [0, 1, 3, 5, 6, 7, 8] [0, 1, 8, 2, 7, 3, 4, 5, 6] rfl rfl rfl rfl rfl rfl (fun H locs hP hD hS => ?_)
            have hP : va_P E.1 CL (MW E o (us (us sc 5 ((sc 5) - 1)) 8 0) (ua ar 2 (cpy (ar 4) kv 0 (661 * ((sc 5) - 1))))) H := hP
            have hD : va_D A (MW E o (us (us sc 5 ((sc 5) - 1)) 8 0) (ua ar 2 (cpy (ar 4) kv 0 (661 * ((sc 5) - 1))))) := hD
            refine lv_aload_n hx hb dX5_keeps_80 rfl (lv_at hl 1 rfl) ?_
            refine lv_dup hx hb dX5_keeps_81 rfl ?_
            refine va_get (D := E.1) (ci := 0) (v := iv ((sc 5) - 1)) (C := RX5) (T := TX5) (N := 23) hx hb hts in_X5 hown hK.1 hP 0 rfl rfl 5 (by decide) (hts _ q2034) (fun _ h9 => h9) rfl dX5_keeps_82 ?_
            refine lv_iconst (v := iI 1) hx hb dX5_keeps_85 rfl ?_
            refine n_iadd hx hb dX5_keeps_86 ?_
            refine va_put (D := E.1) (ci := 0) (v := iv (((sc 5) - 1) + 1)) (ty := .int) (C := RX5) (T := TX5) (N := 23) hx hb hts in_X5 tyX5 tyX5_ok nmX5 hown hK.1 hP hD hS 0 rfl rfl 5 (by decide) (hts _ q2034) (fun _ h9 => h9) rfl (by decide +kernel) rfl rfl (Nat.le_of_ble_eq_true rfl) dX5_keeps_87 (fun H locs hP hD hS => ?_)
            have hP : va_P E.1 CL (MW E o (us (us sc 5 (((sc 5) - 1) + 1)) 8 0) (ua ar 2 (cpy (ar 4) kv 0 (661 * ((sc 5) - 1))))) H := hP
            have hD : va_D A (MW E o (us (us sc 5 (((sc 5) - 1) + 1)) 8 0) (ua ar 2 (cpy (ar 4) kv 0 (661 * ((sc 5) - 1))))) := hD
            have w_6 : ((sc 5) - 1) + 1 = k_cw (sc 6) (sc 5) := by
              unfold k_cw k_ch
              repeat' split
              all_goals omega
            rw [show (us (us sc 5 (((sc 5) - 1) + 1)) 8 0) = (us (us sc 5 (k_cw (sc 6) (sc 5))) 8 0) from congrArg (fun z0 : Int => (us (us sc 5 z0) 8 0)) w_6] at hP hD
            have w_7 : cpy (ar 4) kv 0 (661 * ((sc 5) - 1)) = k_kw (sc 6) (ar 2) (ar 4) (sc 5) := by
              first | (unfold k_kw; rw [if_neg (by assumption)]; done) | (rw [ekv]; unfold k_kw k_kept k_ch; simp [*]; done) | (unfold k_kw k_kept k_ch; simp [*]; done)
            rw [show (ua ar 2 (cpy (ar 4) kv 0 (661 * ((sc 5) - 1)))) = (ua ar 2 (k_kw (sc 6) (ar 2) (ar 4) (sc 5))) from congrArg (fun z0 : Int → Int => (ua ar 2 z0)) w_7] at hP hD
            exact W.vret hx hb hr (fun tt_ ht_ hW_ => ⟨⟨(), rfl, trivial, by rw [ht_]; exact hP, hD⟩, hS.F ht_⟩) hS.2.2 dX5_keeps_90
          · refine lv_aload_n hx hb dX5_keeps_31 rfl (lv_at hl 1 rfl) ?_
            refine va_get (D := E.1) (ci := 0) (v := .ref (o 2)) (C := RX5) (T := TX5) (N := 23) hx hb hts in_X5 hown hK.1 hP 0 rfl rfl 1 (by decide) (hts _ q2030) (fun _ h9 => h9) rfl dX5_keeps_32 ?_
            refine lv_iload_n hx hb dX5_keeps_35 rfl (lv_at hl 0 rfl) ?_
            refine lv_aload_n hx hb dX5_keeps_36 rfl (lv_at hl 1 rfl) ?_
            refine va_get (D := E.1) (ci := 0) (v := .ref (o 2)) (C := RX5) (T := TX5) (N := 23) hx hb hts in_X5 hown hK.1 hP 0 rfl rfl 1 (by decide) (hts _ q2030) (fun _ h9 => h9) rfl dX5_keeps_37 ?_
            refine lv_iload_n hx hb dX5_keeps_40 rfl (lv_at hl 0 rfl) ?_
            refine lv_sipush (v := iI 661) hx hb dX5_keeps_41 (by decide) ?_
            refine n_iadd hx hb dX5_keeps_44 ?_
            refine n_iald (f := kv) hx hb hK.1 hP 2 0 rfl rfl (by omega) (by decide) dX5_keeps_45 ?_
            refine n_iast (f := kv) hx hb hK.1 hP hD hS 2 0 rfl rfl (by omega) (by decide) dX5_keeps_46 (ws2 := MW E o (us sc 8 0) (ua ar 2 (ui kv x2 (kv (x2 + 661))))) rfl (fun H locs hP hD hS => ?_)
            obtain ⟨a_8, ea_8⟩ : ∃ zz : Int → Int, zz = ui kv x2 (kv (x2 + 661)) := ⟨_, rfl⟩
            rw [← ea_8] at hP hD
            refine lv_iinc (v := iI (x2 + 1)) (lv' := [(2, iv (x2 + 1)), (0, .ref (o 0)), (1, .ref (o 4))]) hx hb dX5_keeps_47 hl (k := 0) rfl (iI_add _ _) (by decide) rfl (fun ls hl => ?_)
            refine lv_goto (tgt := 24) hx hb dX5_keeps_50 (by decide) ?_
            exact ihl24 (x2 + 1) a_8 (by first | omega | rfl) (by intro x; rw [ea_8]; unfold ui; have e1 := il24_1 x; have e2 := il24_1 (x2 + 661); split; (next hq => rw [if_pos (by omega), e2, if_neg (by omega), hq]); (next hq => rw [e1]; (repeat' split) <;> first | rfl | omega)) (by omega) H locs hP hD hS ls (lv_sub hl [0, 1, 2] rfl)
      exact l24 4628 0 (ar 2) (by first | omega | rfl | trivial) (by intro x; rw [if_neg (by omega)]) (by omega) H locs hP hD hS ls hl
  · have hP : va_P E.1 CL (MW E o (us (us sc 5 (sc 5)) 8 0) ar) H := hP
    have hD : va_D A (MW E o (us (us sc 5 (sc 5)) 8 0) ar) := hD
    have w_9 : sc 5 = k_cw (sc 6) (sc 5) := by
      unfold k_cw k_ch
      repeat' split
      all_goals omega
    rw [show (us (us sc 5 (sc 5)) 8 0) = (us (us sc 5 (k_cw (sc 6) (sc 5))) 8 0) from congrArg (fun z0 : Int => (us (us sc 5 z0) 8 0)) w_9] at hP hD
    have hP : va_P E.1 CL (MW E o (us (us sc 5 (k_cw (sc 6) (sc 5))) 8 0) (ua ar 2 (ar 2))) H := hP
    have hD : va_D A (MW E o (us (us sc 5 (k_cw (sc 6) (sc 5))) 8 0) (ua ar 2 (ar 2))) := hD
    have w_10 : ar 2 = k_kw (sc 6) (ar 2) (ar 4) (sc 5) := by
      first | (unfold k_kw; rw [if_neg (by assumption)]; done) | (rw [ekv]; unfold k_kw k_kept k_ch; simp [*]; done) | (unfold k_kw k_kept k_ch; simp [*]; done)
    rw [show (ua ar 2 (ar 2)) = (ua ar 2 (k_kw (sc 6) (ar 2) (ar 4) (sc 5))) from congrArg (fun z0 : Int → Int => (ua ar 2 z0)) w_10] at hP hD
    exact W.vret hx hb hr (fun tt_ ht_ hW_ => ⟨⟨(), rfl, trivial, by rw [ht_]; exact hP, hD⟩, hS.F ht_⟩) hS.2.2 dX5_keeps_12
set_option maxHeartbeats 4000000 in
set_option maxRecDepth 100000 in
theorem mt_X5_reached (l : Launch) (E : EE) (o : Nat → Nat) (sc : Nat → Int) (ar : Nat → Int → Int) (t : Int) (a : Bool) (hB : ∀ k x, 0 ≤ ar k x ∧ ar k x < 2147483648) (h : 0 ≤ t ∧ t < 8) (htw : TW (ar 1)) (hsw : SwOK (ar 1)) : Met l yX5_reached (ws_ yX5_reached cX5_reached 5 (some .int)) { frames := 4, cells := 0, slots := 0, locals := 92 } (va_Pc [.ref (o 0), iv t, iv (b2 a)] (PW E (MW E o sc ar))) (NP (bsI (m_reach (ar 1) a t))) 0 0 (fun _ => False) := by
  refine Met.ofW (cc := cX5_reached) (maxL := 5) (ret := (some .int)) (by decide) rfl ?_
  intro p e s m args below meth c s₁ B hml hv
  obtain ⟨rfl, hP, hK⟩ := hv
  have hx := B.exec
  have hb := B.bytes
  have hr := B.returns
  have hts := atoms_spec (ws := (ws_ yX5_reached cX5_reached 5 (some .int))) B.pre
  have hts : ∀ w ∈ lw_all, w.before _ s = true := fun w h => hts w (List.mem_cons_of_mem _ h)
  have hown : s.vm.findClass RX5 = some m.cls := findClass_of_methodNamed B.named
  have hlocks := B.notSynchronized
  have hl := lv_entry ([.ref (o 0), iv t, iv (b2 a)]) (n := 5) (Nat.le_of_ble_eq_true rfl)
  rw [lg_entry_eq]
  generalize (lg_sl ([.ref (o 0), iv t, iv (b2 a)]) ++ List.replicate (5 - (lg_sl ([.ref (o 0), iv t, iv (b2 a)])).length) Slot.unset).toArray = ls at hl ⊢
  have hl : lv_has ls 5 [(0, .ref (o 0)), (1, iv t), (2, iv (b2 a))] := hl
  refine lv_aload_n hx hb dX5_reached_0 rfl (lv_at hl 0 rfl) ?_
  refine lv_iload_n hx hb dX5_reached_1 rfl (lv_at hl 1 rfl) ?_
  refine lv_iload_n hx hb dX5_reached_2 rfl (lv_at hl 2 rfl) ?_
  refine n_csi (x := bsI (m_edge (ar 1) a t)) (va_runV (As := [iv t, iv (b2 a)]) (rest := []) ⟨hx, hb, hml, hown, hts⟩ (mt_X5_next l E o sc ar t a hB (by omega) (by assumption) (by assumption)) (cwV 2 hts (lw_V q2183 q2185 qs62 q113 q2186) rfl rfl rfl (by decide +kernel) ⟨Nat.le_of_ble_eq_true rfl, Nat.le_of_ble_eq_true rfl⟩) (PW_V hP hK (va_recv hK.1 hP (ci := 0) (q0 := 0) rfl rfl)) rfl rfl hl.1 rfl (lv_room (Nat.le_of_ble_eq_true rfl)) dX5_reached_3 ⟨Nat.le_of_ble_eq_true rfl, Nat.le_of_ble_eq_true rfl⟩) ?_
  refine lv_istore_n (lv' := [(3, iv (bsI (m_edge (ar 1) a t))), (0, .ref (o 0)), (1, iv t), (2, iv (b2 a))]) hx hb dX5_reached_6 rfl hl (by decide) rfl (fun ls hl => ?_)
  refine lv_iconst (v := iI (-1)) hx hb dX5_reached_7 rfl ?_
  refine lv_istore (lv' := [(4, iv (-1)), (3, iv (bsI (m_edge (ar 1) a t))), (0, .ref (o 0)), (1, iv t), (2, iv (b2 a))]) hx hb dX5_reached_8 hl (by decide) rfl (fun ls hl => ?_)
  have l10 : ∀ (fu : Nat) (f3 : Int → Bool) (x4 : Int), (-1 ≤ x4 ∧ x4 < 256) → (∀ u, 0 ≤ u → u < 8 → m_edge (ar 1) a t u = true → f3 u = true) → (∀ u, 0 ≤ u → u < 8 → f3 u = true → Relation.TransGen (ED (ar 1) a) t u) → (x4 = -1 ∨ ∃ h : Int → Bool, x4 = bsI h ∧ ∀ u, 0 ≤ u → u < 8 → f3 u = (h u || m_nextOf (ar 1) h a u)) → (2 * miss f3 + (if bsI f3 = x4 then 0 else 1) < (fu : Int)) → ∀ ls : Array Slot, lv_has ls 5 [(4, iv x4), (3, iv (bsI f3)), (0, .ref (o 0)), (1, iv t), (2, iv (b2 a))] → W p l e (headSpec (ws_ yX5_reached cX5_reached 5 (some .int)) { frames := 4, cells := 0, slots := 0, locals := 92 }).room s m ([.ref (o 0), iv t, iv (b2 a)] : List Value).toArray below meth c s.heap [] 0 0 (MQ below (NP (bsI (m_reach (ar 1) a t))) ([.ref (o 0), iv t, iv (b2 a)] : List Value).toArray s 0 0 (fun _ => False)) (F0 m 10 ls []) := by
    intro fu
    induction fu with
    | zero =>
      intro f3 x4 il10_0 il10_1 il10_2 il10_3 hm
      exfalso; have := miss_r f3; split at hm <;> omega
    | succ fu ih =>
      intro f3 x4 il10_0 il10_1 il10_2 il10_3 hm ls hl
      have ihl10 := ih
      have hbr := bsI_r f3
      refine lv_iload_n hx hb dX5_reached_10 rfl (lv_at hl 1 rfl) ?_
      refine lv_iload hx hb dX5_reached_11 (lv_at hl 0 rfl) ?_
      refine n_icmp_eq (tgt := 31) hx hb dX5_reached_13 (by decide) (by omega) (by omega) (fun c_1 => ?_) (fun c_1 => ?_)
      · refine lv_iload_n hx hb dX5_reached_31 rfl (lv_at hl 1 rfl) ?_
        have hfin : bsI f3 = bsI (m_reach (ar 1) a t) := by
          exact m_reach_fin h il10_1 il10_2 il10_3 (by assumption)
        exact W.iret (v := iI (bsI f3)) hx hb hr (fun tt_ ht_ hW_ => ⟨iI (bsI f3), rfl, (congrArg iI hfin), ht_⟩) (fun q h => by cases h) dX5_reached_32
      · refine lv_iload_n hx hb dX5_reached_16 rfl (lv_at hl 1 rfl) ?_
        refine lv_istore (lv' := [(4, iv (bsI f3)), (3, iv (bsI f3)), (0, .ref (o 0)), (1, iv t), (2, iv (b2 a))]) hx hb dX5_reached_17 hl (by decide) rfl (fun ls hl => ?_)
        refine lv_iload_n hx hb dX5_reached_19 rfl (lv_at hl 1 rfl) ?_
        refine lv_aload_n hx hb dX5_reached_20 rfl (lv_at hl 2 rfl) ?_
        refine lv_iload_n hx hb dX5_reached_21 rfl (lv_at hl 1 rfl) ?_
        refine lv_iload_n hx hb dX5_reached_22 rfl (lv_at hl 4 rfl) ?_
        refine n_csi (x := bsI (m_nextOf (ar 1) f3 a)) (va_runV (As := [iv (bsI f3), iv (b2 a)]) (rest := [iv (bsI f3)]) ⟨hx, hb, hml, hown, hts⟩ (mt_X5_nextOf l E o sc ar f3 a hB (by assumption) (by assumption)) (cwV 2 hts (lw_V q2179 q2181 qs61 q113 q2182) rfl rfl rfl (by decide +kernel) ⟨Nat.le_of_ble_eq_true rfl, Nat.le_of_ble_eq_true rfl⟩) (PW_V hP hK (va_recv hK.1 hP (ci := 0) (q0 := 0) rfl rfl)) rfl rfl hl.1 rfl (lv_room (Nat.le_of_ble_eq_true rfl)) dX5_reached_23 ⟨Nat.le_of_ble_eq_true rfl, Nat.le_of_ble_eq_true rfl⟩) ?_
        refine n_ior_bs hx hb dX5_reached_26 ?_
        refine lv_istore_n (lv' := [(3, iv (bsI (fun v => f3 v || (m_nextOf (ar 1) f3 a) v))), (4, iv (bsI f3)), (0, .ref (o 0)), (1, iv t), (2, iv (b2 a))]) hx hb dX5_reached_27 rfl hl (by decide) rfl (fun ls hl => ?_)
        refine lv_goto (tgt := 10) hx hb dX5_reached_28 (by decide) ?_
        exact ihl10 (fun v => f3 v || (m_nextOf (ar 1) f3 a) v) (bsI f3) (by have := bsI_r f3; omega) (by intro u b1 b2 b3; simp only [il10_1 u b1 b2 b3, Bool.true_or]) (by exact reach_step il10_2) (by exact Or.inr ⟨f3, rfl, fun u _ _ => rfl⟩) (by have := reach_mu (f := f3) (h := fun v => f3 v || m_nextOf (ar 1) f3 a v) (x4 := x4) (fun k _ _ hk => by simp only [hk, Bool.true_or]) (by assumption); omega) ls (lv_sub hl [1, 0, 2, 3, 4] rfl)
  exact l10 18 (m_edge (ar 1) a t) (-1) (by first | omega | rfl | trivial) (by exact fun u _ _ h => h) (by exact fun u b1 b2 h3 => Relation.TransGen.single ⟨h, ⟨b1, b2⟩, h3⟩) (by exact Or.inl rfl) (by have := miss_r (m_edge (ar 1) a t); split <;> omega) ls hl
set_option maxHeartbeats 4000000 in
set_option maxRecDepth 100000 in
theorem mt_X5_leads (l : Launch) (E : EE) (o : Nat → Nat) (sc : Nat → Int) (ar : Nat → Int → Int) (t : Int) (hB : ∀ k x, 0 ≤ ar k x ∧ ar k x < 2147483648) (ht : 0 ≤ t ∧ t < 65536) (htw : TW (ar 1)) (hsw : SwOK (ar 1)) (sz : Nat) : Met l yX5_leads (ws_ yX5_leads cX5_leads 2 (some .int)) { frames := 5, cells := 0, slots := 0, locals := 116 } (va_Pc [.ref (o 0), iv t] (UW E (MW E o sc ar) sz)) (UQi E (if 0 < c_tool t then 0 else sumI (fun k => b2 (m_reach (ar 1) true (t - 97) k)) 8) (MW E o (us (us sc 7 0) 8 (c_tool t)) ar) (va_A (MW E o sc ar) sz)) 0 0 (va_A (MW E o sc ar) sz) := by
  refine Met.ofW (cc := cX5_leads) (maxL := 2) (ret := (some .int)) (by decide) rfl ?_
  intro p e s m args below meth c s₁ B hml hv
  obtain ⟨rfl, hsz, hP, hK, hD0⟩ := hv
  have hx := B.exec
  have hb := B.bytes
  have hr := B.returns
  have hts := atoms_spec (ws := (ws_ yX5_leads cX5_leads 2 (some .int))) B.pre
  have hts : ∀ w ∈ lw_all, w.before _ s = true := fun w h => hts w (List.mem_cons_of_mem _ h)
  have hown : s.vm.findClass RX5 = some m.cls := findClass_of_methodNamed B.named
  have hlocks := B.notSynchronized
  subst hsz
  have hD := hD0.self (sz := s.heap.size)
  generalize hAe : va_A (MW E o sc ar) s.heap.size = A at hD ⊢
  have hA : ∀ q : Nat, s.heap.size ≤ q → A q := fun q h => by rw [← hAe]; exact Or.inr h
  have hS : va_S A s.heap s.heap [] := va_S.rf
  have hl := lv_entry ([.ref (o 0), iv t]) (n := 2) (Nat.le_of_ble_eq_true rfl)
  rw [lg_entry_eq]
  generalize (lg_sl ([.ref (o 0), iv t]) ++ List.replicate (2 - (lg_sl ([.ref (o 0), iv t])).length) Slot.unset).toArray = ls at hl ⊢
  have hl : lv_has ls 2 [(0, .ref (o 0)), (1, iv t)] := hl
  refine lv_aload_n hx hb dX5_leads_0 rfl (lv_at hl 0 rfl) ?_
  have j_1 : W p l e (headSpec (ws_ yX5_leads cX5_leads 2 (some .int)) { frames := 5, cells := 0, slots := 0, locals := 116 }).room s m ([.ref (o 0), iv t] : List Value).toArray below meth c s.heap [] 0 0 (MQ below (UQi E (if 0 < c_tool t then 0 else sumI (fun k => b2 (m_reach (ar 1) true (t - 97) k)) 8) (MW E o (us (us sc 7 0) 8 (c_tool t)) ar) A) ([.ref (o 0), iv t] : List Value).toArray s 0 0 A) (F0 m 13 ls [iv (c_tool t), .ref (o 0)]) := by
    have b_2 := c_tool_r t
    refine n_cui (x := b2 (decide (0 < (c_tool t)))) (va_runV (As := [iv (c_tool t)]) (rest := []) ⟨hx, hb, hml, hown, hts⟩ (mt_X5_fails l E o sc ar (c_tool t) (by omega) _) (cwV 1 hts (lw_V q2124 q2126 qs50 q113 q2127) rfl rfl rfl (by decide +kernel) ⟨Nat.le_of_ble_eq_true rfl, Nat.le_of_ble_eq_true rfl⟩) (UW_V hP hK (hD) (va_recv hK.1 hP (ci := 0) (q0 := 0) rfl rfl)) rfl rfl hl.1 rfl (lv_room (Nat.le_of_ble_eq_true rfl)) dX5_leads_13 ⟨Nat.le_of_ble_eq_true rfl, Nat.le_of_ble_eq_true rfl⟩) hD hS hA (fun H locs hP hD hS => ?_)
    have hP : va_P E.1 CL (MW E o (us (us sc 7 0) 8 (c_tool t)) ar) H := hP
    have hD : va_D A (MW E o (us (us sc 7 0) 8 (c_tool t)) ar) := hD
    refine n_ifd_eq (tgt := 23) hx hb dX5_leads_16 (by decide) (fun c_3 => ?_) (fun c_3 => ?_)
    · have hz := c_tool_ok (by assumption)
      refine lv_aload_n hx hb dX5_leads_23 rfl (lv_at hl 0 rfl) ?_
      refine lv_iload_n hx hb dX5_leads_24 rfl (lv_at hl 1 rfl) ?_
      refine lv_bipush (v := iI 97) hx hb dX5_leads_25 (by decide) ?_
      refine n_isub hx hb dX5_leads_27 ?_
      refine lv_iconst (v := iI 1) hx hb dX5_leads_28 rfl ?_
      refine n_csi (x := bsI (m_reach (ar 1) true (t - 97))) (va_runV (As := [iv (t - 97), iv 1]) (rest := []) ⟨hx, hb, hml, hown, hts⟩ (mt_X5_reached l E o (us (us sc 7 0) 8 (c_tool t)) ar (t - 97) true hB (by omega) (by assumption) (by assumption)) (cwV 2 hts (lw_V q2250 q2252 qs67 q113 q2253) rfl rfl rfl (by decide +kernel) ⟨Nat.le_of_ble_eq_true rfl, Nat.le_of_ble_eq_true rfl⟩) (PW_V hP hK (va_recv hK.1 hP (ci := 0) (q0 := 0) rfl rfl)) rfl rfl hl.1 rfl (lv_room (Nat.le_of_ble_eq_true rfl)) dX5_leads_29 ⟨Nat.le_of_ble_eq_true rfl, Nat.le_of_ble_eq_true rfl⟩) ?_
      refine n_csi (x := sumI (fun k => b2 ((m_reach (ar 1) true (t - 97)) k)) 8) (va_runS (As := [iv (bsI (m_reach (ar 1) true (t - 97)))]) (rest := []) ⟨hx, hb, hml, hown, hts⟩ (mt_X5_bits l E o (us (us sc 7 0) 8 (c_tool t)) ar (m_reach (ar 1) true (t - 97))) (va_cwS 1 hts (lw_S q2254 q2255 q113 q2256) rfl rfl rfl (by decide +kernel) ⟨Nat.le_of_ble_eq_true rfl, Nat.le_of_ble_eq_true rfl⟩) (PW_S hP hK) rfl rfl hl.1 rfl (lv_room (Nat.le_of_ble_eq_true rfl)) dX5_leads_32 ⟨Nat.le_of_ble_eq_true rfl, Nat.le_of_ble_eq_true rfl⟩) ?_
      have hfin : sumI (fun k => b2 ((m_reach (ar 1) true (t - 97)) k)) 8 = if 0 < c_tool t then 0 else sumI (fun k => b2 (m_reach (ar 1) true (t - 97) k)) 8 := by
        first | exact (if_pos (by assumption)).symm | exact (if_neg (by assumption)).symm
      exact W.iret (v := iI (sumI (fun k => b2 ((m_reach (ar 1) true (t - 97)) k)) 8)) hx hb hr (fun tt_ ht_ hW_ => ⟨⟨iI (sumI (fun k => b2 ((m_reach (ar 1) true (t - 97)) k)) 8), (), rfl, (congrArg iI hfin), by rw [ht_]; exact hP, hD⟩, hS.F ht_⟩) hS.2.2 dX5_leads_35
    · refine lv_iconst (v := iI 0) hx hb dX5_leads_19 rfl ?_
      refine lv_goto (tgt := 35) hx hb dX5_leads_20 (by decide) ?_
      have hfin : 0 = if 0 < c_tool t then 0 else sumI (fun k => b2 (m_reach (ar 1) true (t - 97) k)) 8 := by
        first | exact (if_pos (by assumption)).symm | exact (if_neg (by assumption)).symm
      exact W.iret (v := iI 0) hx hb hr (fun tt_ ht_ hW_ => ⟨⟨iI 0, (), rfl, (congrArg iI hfin), by rw [ht_]; exact hP, hD⟩, hS.F ht_⟩) hS.2.2 dX5_leads_35
  refine lv_iload_n hx hb dX5_leads_1 rfl (lv_at hl 1 rfl) ?_
  refine n_csi (x := b2 (decide (97 ≤ t ∧ t ≤ 104))) (va_runS (As := [iv t]) (rest := [.ref (o 0)]) ⟨hx, hb, hml, hown, hts⟩ (mt_X5_isTool l E o sc ar t (by omega)) (va_cwS 1 hts (lw_S q2107 q2108 q113 q2109) rfl rfl rfl (by decide +kernel) ⟨Nat.le_of_ble_eq_true rfl, Nat.le_of_ble_eq_true rfl⟩) (PW_S hP hK) rfl rfl hl.1 rfl (lv_room (Nat.le_of_ble_eq_true rfl)) dX5_leads_2 ⟨Nat.le_of_ble_eq_true rfl, Nat.le_of_ble_eq_true rfl⟩) ?_
  refine n_ifd_eq (tgt := 12) hx hb dX5_leads_5 (by decide) (fun c_4 => ?_) (fun c_4 => ?_)
  · refine lv_iconst (v := iI 1) hx hb dX5_leads_12 rfl ?_
    refine n_top (y := c_tool t) (by (try unfold c_tool); (repeat' split) <;> first | rfl | omega | contradiction | (exfalso; omega) | (simp_all; done)) ?_
    exact j_1
  · refine lv_iconst (v := iI 0) hx hb dX5_leads_8 rfl ?_
    refine lv_goto (tgt := 13) hx hb dX5_leads_9 (by decide) ?_
    refine n_top (y := c_tool t) (by (try unfold c_tool); (repeat' split) <;> first | rfl | omega | contradiction | (exfalso; omega) | (simp_all; done)) ?_
    exact j_1
set_option maxHeartbeats 4000000 in
set_option maxRecDepth 100000 in
theorem mt_X5_leadsToCount (l : Launch) (E : EE) (o : Nat → Nat) (sc : Nat → Int) (ar : Nat → Int → Int) (t : Int) (hB : ∀ k x, 0 ≤ ar k x ∧ ar k x < 2147483648) (ht : 0 ≤ t ∧ t < 65536) (htw : TW (ar 1)) (hsw : SwOK (ar 1)) (sz : Nat) : Met l yX5_leadsToCount (ws_ yX5_leadsToCount cX5_leadsToCount 2 (some .int)) { frames := 6, cells := 0, slots := 0, locals := 137 } (va_Pc [.ref (o 0), iv t] (UW E (MW E o sc ar) sz)) (UQi E (if 0 < c_tool t then 0 else sumI (fun k => b2 (m_reach (ar 1) true (t - 97) k)) 8) (MW E o (us (us sc 7 0) 8 (c_tool t)) ar) (va_A (MW E o sc ar) sz)) 0 0 (va_A (MW E o sc ar) sz) := by
  refine Met.ofW (cc := cX5_leadsToCount) (maxL := 2) (ret := (some .int)) (by decide) rfl ?_
  intro p e s m args below meth c s₁ B hml hv
  obtain ⟨rfl, hsz, hP, hK, hD0⟩ := hv
  have hx := B.exec
  have hb := B.bytes
  have hr := B.returns
  have hts := atoms_spec (ws := (ws_ yX5_leadsToCount cX5_leadsToCount 2 (some .int))) B.pre
  have hts : ∀ w ∈ lw_all, w.before _ s = true := fun w h => hts w (List.mem_cons_of_mem _ h)
  have hown : s.vm.findClass RX5 = some m.cls := findClass_of_methodNamed B.named
  have hlocks := B.notSynchronized
  subst hsz
  have hD := hD0.self (sz := s.heap.size)
  generalize hAe : va_A (MW E o sc ar) s.heap.size = A at hD ⊢
  have hA : ∀ q : Nat, s.heap.size ≤ q → A q := fun q h => by rw [← hAe]; exact Or.inr h
  have hS : va_S A s.heap s.heap [] := va_S.rf
  have hl := lv_entry ([.ref (o 0), iv t]) (n := 2) (Nat.le_of_ble_eq_true rfl)
  rw [lg_entry_eq]
  generalize (lg_sl ([.ref (o 0), iv t]) ++ List.replicate (2 - (lg_sl ([.ref (o 0), iv t])).length) Slot.unset).toArray = ls at hl ⊢
  have hl : lv_has ls 2 [(0, .ref (o 0)), (1, iv t)] := hl
  refine lv_aload_n hx hb dX5_leadsToCount_0 rfl (lv_at hl 0 rfl) ?_
  refine lv_iload_n hx hb dX5_leadsToCount_1 rfl (lv_at hl 1 rfl) ?_
  refine n_cui (x := if 0 < c_tool t then 0 else sumI (fun k => b2 (m_reach (ar 1) true (t - 97) k)) 8) (va_runV (As := [iv t]) (rest := []) ⟨hx, hb, hml, hown, hts⟩ (mt_X5_leads l E o sc ar t hB (by omega) (by assumption) (by assumption) _) (cwV 1 hts (lw_V q2246 q2248 qs66 q113 q2249) rfl rfl rfl (by decide +kernel) ⟨Nat.le_of_ble_eq_true rfl, Nat.le_of_ble_eq_true rfl⟩) (UW_V hP hK (hD) (va_recv hK.1 hP (ci := 0) (q0 := 0) rfl rfl)) rfl rfl hl.1 rfl (lv_room (Nat.le_of_ble_eq_true rfl)) dX5_leadsToCount_2 ⟨Nat.le_of_ble_eq_true rfl, Nat.le_of_ble_eq_true rfl⟩) hD hS hA (fun H locs hP hD hS => ?_)
  have hP : va_P E.1 CL (MW E o (us (us sc 7 0) 8 (c_tool t)) ar) H := hP
  have hD : va_D A (MW E o (us (us sc 7 0) 8 (c_tool t)) ar) := hD
  exact W.iret (v := iI (if 0 < c_tool t then 0 else sumI (fun k => b2 (m_reach (ar 1) true (t - 97) k)) 8)) hx hb hr (fun tt_ ht_ hW_ => ⟨⟨iI (if 0 < c_tool t then 0 else sumI (fun k => b2 (m_reach (ar 1) true (t - 97) k)) 8), (), rfl, rfl, by rw [ht_]; exact hP, hD⟩, hS.F ht_⟩) hS.2.2 dX5_leadsToCount_5
set_option maxHeartbeats 4000000 in
set_option maxRecDepth 100000 in
theorem mt_X5_leadsToByTable (l : Launch) (E : EE) (o : Nat → Nat) (sc : Nat → Int) (ar : Nat → Int → Int) (t : Int) (hB : ∀ k x, 0 ≤ ar k x ∧ ar k x < 2147483648) (ht : 0 ≤ t ∧ t < 65536) (htw : TW (ar 1)) (hsw : SwOK (ar 1)) (sz : Nat) : Met l yX5_leadsToByTable (ws_ yX5_leadsToByTable cX5_leadsToByTable 2 (some .int)) { frames := 6, cells := 0, slots := 0, locals := 137 } (va_Pc [.ref (o 0), iv t] (UW E (MW E o sc ar) sz)) (UQi E (if 0 < c_tool t then 0 else sumI (fun k => b2 (m_reach (ar 1) true (t - 97) k)) 8) (MW E o (us (us sc 7 0) 8 (c_tool t)) ar) (va_A (MW E o sc ar) sz)) 0 0 (va_A (MW E o sc ar) sz) := by
  refine Met.ofW (cc := cX5_leadsToByTable) (maxL := 2) (ret := (some .int)) (by decide) rfl ?_
  intro p e s m args below meth c s₁ B hml hv
  obtain ⟨rfl, hsz, hP, hK, hD0⟩ := hv
  have hx := B.exec
  have hb := B.bytes
  have hr := B.returns
  have hts := atoms_spec (ws := (ws_ yX5_leadsToByTable cX5_leadsToByTable 2 (some .int))) B.pre
  have hts : ∀ w ∈ lw_all, w.before _ s = true := fun w h => hts w (List.mem_cons_of_mem _ h)
  have hown : s.vm.findClass RX5 = some m.cls := findClass_of_methodNamed B.named
  have hlocks := B.notSynchronized
  subst hsz
  have hD := hD0.self (sz := s.heap.size)
  generalize hAe : va_A (MW E o sc ar) s.heap.size = A at hD ⊢
  have hA : ∀ q : Nat, s.heap.size ≤ q → A q := fun q h => by rw [← hAe]; exact Or.inr h
  have hS : va_S A s.heap s.heap [] := va_S.rf
  have hl := lv_entry ([.ref (o 0), iv t]) (n := 2) (Nat.le_of_ble_eq_true rfl)
  rw [lg_entry_eq]
  generalize (lg_sl ([.ref (o 0), iv t]) ++ List.replicate (2 - (lg_sl ([.ref (o 0), iv t])).length) Slot.unset).toArray = ls at hl ⊢
  have hl : lv_has ls 2 [(0, .ref (o 0)), (1, iv t)] := hl
  refine lv_aload_n hx hb dX5_leadsToByTable_0 rfl (lv_at hl 0 rfl) ?_
  refine lv_iload_n hx hb dX5_leadsToByTable_1 rfl (lv_at hl 1 rfl) ?_
  refine n_cui (x := if 0 < c_tool t then 0 else sumI (fun k => b2 (m_reach (ar 1) true (t - 97) k)) 8) (va_runV (As := [iv t]) (rest := []) ⟨hx, hb, hml, hown, hts⟩ (mt_X5_leads l E o sc ar t hB (by omega) (by assumption) (by assumption) _) (cwV 1 hts (lw_V q2246 q2248 qs66 q113 q2249) rfl rfl rfl (by decide +kernel) ⟨Nat.le_of_ble_eq_true rfl, Nat.le_of_ble_eq_true rfl⟩) (UW_V hP hK (hD) (va_recv hK.1 hP (ci := 0) (q0 := 0) rfl rfl)) rfl rfl hl.1 rfl (lv_room (Nat.le_of_ble_eq_true rfl)) dX5_leadsToByTable_2 ⟨Nat.le_of_ble_eq_true rfl, Nat.le_of_ble_eq_true rfl⟩) hD hS hA (fun H locs hP hD hS => ?_)
  have hP : va_P E.1 CL (MW E o (us (us sc 7 0) 8 (c_tool t)) ar) H := hP
  have hD : va_D A (MW E o (us (us sc 7 0) 8 (c_tool t)) ar) := hD
  exact W.iret (v := iI (if 0 < c_tool t then 0 else sumI (fun k => b2 (m_reach (ar 1) true (t - 97) k)) 8)) hx hb hr (fun tt_ ht_ hW_ => ⟨⟨iI (if 0 < c_tool t then 0 else sumI (fun k => b2 (m_reach (ar 1) true (t - 97) k)) 8), (), rfl, rfl, by rw [ht_]; exact hP, hD⟩, hS.F ht_⟩) hS.2.2 dX5_leadsToByTable_5
set_option maxHeartbeats 4000000 in
set_option maxRecDepth 100000 in
theorem mt_X5_round (l : Launch) (E : EE) (o : Nat → Nat) (sc : Nat → Int) (ar : Nat → Int → Int) (hB : ∀ k x, 0 ≤ ar k x ∧ ar k x < 2147483648) (htw : TW (ar 1)) (hsw : SwOK (ar 1)) (sz : Nat) : Met l yX5_round (ws_ yX5_round cX5_round 3 (some .int)) { frames := 5, cells := 0, slots := 0, locals := 116 } (va_Pc [.ref (o 0)] (UW E (MW E o sc ar) sz)) (UQi E (sumI (fun k => b2 (m_reach (ar 1) true k k)) 8) (MW E o (us sc 8 0) ar) (va_A (MW E o sc ar) sz)) 0 0 (va_A (MW E o sc ar) sz) := by
  refine Met.ofW (cc := cX5_round) (maxL := 3) (ret := (some .int)) (by decide) rfl ?_
  intro p e s m args below meth c s₁ B hml hv
  obtain ⟨rfl, hsz, hP, hK, hD0⟩ := hv
  have hx := B.exec
  have hb := B.bytes
  have hr := B.returns
  have hts := atoms_spec (ws := (ws_ yX5_round cX5_round 3 (some .int))) B.pre
  have hts : ∀ w ∈ lw_all, w.before _ s = true := fun w h => hts w (List.mem_cons_of_mem _ h)
  have hown : s.vm.findClass RX5 = some m.cls := findClass_of_methodNamed B.named
  have hlocks := B.notSynchronized
  subst hsz
  have hD := hD0.self (sz := s.heap.size)
  generalize hAe : va_A (MW E o sc ar) s.heap.size = A at hD ⊢
  have hA : ∀ q : Nat, s.heap.size ≤ q → A q := fun q h => by rw [← hAe]; exact Or.inr h
  have hS : va_S A s.heap s.heap [] := va_S.rf
  have hl := lv_entry ([.ref (o 0)]) (n := 3) (Nat.le_of_ble_eq_true rfl)
  rw [lg_entry_eq]
  generalize (lg_sl ([.ref (o 0)]) ++ List.replicate (3 - (lg_sl ([.ref (o 0)])).length) Slot.unset).toArray = ls at hl ⊢
  have hl : lv_has ls 3 [(0, .ref (o 0))] := hl
  refine lv_aload_n hx hb dX5_round_0 rfl (lv_at hl 0 rfl) ?_
  refine lv_iconst (v := iI 0) hx hb dX5_round_1 rfl ?_
  refine va_put (D := E.1) (ci := 0) (v := iv 0) (ty := .int) (C := RX5) (T := TX5) (N := 23) hx hb hts in_X5 tyX5 tyX5_ok nmX5 hown hK.1 hP hD hS 0 rfl rfl 8 (by decide) (hts _ q2037) (fun _ h9 => h9) rfl (by decide +kernel) rfl rfl (Nat.le_of_ble_eq_true rfl) dX5_round_2 (fun H locs hP hD hS => ?_)
  have hP : va_P E.1 CL (MW E o (us sc 8 0) ar) H := hP
  have hD : va_D A (MW E o (us sc 8 0) ar) := hD
  refine lv_iconst (v := iI 0) hx hb dX5_round_5 rfl ?_
  refine lv_istore_n (lv' := [(1, iv 0), (0, .ref (o 0))]) hx hb dX5_round_6 rfl hl (by decide) rfl (fun ls hl => ?_)
  refine lv_iconst (v := iI 0) hx hb dX5_round_7 rfl ?_
  refine lv_istore_n (lv' := [(2, iv 0), (1, iv 0), (0, .ref (o 0))]) hx hb dX5_round_8 rfl hl (by decide) rfl (fun ls hl => ?_)
  have l9 : ∀ (fu : Nat) (x1 : Int) (x2 : Int), (0 ≤ x2 ∧ x2 ≤ 8) → (x1 = sumI (fun k => b2 (m_reach (ar 1) true k k)) x2) → (8 - x2 < (fu : Int)) → ∀ ls : Array Slot, lv_has ls 3 [(2, iv x2), (1, iv x1), (0, .ref (o 0))] → W p l e (headSpec (ws_ yX5_round cX5_round 3 (some .int)) { frames := 5, cells := 0, slots := 0, locals := 116 }).room s m ([.ref (o 0)] : List Value).toArray below meth c H locs 0 0 (MQ below (UQi E (sumI (fun k => b2 (m_reach (ar 1) true k k)) 8) (MW E o (us sc 8 0) ar) A) ([.ref (o 0)] : List Value).toArray s 0 0 A) (F0 m 9 ls []) := by
    intro fu
    induction fu with
    | zero =>
      intro x1 x2 il9_0 il9_1 hm
      exfalso; omega
    | succ fu ih =>
      intro x1 x2 il9_0 il9_1 hm ls hl
      have ihl9 := ih
      refine lv_iload_n hx hb dX5_round_9 rfl (lv_at hl 0 rfl) ?_
      refine lv_bipush (v := iI 8) hx hb dX5_round_10 (by decide) ?_
      refine n_icmp_ge (tgt := 34) hx hb dX5_round_12 (by decide) (by omega) (by omega) (fun c_1 => ?_) (fun c_1 => ?_)
      · refine lv_iload_n hx hb dX5_round_34 rfl (lv_at hl 1 rfl) ?_
        have hfin : x1 = sumI (fun k => b2 (m_reach (ar 1) true k k)) 8 := by
          obtain rfl : x2 = 8 := by omega
          exact il9_1
        exact W.iret (v := iI x1) hx hb hr (fun tt_ ht_ hW_ => ⟨⟨iI x1, (), rfl, (congrArg iI hfin), by rw [ht_]; exact hP, hD⟩, hS.F ht_⟩) hS.2.2 dX5_round_35
      · refine lv_iload_n hx hb dX5_round_15 rfl (lv_at hl 1 rfl) ?_
        refine lv_aload_n hx hb dX5_round_16 rfl (lv_at hl 2 rfl) ?_
        refine lv_iload_n hx hb dX5_round_17 rfl (lv_at hl 0 rfl) ?_
        refine lv_iconst (v := iI 1) hx hb dX5_round_18 rfl ?_
        refine n_csi (x := bsI (m_reach (ar 1) true x2)) (va_runV (As := [iv x2, iv 1]) (rest := [iv x1]) ⟨hx, hb, hml, hown, hts⟩ (mt_X5_reached l E o (us sc 8 0) ar x2 true hB (by omega) (by assumption) (by assumption)) (cwV 2 hts (lw_V q2250 q2252 qs67 q113 q2253) rfl rfl rfl (by decide +kernel) ⟨Nat.le_of_ble_eq_true rfl, Nat.le_of_ble_eq_true rfl⟩) (PW_V hP hK (va_recv hK.1 hP (ci := 0) (q0 := 0) rfl rfl)) rfl rfl hl.1 rfl (lv_room (Nat.le_of_ble_eq_true rfl)) dX5_round_19 ⟨Nat.le_of_ble_eq_true rfl, Nat.le_of_ble_eq_true rfl⟩) ?_
        refine lv_iload_n hx hb dX5_round_22 rfl (lv_at hl 0 rfl) ?_
        have b_2 := bsI_r (m_reach (ar 1) true x2)
        refine n_ishr hx hb (by omega) (by omega) dX5_round_23 ?_
        refine lv_iconst (v := iI 1) hx hb dX5_round_24 rfl ?_
        refine n_iand1 hx hb dX5_round_25 ?_
        rw [bsI_bit (m_reach (ar 1) true x2) (by omega)]
        refine n_iadd hx hb dX5_round_26 ?_
        refine lv_istore_n (lv' := [(1, iv (x1 + (b2 ((m_reach (ar 1) true x2) x2)))), (2, iv x2), (0, .ref (o 0))]) hx hb dX5_round_27 rfl hl (by decide) rfl (fun ls hl => ?_)
        refine lv_iinc (v := iI (x2 + 1)) (lv' := [(2, iv (x2 + 1)), (1, iv (x1 + (b2 ((m_reach (ar 1) true x2) x2)))), (0, .ref (o 0))]) hx hb dX5_round_28 hl (k := 1) rfl (iI_add _ _) (by decide) rfl (fun ls hl => ?_)
        refine lv_goto (tgt := 9) hx hb dX5_round_31 (by decide) ?_
        exact ihl9 (x1 + (b2 ((m_reach (ar 1) true x2) x2))) (x2 + 1) (by first | omega | rfl) (by rw [sumI_s (by omega), ← il9_1]) (by omega) ls (lv_sub hl [0, 1, 2] rfl)
  exact l9 9 0 0 (by first | omega | rfl | trivial) (by rfl) (by omega) ls hl
set_option maxHeartbeats 4000000 in
set_option maxRecDepth 100000 in
theorem mt_X5_inCircles (l : Launch) (E : EE) (o : Nat → Nat) (sc : Nat → Int) (ar : Nat → Int → Int) (hB : ∀ k x, 0 ≤ ar k x ∧ ar k x < 2147483648) (htw : TW (ar 1)) (hsw : SwOK (ar 1)) (sz : Nat) : Met l yX5_inCircles (ws_ yX5_inCircles cX5_inCircles 1 (some .int)) { frames := 6, cells := 0, slots := 0, locals := 138 } (va_Pc [.ref (o 0)] (UW E (MW E o sc ar) sz)) (UQi E (sumI (fun k => b2 (m_reach (ar 1) true k k)) 8) (MW E o (us sc 8 0) ar) (va_A (MW E o sc ar) sz)) 0 0 (va_A (MW E o sc ar) sz) := by
  refine Met.ofW (cc := cX5_inCircles) (maxL := 1) (ret := (some .int)) (by decide) rfl ?_
  intro p e s m args below meth c s₁ B hml hv
  obtain ⟨rfl, hsz, hP, hK, hD0⟩ := hv
  have hx := B.exec
  have hb := B.bytes
  have hr := B.returns
  have hts := atoms_spec (ws := (ws_ yX5_inCircles cX5_inCircles 1 (some .int))) B.pre
  have hts : ∀ w ∈ lw_all, w.before _ s = true := fun w h => hts w (List.mem_cons_of_mem _ h)
  have hown : s.vm.findClass RX5 = some m.cls := findClass_of_methodNamed B.named
  have hlocks := B.notSynchronized
  subst hsz
  have hD := hD0.self (sz := s.heap.size)
  generalize hAe : va_A (MW E o sc ar) s.heap.size = A at hD ⊢
  have hA : ∀ q : Nat, s.heap.size ≤ q → A q := fun q h => by rw [← hAe]; exact Or.inr h
  have hS : va_S A s.heap s.heap [] := va_S.rf
  have hl := lv_entry ([.ref (o 0)]) (n := 1) (Nat.le_of_ble_eq_true rfl)
  rw [lg_entry_eq]
  generalize (lg_sl ([.ref (o 0)]) ++ List.replicate (1 - (lg_sl ([.ref (o 0)])).length) Slot.unset).toArray = ls at hl ⊢
  have hl : lv_has ls 1 [(0, .ref (o 0))] := hl
  refine lv_aload_n hx hb dX5_inCircles_0 rfl (lv_at hl 0 rfl) ?_
  refine n_cui (x := sumI (fun k => b2 (m_reach (ar 1) true k k)) 8) (va_runV (As := []) (rest := []) ⟨hx, hb, hml, hown, hts⟩ (mt_X5_round l E o sc ar  hB (by assumption) (by assumption) _) (cwV 0 hts (lw_V q2265 q2267 qs68 q113 q2268) rfl rfl rfl (by decide +kernel) ⟨Nat.le_of_ble_eq_true rfl, Nat.le_of_ble_eq_true rfl⟩) (UW_V hP hK (hD) (va_recv hK.1 hP (ci := 0) (q0 := 0) rfl rfl)) rfl rfl hl.1 rfl (lv_room (Nat.le_of_ble_eq_true rfl)) dX5_inCircles_1 ⟨Nat.le_of_ble_eq_true rfl, Nat.le_of_ble_eq_true rfl⟩) hD hS hA (fun H locs hP hD hS => ?_)
  have hP : va_P E.1 CL (MW E o (us sc 8 0) ar) H := hP
  have hD : va_D A (MW E o (us sc 8 0) ar) := hD
  exact W.iret (v := iI (sumI (fun k => b2 (m_reach (ar 1) true k k)) 8)) hx hb hr (fun tt_ ht_ hW_ => ⟨⟨iI (sumI (fun k => b2 (m_reach (ar 1) true k k)) 8), (), rfl, rfl, by rw [ht_]; exact hP, hD⟩, hS.F ht_⟩) hS.2.2 dX5_inCircles_4
set_option maxHeartbeats 4000000 in
set_option maxRecDepth 100000 in
theorem mt_X5_inCirclesBySets (l : Launch) (E : EE) (o : Nat → Nat) (sc : Nat → Int) (ar : Nat → Int → Int) (hB : ∀ k x, 0 ≤ ar k x ∧ ar k x < 2147483648) (htw : TW (ar 1)) (hsw : SwOK (ar 1)) (sz : Nat) : Met l yX5_inCirclesBySets (ws_ yX5_inCirclesBySets cX5_inCirclesBySets 1 (some .int)) { frames := 6, cells := 0, slots := 0, locals := 138 } (va_Pc [.ref (o 0)] (UW E (MW E o sc ar) sz)) (UQi E (sumI (fun k => b2 (m_reach (ar 1) true k k)) 8) (MW E o (us sc 8 0) ar) (va_A (MW E o sc ar) sz)) 0 0 (va_A (MW E o sc ar) sz) := by
  refine Met.ofW (cc := cX5_inCirclesBySets) (maxL := 1) (ret := (some .int)) (by decide) rfl ?_
  intro p e s m args below meth c s₁ B hml hv
  obtain ⟨rfl, hsz, hP, hK, hD0⟩ := hv
  have hx := B.exec
  have hb := B.bytes
  have hr := B.returns
  have hts := atoms_spec (ws := (ws_ yX5_inCirclesBySets cX5_inCirclesBySets 1 (some .int))) B.pre
  have hts : ∀ w ∈ lw_all, w.before _ s = true := fun w h => hts w (List.mem_cons_of_mem _ h)
  have hown : s.vm.findClass RX5 = some m.cls := findClass_of_methodNamed B.named
  have hlocks := B.notSynchronized
  subst hsz
  have hD := hD0.self (sz := s.heap.size)
  generalize hAe : va_A (MW E o sc ar) s.heap.size = A at hD ⊢
  have hA : ∀ q : Nat, s.heap.size ≤ q → A q := fun q h => by rw [← hAe]; exact Or.inr h
  have hS : va_S A s.heap s.heap [] := va_S.rf
  have hl := lv_entry ([.ref (o 0)]) (n := 1) (Nat.le_of_ble_eq_true rfl)
  rw [lg_entry_eq]
  generalize (lg_sl ([.ref (o 0)]) ++ List.replicate (1 - (lg_sl ([.ref (o 0)])).length) Slot.unset).toArray = ls at hl ⊢
  have hl : lv_has ls 1 [(0, .ref (o 0))] := hl
  refine lv_aload_n hx hb dX5_inCirclesBySets_0 rfl (lv_at hl 0 rfl) ?_
  refine n_cui (x := sumI (fun k => b2 (m_reach (ar 1) true k k)) 8) (va_runV (As := []) (rest := []) ⟨hx, hb, hml, hown, hts⟩ (mt_X5_round l E o sc ar  hB (by assumption) (by assumption) _) (cwV 0 hts (lw_V q2265 q2267 qs68 q113 q2268) rfl rfl rfl (by decide +kernel) ⟨Nat.le_of_ble_eq_true rfl, Nat.le_of_ble_eq_true rfl⟩) (UW_V hP hK (hD) (va_recv hK.1 hP (ci := 0) (q0 := 0) rfl rfl)) rfl rfl hl.1 rfl (lv_room (Nat.le_of_ble_eq_true rfl)) dX5_inCirclesBySets_1 ⟨Nat.le_of_ble_eq_true rfl, Nat.le_of_ble_eq_true rfl⟩) hD hS hA (fun H locs hP hD hS => ?_)
  have hP : va_P E.1 CL (MW E o (us sc 8 0) ar) H := hP
  have hD : va_D A (MW E o (us sc 8 0) ar) := hD
  exact W.iret (v := iI (sumI (fun k => b2 (m_reach (ar 1) true k k)) 8)) hx hb hr (fun tt_ ht_ hW_ => ⟨⟨iI (sumI (fun k => b2 (m_reach (ar 1) true k k)) 8), (), rfl, rfl, by rw [ht_]; exact hP, hD⟩, hS.F ht_⟩) hS.2.2 dX5_inCirclesBySets_4
set_option maxHeartbeats 4000000 in
set_option maxRecDepth 100000 in
theorem mt_X5_circle (l : Launch) (E : EE) (o : Nat → Nat) (sc : Nat → Int) (ar : Nat → Int → Int) (hB : ∀ k x, 0 ≤ ar k x ∧ ar k x < 2147483648) (htw : TW (ar 1)) (hsw : SwOK (ar 1)) : Met l yX5_circle (ws_ yX5_circle cX5_circle 5 (some .int)) { frames := 4, cells := 0, slots := 0, locals := 92 } (va_Pc [.ref (o 0)] (PW E (MW E o sc ar))) (NP (m_circ (ar 1))) 0 0 (fun _ => False) := by
  refine Met.ofW (cc := cX5_circle) (maxL := 5) (ret := (some .int)) (by decide) rfl ?_
  intro p e s m args below meth c s₁ B hml hv
  obtain ⟨rfl, hP, hK⟩ := hv
  have hx := B.exec
  have hb := B.bytes
  have hr := B.returns
  have hts := atoms_spec (ws := (ws_ yX5_circle cX5_circle 5 (some .int))) B.pre
  have hts : ∀ w ∈ lw_all, w.before _ s = true := fun w h => hts w (List.mem_cons_of_mem _ h)
  have hown : s.vm.findClass RX5 = some m.cls := findClass_of_methodNamed B.named
  have hlocks := B.notSynchronized
  have hl := lv_entry ([.ref (o 0)]) (n := 5) (Nat.le_of_ble_eq_true rfl)
  rw [lg_entry_eq]
  generalize (lg_sl ([.ref (o 0)]) ++ List.replicate (5 - (lg_sl ([.ref (o 0)])).length) Slot.unset).toArray = ls at hl ⊢
  have hl : lv_has ls 5 [(0, .ref (o 0))] := hl
  refine lv_iconst (v := iI 0) hx hb dX5_circle_0 rfl ?_
  refine lv_istore_n (lv' := [(1, iv 0), (0, .ref (o 0))]) hx hb dX5_circle_1 rfl hl (by decide) rfl (fun ls hl => ?_)
  refine lv_iconst (v := iI 0) hx hb dX5_circle_2 rfl ?_
  refine lv_istore_n (lv' := [(2, iv 0), (1, iv 0), (0, .ref (o 0))]) hx hb dX5_circle_3 rfl hl (by decide) rfl (fun ls hl => ?_)
  have la : ∀ (fu : Nat) (x1 : Int) (x2 : Int), (0 ≤ x2 ∧ x2 ≤ 8 ∧ 0 ≤ x1 ∧ x1 ≤ 8) → (CB (ar 1) x1) → (∀ k n, 0 ≤ k → k < x2 → 1 ≤ n → n ≤ 8 → m_hit (ar 1) n k = true → x1 ≠ 0 ∧ x1 ≤ n) → (8 - x2 < (fu : Int)) → ∀ ls : Array Slot, lv_has ls 5 [(2, iv x2), (1, iv x1), (0, .ref (o 0))] → W p l e (headSpec (ws_ yX5_circle cX5_circle 5 (some .int)) { frames := 4, cells := 0, slots := 0, locals := 92 }).room s m ([.ref (o 0)] : List Value).toArray below meth c s.heap [] 0 0 (MQ below (NP (m_circ (ar 1))) ([.ref (o 0)] : List Value).toArray s 0 0 (fun _ => False)) (F0 m 4 ls []) := by
    intro fu
    induction fu with
    | zero =>
      intro x1 x2 ila_0 ila_1 ila_2 hm
      exfalso; omega
    | succ fu ih =>
      intro x1 x2 ila_0 ila_1 ila_2 hm ls hl
      have ihla := ih
      refine lv_iload_n hx hb dX5_circle_4 rfl (lv_at hl 0 rfl) ?_
      refine lv_bipush (v := iI 8) hx hb dX5_circle_5 (by decide) ?_
      refine n_icmp_ge (tgt := 65) hx hb dX5_circle_7 (by decide) (by omega) (by omega) (fun c_1 => ?_) (fun c_1 => ?_)
      · refine lv_iload_n hx hb dX5_circle_65 rfl (lv_at hl 1 rfl) ?_
        have hfin : x1 = m_circ (ar 1) := by
          obtain rfl : x2 = 8 := by omega
          exact m_circ_fin ila_1 (fun k n q1 q2 q3 q4 q5 => ila_2 k n q1 q2 q3 q4 q5)
        exact W.iret (v := iI x1) hx hb hr (fun tt_ ht_ hW_ => ⟨iI x1, rfl, (congrArg iI hfin), ht_⟩) (fun q h => by cases h) dX5_circle_66
      · refine lv_iconst (v := iI 1) hx hb dX5_circle_10 rfl ?_
        refine lv_iload_n hx hb dX5_circle_11 rfl (lv_at hl 0 rfl) ?_
        refine n_ishl1_bs hx hb (by omega) dX5_circle_12 ?_
        refine lv_istore_n (lv' := [(3, iv (bsI (fun v => decide (v = x2)))), (2, iv x2), (1, iv x1), (0, .ref (o 0))]) hx hb dX5_circle_13 rfl hl (by decide) rfl (fun ls hl => ?_)
        refine lv_iconst (v := iI 1) hx hb dX5_circle_14 rfl ?_
        refine lv_istore (lv' := [(4, iv 1), (3, iv (bsI (fun v => decide (v = x2)))), (2, iv x2), (1, iv x1), (0, .ref (o 0))]) hx hb dX5_circle_15 hl (by decide) rfl (fun ls hl => ?_)
        have lb : ∀ (fu : Nat) (y1 : Int) (f3 : Int → Bool) (x4 : Int), (1 ≤ x4 ∧ x4 ≤ 9 ∧ 0 ≤ y1 ∧ y1 ≤ 8) → (f3 = wkN (ar 1) (x4 - 1).toNat x2) → (CB (ar 1) y1) → (∀ k n, 0 ≤ k → (k < x2 ∨ (k = x2 ∧ n < x4)) → 1 ≤ n → n ≤ 8 → m_hit (ar 1) n k = true → y1 ≠ 0 ∧ y1 ≤ n) → (9 - x4 < (fu : Int)) → ∀ ls : Array Slot, lv_has ls 5 [(4, iv x4), (3, iv (bsI f3)), (2, iv x2), (1, iv y1), (0, .ref (o 0))] → W p l e (headSpec (ws_ yX5_circle cX5_circle 5 (some .int)) { frames := 4, cells := 0, slots := 0, locals := 92 }).room s m ([.ref (o 0)] : List Value).toArray below meth c s.heap [] 0 0 (MQ below (NP (m_circ (ar 1))) ([.ref (o 0)] : List Value).toArray s 0 0 (fun _ => False)) (F0 m 17 ls []) := by
          intro fu
          induction fu with
          | zero =>
            intro y1 f3 x4 ilb_0 ilb_1 ilb_2 ilb_3 hm
            exfalso; omega
          | succ fu ih =>
            intro y1 f3 x4 ilb_0 ilb_1 ilb_2 ilb_3 hm ls hl
            have ihlb := ih
            refine lv_iload hx hb dX5_circle_17 (lv_at hl 0 rfl) ?_
            refine lv_bipush (v := iI 8) hx hb dX5_circle_19 (by decide) ?_
            refine n_icmp_gt (tgt := 59) hx hb dX5_circle_21 (by decide) (by omega) (by omega) (fun c_2 => ?_) (fun c_2 => ?_)
            · have ilb_3 : ∀ k n, 0 ≤ k → k < x2 + 1 → 1 ≤ n → n ≤ 8 → m_hit (ar 1) n k = true → y1 ≠ 0 ∧ y1 ≤ n := fun k n q1 q2 q3 q4 q5 => ilb_3 k n q1 (by omega) q3 q4 q5
              refine lv_iinc (v := iI (x2 + 1)) (lv' := [(2, iv (x2 + 1)), (4, iv x4), (3, iv (bsI f3)), (1, iv y1), (0, .ref (o 0))]) hx hb dX5_circle_59 hl (k := 2) rfl (iI_add _ _) (by decide) rfl (fun ls hl => ?_)
              refine lv_goto (tgt := 4) hx hb dX5_circle_62 (by decide) ?_
              exact ihla y1 (x2 + 1) (by first | omega | rfl) (by exact ilb_2) (by exact ilb_3) (by omega) ls (lv_sub hl [0, 3, 4] rfl)
            · refine lv_aload_n hx hb dX5_circle_24 rfl (lv_at hl 4 rfl) ?_
              refine lv_iload_n hx hb dX5_circle_25 rfl (lv_at hl 1 rfl) ?_
              refine lv_iconst (v := iI 0) hx hb dX5_circle_26 rfl ?_
              refine n_csi (x := bsI (m_nextOf (ar 1) f3 false)) (va_runV (As := [iv (bsI f3), iv 0]) (rest := []) ⟨hx, hb, hml, hown, hts⟩ (mt_X5_nextOf l E o sc ar f3 false hB (by assumption) (by assumption)) (cwV 2 hts (lw_V q2179 q2181 qs61 q113 q2182) rfl rfl rfl (by decide +kernel) ⟨Nat.le_of_ble_eq_true rfl, Nat.le_of_ble_eq_true rfl⟩) (PW_V hP hK (va_recv hK.1 hP (ci := 0) (q0 := 0) rfl rfl)) rfl rfl hl.1 rfl (lv_room (Nat.le_of_ble_eq_true rfl)) dX5_circle_27 ⟨Nat.le_of_ble_eq_true rfl, Nat.le_of_ble_eq_true rfl⟩) ?_
              refine lv_istore_n (lv' := [(3, iv (bsI (m_nextOf (ar 1) f3 false))), (4, iv x4), (2, iv x2), (1, iv y1), (0, .ref (o 0))]) hx hb dX5_circle_30 rfl hl (by decide) rfl (fun ls hl => ?_)
              refine lv_iload_n hx hb dX5_circle_31 rfl (lv_at hl 0 rfl) ?_
              refine lv_iload_n hx hb dX5_circle_32 rfl (lv_at hl 2 rfl) ?_
              have b_3 := bsI_r (m_nextOf (ar 1) f3 false)
              refine n_ishr hx hb (by omega) (by omega) dX5_circle_33 ?_
              refine lv_iconst (v := iI 1) hx hb dX5_circle_34 rfl ?_
              refine n_iand1 hx hb dX5_circle_35 ?_
              rw [bsI_bit (m_nextOf (ar 1) f3 false) (by omega)]
              refine lv_iconst (v := iI 1) hx hb dX5_circle_36 rfl ?_
              refine n_icmpb_ne (tgt := 53) hx hb dX5_circle_37 (by decide) (fun c_4 => ?_) (fun c_4 => ?_)
              · have hms := m_hit_s (g := ar 1) (n := x4) (k := x2) (by omega)
                rw [← ilb_1] at hms
                have hcb : CB (ar 1) y1 := ilb_2
                have hhh : ∀ k n, 0 ≤ k → (k < x2 ∨ (k = x2 ∧ n < x4 + 1)) → 1 ≤ n → n ≤ 8 → m_hit (ar 1) n k = true → y1 ≠ 0 ∧ y1 ≤ n := by
                  intro k n q1 q2 q3 q4 q5
                  by_cases hq : k = x2 ∧ n = x4
                  · obtain ⟨rfl, rfl⟩ := hq
                    rw [hms, c_4] at q5; cases q5
                  · have := ilb_3 k n q1 (by omega) q3 q4 q5; omega
                refine lv_iinc (v := iI (x4 + 1)) (lv' := [(4, iv (x4 + 1)), (3, iv (bsI (m_nextOf (ar 1) f3 false))), (2, iv x2), (1, iv y1), (0, .ref (o 0))]) hx hb dX5_circle_53 hl (k := 1) rfl (iI_add _ _) (by decide) rfl (fun ls hl => ?_)
                refine lv_goto (tgt := 17) hx hb dX5_circle_56 (by decide) ?_
                exact ihlb y1 (m_nextOf (ar 1) f3 false) (x4 + 1) (by first | omega | rfl) (by rw [ilb_1, show x4 + 1 - 1 = x4 by omega]; exact (wkN_s (by omega)).symm) (by exact hcb) (by exact hhh) (by omega) ls (lv_sub hl [0, 1, 2, 3, 4] rfl)
              · refine lv_iload_n hx hb dX5_circle_40 rfl (lv_at hl 3 rfl) ?_
                refine n_if_eq (tgt := 50) hx hb dX5_circle_41 (by decide) (by omega) (fun c_5 => ?_) (fun c_5 => ?_)
                · refine lv_iload hx hb dX5_circle_50 (lv_at hl 1 rfl) ?_
                  refine lv_istore_n (lv' := [(1, iv x4), (3, iv (bsI (m_nextOf (ar 1) f3 false))), (4, iv x4), (2, iv x2), (0, .ref (o 0))]) hx hb dX5_circle_52 rfl hl (by decide) rfl (fun ls hl => ?_)
                  have hms := m_hit_s (g := ar 1) (n := x4) (k := x2) (by omega)
                  rw [← ilb_1] at hms
                  have hcb : CB (ar 1) x4 := Or.inr ⟨by omega, by omega, x2, by omega, by omega, by rw [hms]; exact c_4⟩
                  have hhh : ∀ k n, 0 ≤ k → (k < x2 ∨ (k = x2 ∧ n < x4 + 1)) → 1 ≤ n → n ≤ 8 → m_hit (ar 1) n k = true → x4 ≠ 0 ∧ x4 ≤ n := by
                    intro k n q1 q2 q3 q4 q5
                    by_cases hq : k = x2 ∧ n = x4
                    · obtain ⟨rfl, rfl⟩ := hq
                      omega
                    · have := ilb_3 k n q1 (by omega) q3 q4 q5; omega
                  refine lv_iinc (v := iI (x4 + 1)) (lv' := [(4, iv (x4 + 1)), (1, iv x4), (3, iv (bsI (m_nextOf (ar 1) f3 false))), (2, iv x2), (0, .ref (o 0))]) hx hb dX5_circle_53 hl (k := 2) rfl (iI_add _ _) (by decide) rfl (fun ls hl => ?_)
                  refine lv_goto (tgt := 17) hx hb dX5_circle_56 (by decide) ?_
                  exact ihlb x4 (m_nextOf (ar 1) f3 false) (x4 + 1) (by first | omega | rfl) (by rw [ilb_1, show x4 + 1 - 1 = x4 by omega]; exact (wkN_s (by omega)).symm) (by exact hcb) (by exact hhh) (by omega) ls (lv_sub hl [0, 2, 3, 1, 4] rfl)
                · refine lv_iload hx hb dX5_circle_44 (lv_at hl 1 rfl) ?_
                  refine lv_iload_n hx hb dX5_circle_46 rfl (lv_at hl 3 rfl) ?_
                  refine n_icmp_ge (tgt := 53) hx hb dX5_circle_47 (by decide) (by omega) (by omega) (fun c_6 => ?_) (fun c_6 => ?_)
                  · have hms := m_hit_s (g := ar 1) (n := x4) (k := x2) (by omega)
                    rw [← ilb_1] at hms
                    have hcb : CB (ar 1) y1 := ilb_2
                    have hhh : ∀ k n, 0 ≤ k → (k < x2 ∨ (k = x2 ∧ n < x4 + 1)) → 1 ≤ n → n ≤ 8 → m_hit (ar 1) n k = true → y1 ≠ 0 ∧ y1 ≤ n := by
                      intro k n q1 q2 q3 q4 q5
                      by_cases hq : k = x2 ∧ n = x4
                      · obtain ⟨rfl, rfl⟩ := hq
                        omega
                      · have := ilb_3 k n q1 (by omega) q3 q4 q5; omega
                    refine lv_iinc (v := iI (x4 + 1)) (lv' := [(4, iv (x4 + 1)), (3, iv (bsI (m_nextOf (ar 1) f3 false))), (2, iv x2), (1, iv y1), (0, .ref (o 0))]) hx hb dX5_circle_53 hl (k := 1) rfl (iI_add _ _) (by decide) rfl (fun ls hl => ?_)
                    refine lv_goto (tgt := 17) hx hb dX5_circle_56 (by decide) ?_
                    exact ihlb y1 (m_nextOf (ar 1) f3 false) (x4 + 1) (by first | omega | rfl) (by rw [ilb_1, show x4 + 1 - 1 = x4 by omega]; exact (wkN_s (by omega)).symm) (by exact hcb) (by exact hhh) (by omega) ls (lv_sub hl [0, 1, 2, 3, 4] rfl)
                  · refine lv_iload hx hb dX5_circle_50 (lv_at hl 1 rfl) ?_
                    refine lv_istore_n (lv' := [(1, iv x4), (3, iv (bsI (m_nextOf (ar 1) f3 false))), (4, iv x4), (2, iv x2), (0, .ref (o 0))]) hx hb dX5_circle_52 rfl hl (by decide) rfl (fun ls hl => ?_)
                    have hms := m_hit_s (g := ar 1) (n := x4) (k := x2) (by omega)
                    rw [← ilb_1] at hms
                    have hcb : CB (ar 1) x4 := Or.inr ⟨by omega, by omega, x2, by omega, by omega, by rw [hms]; exact c_4⟩
                    have hhh : ∀ k n, 0 ≤ k → (k < x2 ∨ (k = x2 ∧ n < x4 + 1)) → 1 ≤ n → n ≤ 8 → m_hit (ar 1) n k = true → x4 ≠ 0 ∧ x4 ≤ n := by
                      intro k n q1 q2 q3 q4 q5
                      by_cases hq : k = x2 ∧ n = x4
                      · obtain ⟨rfl, rfl⟩ := hq
                        omega
                      · have := ilb_3 k n q1 (by omega) q3 q4 q5; omega
                    refine lv_iinc (v := iI (x4 + 1)) (lv' := [(4, iv (x4 + 1)), (1, iv x4), (3, iv (bsI (m_nextOf (ar 1) f3 false))), (2, iv x2), (0, .ref (o 0))]) hx hb dX5_circle_53 hl (k := 2) rfl (iI_add _ _) (by decide) rfl (fun ls hl => ?_)
                    refine lv_goto (tgt := 17) hx hb dX5_circle_56 (by decide) ?_
                    exact ihlb x4 (m_nextOf (ar 1) f3 false) (x4 + 1) (by first | omega | rfl) (by rw [ilb_1, show x4 + 1 - 1 = x4 by omega]; exact (wkN_s (by omega)).symm) (by exact hcb) (by exact hhh) (by omega) ls (lv_sub hl [0, 2, 3, 1, 4] rfl)
        exact lb 10 x1 (fun v => decide (v = x2)) 1 (by first | omega | rfl | trivial) (by rfl) (by exact ila_1) (by intro k n q1 q2 q3 q4 q5; exact ila_2 k n q1 (by omega) q3 q4 q5) (by omega) ls hl
  exact la 9 0 0 (by first | omega | rfl | trivial) (by exact Or.inl rfl) (by intro k n _ h; omega) (by omega) ls hl
