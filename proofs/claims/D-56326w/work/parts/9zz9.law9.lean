set_option maxHeartbeats 4000000 in
set_option maxRecDepth 100000 in
theorem law_loop (p : Program) (l : Launch) (e : Env) (s : State) (m : MethodId) (b : Nat) (below : List Frame) (meth : Method) (c : Code) (E : EE) (A : Nat → Prop) (cw hda hdb spa sdb bf ln lv pr al la ld : Nat) (o oa os mo : Nat → Nat) (L : Nat) (xs : Nat → Int32) (hC : LCX p l s m b meth c E A L xs) (hAi : ∀ q, A q → s.heap.size ≤ q) : ∀ (n : Nat) (i : Int) (cl sl : Nat) (hi : 0 ≤ i ∧ i ≤ 200 ∧ (L : Int) ≤ i + 4 * (n : Int) + 3) (hcl : cl + 1000 * n ≤ 1200144) (hsl : sl + 6000 * n ≤ 5495482) (sc : Nat → Int) (ar : Nat → Int → Int) (sa : Nat → Int) (aa : Nat → Int → Int) (sb : Nat → Int) (ab : Nat → Int → Int) (xh1 : Int) (xt1 : Int) (xf1 : Int → Option Nat) (xh2 : Int) (xt2 : Int) (xf2 : Int → Option Nat) (bv : Nat) (bn : Nat) (bm : Int) (lm : Int) (ps : Int) (lt : Option Nat) (ms : Nat → Int) (ma : Nat → Int → Int) (lf : Nat → Int64) (df : Nat → UInt64) (LX : va_W) (RF : va_W) (po : Nat → PST) (H : Heap) (locs : List Loc) (hI : LINV n E al (ms 4) (ms 5) (ms 6) (ms 9) (ms 10) (ms 11) (ms 13) (ms 14) (ms 16) ma sc ar sb ab xh1 xt1 xf1 xh2 xt2 xf2 bn lt RF LX po) (hP : va_P E.1 CL (WLAW E cw hda hdb spa sdb bf ln lv pr al la ld o oa os mo sc ar sa aa sb ab xh1 xt1 xf1 xh2 xt2 xf2 bv bn bm lm ps lt ms ma lf df LX RF po) H) (hD : va_D A (WLAW E cw hda hdb spa sdb bf ln lv pr al la ld o oa os mo sc ar sa aa sb ab xh1 xt1 xf1 xh2 xt2 xf2 bv bn bm lm ps lt ms ma lf df LX RF po)) (hS : va_S A s.heap H locs) (ls : Array Slot) (hl : lv_has ls 9 [(5, iv i), (4, .ref ld), (3, .ref la), (2, .ref (mo 0)), (1, .ref cw), (0, .ref b)]), W p l e room_1 s m #[Value.ref b] below meth c H locs cl sl (lw_Z below #[Value.ref b] s) (F0 m 28 ls []) := by
  obtain ⟨hx, hb, hml, hown, hts, hr, hlocks, hK, hE, hA, hX, hbl, hbA, hL, hst⟩ := id hC
  intro n
  induction n with
  | zero =>
    intro i cl sl hi hcl hsl sc ar sa aa sb ab xh1 xt1 xf1 xh2 xt2 xf2 bv bn bm lm ps lt ms ma lf df LX RF po H locs hI hP hD hS ls hl
    obtain ⟨a0, ha0⟩ : ∃ z, z = sx xs i := ⟨_, rfl⟩
    have hr0 : -2147483648 ≤ a0 ∧ a0 < 2147483648 := by rw [ha0]; exact sx_r xs _
    refine lv_iload hx hb dL_law_28 (lv_at hl 0 rfl) ?_
    refine lv_aload_n hx hb dL_law_30 rfl (lv_at hl 5 rfl) ?_
    refine n_slen hx hb hX hbl hbA hS dL_law_31 ?_
    refine lv_iconst (v := iI 4) hx hb dL_law_32 rfl ?_
    refine n_isub hx hb dL_law_33 ?_
    refine n_icmp_gt (tgt := 2839) hx hb dL_law_34 (by decide) (by omega) (by omega) (fun c_1 => ?_) (fun c_1 => ?_)
    · refine lv_iconst (v := iI 1) hx hb dL_law_2839 rfl ?_
      refine va_forget (fun q hq => hAi _ (hS.2.2 q hq)) ?_
      refine W.widen (k := 1200144) (n := 5495482) (by omega) (by omega) ?_
      exact lw_ret hx hb hr hlocks dL_law_2840
    · exfalso; omega
  | succ n ih =>
    intro i cl sl hi hcl hsl sc ar sa aa sb ab xh1 xt1 xf1 xh2 xt2 xf2 bv bn bm lm ps lt ms ma lf df LX RF po H locs hI hP hD hS ls hl
    obtain ⟨a0, ha0⟩ : ∃ z, z = sx xs i := ⟨_, rfl⟩
    have hr0 : -2147483648 ≤ a0 ∧ a0 < 2147483648 := by rw [ha0]; exact sx_r xs _
    have kk : KKL p l e s m b below meth c E A cw hda hdb spa sdb bf ln lv pr al la ld o oa os mo n i (cl + 1000) (sl + 6000) := by
      intro sc ar sa aa sb ab xh1 xt1 xf1 xh2 xt2 xf2 bv bn bm lm ps lt ms ma lf df LX RF po H locs hI hP hD hS ls hl
      refine lv_iinc (v := iI (i + 4)) (lv' := [(5, iv (i + 4)), (4, .ref ld), (3, .ref la), (2, .ref (mo 0)), (1, .ref cw), (0, .ref b)]) hx hb dL_law_2833 hl (k := 0) rfl (iI_add _ _) (by decide) rfl (fun ls hl => ?_)
      refine lv_goto (tgt := 28) hx hb dL_law_2836 (by decide) ?_
      exact ih (i + 4) (cl + 1000) (sl + 6000) (by omega) (by omega) (by omega) sc ar sa aa sb ab xh1 xt1 xf1 xh2 xt2 xf2 bv bn bm lm ps lt ms ma lf df LX RF po H locs hI hP hD hS ls hl
    refine lv_iload hx hb dL_law_28 (lv_at hl 0 rfl) ?_
    refine lv_aload_n hx hb dL_law_30 rfl (lv_at hl 5 rfl) ?_
    refine n_slen hx hb hX hbl hbA hS dL_law_31 ?_
    refine lv_iconst (v := iI 4) hx hb dL_law_32 rfl ?_
    refine n_isub hx hb dL_law_33 ?_
    refine n_icmp_gt (tgt := 2839) hx hb dL_law_34 (by decide) (by omega) (by omega) (fun c_1 => ?_) (fun c_1 => ?_)
    · refine lv_iconst (v := iI 1) hx hb dL_law_2839 rfl ?_
      refine va_forget (fun q hq => hAi _ (hS.2.2 q hq)) ?_
      refine W.widen (k := 1200144) (n := 5495482) (by omega) (by omega) ?_
      exact lw_ret hx hb hr hlocks dL_law_2840
    · refine lv_aload_n hx hb dL_law_37 rfl (lv_at hl 5 rfl) ?_
      refine lv_iload hx hb dL_law_38 (lv_at hl 0 rfl) ?_
      refine n_sld hx hb hX hbl hbA hS (by omega) (by omega) dL_law_40 ?_
      refine n_top (y := a0) (by exact ha0.symm) ?_
      refine lv_bipush (v := iI 63) hx hb dL_law_41 (by decide) ?_
      refine n_iand63 hx hb dL_law_43 ?_
      by_cases c_2 : a0 % 64 = 0
      · refine n_tabIn (off := 220) (tgt := 264) hx hb dL_law_44 c_2 (by decide) (by decide) (by decide) (by decide) ?_
        exact lc_0 p l e s m b below meth c E A cw hda hdb spa sdb bf ln lv pr al la ld o oa os mo L xs hC n i (by omega) cl sl (by omega) (by omega) sc ar sa aa sb ab xh1 xt1 xf1 xh2 xt2 xf2 bv bn bm lm ps lt ms ma lf df LX RF po H locs hI hP hD hS ls hl kk
      by_cases c_3 : a0 % 64 = 1
      · refine n_tabIn (off := 304) (tgt := 348) hx hb dL_law_44 c_3 (by decide) (by decide) (by decide) (by decide) ?_
        exact lc_1 p l e s m b below meth c E A cw hda hdb spa sdb bf ln lv pr al la ld o oa os mo L xs hC n i (by omega) cl sl (by omega) (by omega) sc ar sa aa sb ab xh1 xt1 xf1 xh2 xt2 xf2 bv bn bm lm ps lt ms ma lf df LX RF po H locs hI hP hD hS ls hl kk
      by_cases c_4 : a0 % 64 = 2
      · refine n_tabIn (off := 362) (tgt := 406) hx hb dL_law_44 c_4 (by decide) (by decide) (by decide) (by decide) ?_
        exact lc_2 p l e s m b below meth c E A cw hda hdb spa sdb bf ln lv pr al la ld o oa os mo L xs hC n i (by omega) cl sl (by omega) (by omega) sc ar sa aa sb ab xh1 xt1 xf1 xh2 xt2 xf2 bv bn bm lm ps lt ms ma lf df LX RF po H locs hI hP hD hS ls hl kk
      by_cases c_5 : a0 % 64 = 3
      · refine n_tabIn (off := 462) (tgt := 506) hx hb dL_law_44 c_5 (by decide) (by decide) (by decide) (by decide) ?_
        exact lc_3 p l e s m b below meth c E A cw hda hdb spa sdb bf ln lv pr al la ld o oa os mo L xs hC n i (by omega) cl sl (by omega) (by omega) sc ar sa aa sb ab xh1 xt1 xf1 xh2 xt2 xf2 bv bn bm lm ps lt ms ma lf df LX RF po H locs hI hP hD hS ls hl kk
      by_cases c_6 : a0 % 64 = 4
      · refine n_tabIn (off := 534) (tgt := 578) hx hb dL_law_44 c_6 (by decide) (by decide) (by decide) (by decide) ?_
        exact lc_4 p l e s m b below meth c E A cw hda hdb spa sdb bf ln lv pr al la ld o oa os mo L xs hC n i (by omega) cl sl (by omega) (by omega) sc ar sa aa sb ab xh1 xt1 xf1 xh2 xt2 xf2 bv bn bm lm ps lt ms ma lf df LX RF po H locs hI hP hD hS ls hl kk
      by_cases c_7 : a0 % 64 = 5
      · refine n_tabIn (off := 547) (tgt := 591) hx hb dL_law_44 c_7 (by decide) (by decide) (by decide) (by decide) ?_
        exact lc_5 p l e s m b below meth c E A cw hda hdb spa sdb bf ln lv pr al la ld o oa os mo L xs hC n i (by omega) cl sl (by omega) (by omega) sc ar sa aa sb ab xh1 xt1 xf1 xh2 xt2 xf2 bv bn bm lm ps lt ms ma lf df LX RF po H locs hI hP hD hS ls hl kk
      by_cases c_8 : a0 % 64 = 6
      · refine n_tabIn (off := 612) (tgt := 656) hx hb dL_law_44 c_8 (by decide) (by decide) (by decide) (by decide) ?_
        exact lc_6 p l e s m b below meth c E A cw hda hdb spa sdb bf ln lv pr al la ld o oa os mo L xs hC n i (by omega) cl sl (by omega) (by omega) sc ar sa aa sb ab xh1 xt1 xf1 xh2 xt2 xf2 bv bn bm lm ps lt ms ma lf df LX RF po H locs hI hP hD hS ls hl kk
      by_cases c_9 : a0 % 64 = 7
      · refine n_tabIn (off := 670) (tgt := 714) hx hb dL_law_44 c_9 (by decide) (by decide) (by decide) (by decide) ?_
        exact lc_7 p l e s m b below meth c E A cw hda hdb spa sdb bf ln lv pr al la ld o oa os mo L xs hC n i (by omega) cl sl (by omega) (by omega) sc ar sa aa sb ab xh1 xt1 xf1 xh2 xt2 xf2 bv bn bm lm ps lt ms ma lf df LX RF po H locs hI hP hD hS ls hl kk
      by_cases c_10 : a0 % 64 = 8
      · refine n_tabIn (off := 728) (tgt := 772) hx hb dL_law_44 c_10 (by decide) (by decide) (by decide) (by decide) ?_
        exact lc_8 p l e s m b below meth c E A cw hda hdb spa sdb bf ln lv pr al la ld o oa os mo L xs hC n i (by omega) cl sl (by omega) (by omega) sc ar sa aa sb ab xh1 xt1 xf1 xh2 xt2 xf2 bv bn bm lm ps lt ms ma lf df LX RF po H locs hI hP hD hS ls hl kk
      by_cases c_11 : a0 % 64 = 9
      · refine n_tabIn (off := 798) (tgt := 842) hx hb dL_law_44 c_11 (by decide) (by decide) (by decide) (by decide) ?_
        exact lc_9 p l e s m b below meth c E A cw hda hdb spa sdb bf ln lv pr al la ld o oa os mo L xs hC n i (by omega) cl sl (by omega) (by omega) sc ar sa aa sb ab xh1 xt1 xf1 xh2 xt2 xf2 bv bn bm lm ps lt ms ma lf df LX RF po H locs hI hP hD hS ls hl kk
      by_cases c_12 : a0 % 64 = 10
      · refine n_tabIn (off := 875) (tgt := 919) hx hb dL_law_44 c_12 (by decide) (by decide) (by decide) (by decide) ?_
        exact lc_10 p l e s m b below meth c E A cw hda hdb spa sdb bf ln lv pr al la ld o oa os mo L xs hC n i (by omega) cl sl (by omega) (by omega) sc ar sa aa sb ab xh1 xt1 xf1 xh2 xt2 xf2 bv bn bm lm ps lt ms ma lf df LX RF po H locs hI hP hD hS ls hl kk
      by_cases c_13 : a0 % 64 = 11
      · refine n_tabIn (off := 947) (tgt := 991) hx hb dL_law_44 c_13 (by decide) (by decide) (by decide) (by decide) ?_
        exact lc_11 p l e s m b below meth c E A cw hda hdb spa sdb bf ln lv pr al la ld o oa os mo L xs hC n i (by omega) cl sl (by omega) (by omega) sc ar sa aa sb ab xh1 xt1 xf1 xh2 xt2 xf2 bv bn bm lm ps lt ms ma lf df LX RF po H locs hI hP hD hS ls hl kk
      by_cases c_14 : a0 % 64 = 12
      · refine n_tabIn (off := 1005) (tgt := 1049) hx hb dL_law_44 c_14 (by decide) (by decide) (by decide) (by decide) ?_
        exact lc_12 p l e s m b below meth c E A cw hda hdb spa sdb bf ln lv pr al la ld o oa os mo L xs hC n i (by omega) cl sl (by omega) (by omega) sc ar sa aa sb ab xh1 xt1 xf1 xh2 xt2 xf2 bv bn bm lm ps lt ms ma lf df LX RF po H locs hI hP hD hS ls hl kk
      by_cases c_15 : a0 % 64 = 13
      · refine n_tabIn (off := 1063) (tgt := 1107) hx hb dL_law_44 c_15 (by decide) (by decide) (by decide) (by decide) ?_
        exact lc_13 p l e s m b below meth c E A cw hda hdb spa sdb bf ln lv pr al la ld o oa os mo L xs hC n i (by omega) cl sl (by omega) (by omega) sc ar sa aa sb ab xh1 xt1 xf1 xh2 xt2 xf2 bv bn bm lm ps lt ms ma lf df LX RF po H locs hI hP hD hS ls hl kk
      by_cases c_16 : a0 % 64 = 14
      · refine n_tabIn (off := 1121) (tgt := 1165) hx hb dL_law_44 c_16 (by decide) (by decide) (by decide) (by decide) ?_
        exact lc_14 p l e s m b below meth c E A cw hda hdb spa sdb bf ln lv pr al la ld o oa os mo L xs hC n i (by omega) cl sl (by omega) (by omega) sc ar sa aa sb ab xh1 xt1 xf1 xh2 xt2 xf2 bv bn bm lm ps lt ms ma lf df LX RF po H locs hI hP hD hS ls hl kk
      by_cases c_17 : a0 % 64 = 15
      · refine n_tabIn (off := 1179) (tgt := 1223) hx hb dL_law_44 c_17 (by decide) (by decide) (by decide) (by decide) ?_
        exact lc_15 p l e s m b below meth c E A cw hda hdb spa sdb bf ln lv pr al la ld o oa os mo L xs hC n i (by omega) cl sl (by omega) (by omega) sc ar sa aa sb ab xh1 xt1 xf1 xh2 xt2 xf2 bv bn bm lm ps lt ms ma lf df LX RF po H locs hI hP hD hS ls hl kk
      by_cases c_18 : a0 % 64 = 16
      · refine n_tabIn (off := 1192) (tgt := 1236) hx hb dL_law_44 c_18 (by decide) (by decide) (by decide) (by decide) ?_
        exact lc_16 p l e s m b below meth c E A cw hda hdb spa sdb bf ln lv pr al la ld o oa os mo L xs hC n i (by omega) cl sl (by omega) (by omega) sc ar sa aa sb ab xh1 xt1 xf1 xh2 xt2 xf2 bv bn bm lm ps lt ms ma lf df LX RF po H locs hI hP hD hS ls hl kk
      by_cases c_19 : a0 % 64 = 17
      · refine n_tabIn (off := 1205) (tgt := 1249) hx hb dL_law_44 c_19 (by decide) (by decide) (by decide) (by decide) ?_
        exact lc_17 p l e s m b below meth c E A cw hda hdb spa sdb bf ln lv pr al la ld o oa os mo L xs hC n i (by omega) cl sl (by omega) (by omega) sc ar sa aa sb ab xh1 xt1 xf1 xh2 xt2 xf2 bv bn bm lm ps lt ms ma lf df LX RF po H locs hI hP hD hS ls hl kk
      by_cases c_20 : a0 % 64 = 18
      · refine n_tabIn (off := 1263) (tgt := 1307) hx hb dL_law_44 c_20 (by decide) (by decide) (by decide) (by decide) ?_
        exact lc_18 p l e s m b below meth c E A cw hda hdb spa sdb bf ln lv pr al la ld o oa os mo L xs hC n i (by omega) cl sl (by omega) (by omega) sc ar sa aa sb ab xh1 xt1 xf1 xh2 xt2 xf2 bv bn bm lm ps lt ms ma lf df LX RF po H locs hI hP hD hS ls hl kk
      by_cases c_21 : a0 % 64 = 19
      · refine n_tabIn (off := 1321) (tgt := 1365) hx hb dL_law_44 c_21 (by decide) (by decide) (by decide) (by decide) ?_
        exact lc_19 p l e s m b below meth c E A cw hda hdb spa sdb bf ln lv pr al la ld o oa os mo L xs hC n i (by omega) cl sl (by omega) (by omega) sc ar sa aa sb ab xh1 xt1 xf1 xh2 xt2 xf2 bv bn bm lm ps lt ms ma lf df LX RF po H locs hI hP hD hS ls hl kk
      by_cases c_22 : a0 % 64 = 20
      · refine n_tabIn (off := 1334) (tgt := 1378) hx hb dL_law_44 c_22 (by decide) (by decide) (by decide) (by decide) ?_
        exact lc_20 p l e s m b below meth c E A cw hda hdb spa sdb bf ln lv pr al la ld o oa os mo L xs hC n i (by omega) cl sl (by omega) (by omega) sc ar sa aa sb ab xh1 xt1 xf1 xh2 xt2 xf2 bv bn bm lm ps lt ms ma lf df LX RF po H locs hI hP hD hS ls hl kk
      by_cases c_23 : a0 % 64 = 21
      · refine n_tabIn (off := 1378) (tgt := 1422) hx hb dL_law_44 c_23 (by decide) (by decide) (by decide) (by decide) ?_
        exact lc_21 p l e s m b below meth c E A cw hda hdb spa sdb bf ln lv pr al la ld o oa os mo L xs hC n i (by omega) cl sl (by omega) (by omega) sc ar sa aa sb ab xh1 xt1 xf1 xh2 xt2 xf2 bv bn bm lm ps lt ms ma lf df LX RF po H locs hI hP hD hS ls hl kk
      by_cases c_24 : a0 % 64 = 22
      · refine n_tabIn (off := 1434) (tgt := 1478) hx hb dL_law_44 c_24 (by decide) (by decide) (by decide) (by decide) ?_
        exact lc_22 p l e s m b below meth c E A cw hda hdb spa sdb bf ln lv pr al la ld o oa os mo L xs hC n i (by omega) cl sl (by omega) (by omega) sc ar sa aa sb ab xh1 xt1 xf1 xh2 xt2 xf2 bv bn bm lm ps lt ms ma lf df LX RF po H locs hI hP hD hS ls hl kk
      by_cases c_25 : a0 % 64 = 23
      · refine n_tabIn (off := 1497) (tgt := 1541) hx hb dL_law_44 c_25 (by decide) (by decide) (by decide) (by decide) ?_
        exact lc_23 p l e s m b below meth c E A cw hda hdb spa sdb bf ln lv pr al la ld o oa os mo L xs hC n i (by omega) cl sl (by omega) (by omega) sc ar sa aa sb ab xh1 xt1 xf1 xh2 xt2 xf2 bv bn bm lm ps lt ms ma lf df LX RF po H locs hI hP hD hS ls hl kk
      by_cases c_26 : a0 % 64 = 24
      · refine n_tabIn (off := 1567) (tgt := 1611) hx hb dL_law_44 c_26 (by decide) (by decide) (by decide) (by decide) ?_
        exact lc_24 p l e s m b below meth c E A cw hda hdb spa sdb bf ln lv pr al la ld o oa os mo L xs hC n i (by omega) cl sl (by omega) (by omega) sc ar sa aa sb ab xh1 xt1 xf1 xh2 xt2 xf2 bv bn bm lm ps lt ms ma lf df LX RF po H locs hI hP hD hS ls hl kk
      by_cases c_27 : a0 % 64 = 25
      · refine n_tabIn (off := 1647) (tgt := 1691) hx hb dL_law_44 c_27 (by decide) (by decide) (by decide) (by decide) ?_
        exact lc_25 p l e s m b below meth c E A cw hda hdb spa sdb bf ln lv pr al la ld o oa os mo L xs hC n i (by omega) cl sl (by omega) (by omega) sc ar sa aa sb ab xh1 xt1 xf1 xh2 xt2 xf2 bv bn bm lm ps lt ms ma lf df LX RF po H locs hI hP hD hS ls hl kk
      by_cases c_28 : a0 % 64 = 26
      · refine n_tabIn (off := 1717) (tgt := 1761) hx hb dL_law_44 c_28 (by decide) (by decide) (by decide) (by decide) ?_
        exact lc_26 p l e s m b below meth c E A cw hda hdb spa sdb bf ln lv pr al la ld o oa os mo L xs hC n i (by omega) cl sl (by omega) (by omega) sc ar sa aa sb ab xh1 xt1 xf1 xh2 xt2 xf2 bv bn bm lm ps lt ms ma lf df LX RF po H locs hI hP hD hS ls hl kk
      by_cases c_29 : a0 % 64 = 27
      · refine n_tabIn (off := 1787) (tgt := 1831) hx hb dL_law_44 c_29 (by decide) (by decide) (by decide) (by decide) ?_
        exact lc_27 p l e s m b below meth c E A cw hda hdb spa sdb bf ln lv pr al la ld o oa os mo L xs hC n i (by omega) cl sl (by omega) (by omega) sc ar sa aa sb ab xh1 xt1 xf1 xh2 xt2 xf2 bv bn bm lm ps lt ms ma lf df LX RF po H locs hI hP hD hS ls hl kk
      by_cases c_30 : a0 % 64 = 28
      · refine n_tabIn (off := 1800) (tgt := 1844) hx hb dL_law_44 c_30 (by decide) (by decide) (by decide) (by decide) ?_
        exact lc_28 p l e s m b below meth c E A cw hda hdb spa sdb bf ln lv pr al la ld o oa os mo L xs hC n i (by omega) cl sl (by omega) (by omega) sc ar sa aa sb ab xh1 xt1 xf1 xh2 xt2 xf2 bv bn bm lm ps lt ms ma lf df LX RF po H locs hI hP hD hS ls hl kk
      by_cases c_31 : a0 % 64 = 29
      · refine n_tabIn (off := 1863) (tgt := 1907) hx hb dL_law_44 c_31 (by decide) (by decide) (by decide) (by decide) ?_
        exact lc_29 p l e s m b below meth c E A cw hda hdb spa sdb bf ln lv pr al la ld o oa os mo L xs hC n i (by omega) cl sl (by omega) (by omega) sc ar sa aa sb ab xh1 xt1 xf1 xh2 xt2 xf2 bv bn bm lm ps lt ms ma lf df LX RF po H locs hI hP hD hS ls hl kk
      by_cases c_32 : a0 % 64 = 30
      · refine n_tabIn (off := 1919) (tgt := 1963) hx hb dL_law_44 c_32 (by decide) (by decide) (by decide) (by decide) ?_
        exact lc_30 p l e s m b below meth c E A cw hda hdb spa sdb bf ln lv pr al la ld o oa os mo L xs hC n i (by omega) cl sl (by omega) (by omega) sc ar sa aa sb ab xh1 xt1 xf1 xh2 xt2 xf2 bv bn bm lm ps lt ms ma lf df LX RF po H locs hI hP hD hS ls hl kk
      by_cases c_33 : a0 % 64 = 31
      · refine n_tabIn (off := 1975) (tgt := 2019) hx hb dL_law_44 c_33 (by decide) (by decide) (by decide) (by decide) ?_
        exact lc_31 p l e s m b below meth c E A cw hda hdb spa sdb bf ln lv pr al la ld o oa os mo L xs hC n i (by omega) cl sl (by omega) (by omega) sc ar sa aa sb ab xh1 xt1 xf1 xh2 xt2 xf2 bv bn bm lm ps lt ms ma lf df LX RF po H locs hI hP hD hS ls hl kk
      by_cases c_34 : a0 % 64 = 32
      · refine n_tabIn (off := 2043) (tgt := 2087) hx hb dL_law_44 c_34 (by decide) (by decide) (by decide) (by decide) ?_
        exact lc_32 p l e s m b below meth c E A cw hda hdb spa sdb bf ln lv pr al la ld o oa os mo L xs hC n i (by omega) cl sl (by omega) (by omega) sc ar sa aa sb ab xh1 xt1 xf1 xh2 xt2 xf2 bv bn bm lm ps lt ms ma lf df LX RF po H locs hI hP hD hS ls hl kk
      by_cases c_35 : a0 % 64 = 33
      · refine n_tabIn (off := 2056) (tgt := 2100) hx hb dL_law_44 c_35 (by decide) (by decide) (by decide) (by decide) ?_
        exact lc_33 p l e s m b below meth c E A cw hda hdb spa sdb bf ln lv pr al la ld o oa os mo L xs hC n i (by omega) cl sl (by omega) (by omega) sc ar sa aa sb ab xh1 xt1 xf1 xh2 xt2 xf2 bv bn bm lm ps lt ms ma lf df LX RF po H locs hI hP hD hS ls hl kk
      by_cases c_36 : a0 % 64 = 34
      · refine n_tabIn (off := 2069) (tgt := 2113) hx hb dL_law_44 c_36 (by decide) (by decide) (by decide) (by decide) ?_
        exact lc_34 p l e s m b below meth c E A cw hda hdb spa sdb bf ln lv pr al la ld o oa os mo L xs hC n i (by omega) cl sl (by omega) (by omega) sc ar sa aa sb ab xh1 xt1 xf1 xh2 xt2 xf2 bv bn bm lm ps lt ms ma lf df LX RF po H locs hI hP hD hS ls hl kk
      by_cases c_37 : a0 % 64 = 35
      · refine n_tabIn (off := 2082) (tgt := 2126) hx hb dL_law_44 c_37 (by decide) (by decide) (by decide) (by decide) ?_
        exact lc_35 p l e s m b below meth c E A cw hda hdb spa sdb bf ln lv pr al la ld o oa os mo L xs hC n i (by omega) cl sl (by omega) (by omega) sc ar sa aa sb ab xh1 xt1 xf1 xh2 xt2 xf2 bv bn bm lm ps lt ms ma lf df LX RF po H locs hI hP hD hS ls hl kk
      by_cases c_38 : a0 % 64 = 36
      · refine n_tabIn (off := 2096) (tgt := 2140) hx hb dL_law_44 c_38 (by decide) (by decide) (by decide) (by decide) ?_
        exact lc_36 p l e s m b below meth c E A cw hda hdb spa sdb bf ln lv pr al la ld o oa os mo L xs hC n i (by omega) cl sl (by omega) (by omega) sc ar sa aa sb ab xh1 xt1 xf1 xh2 xt2 xf2 bv bn bm lm ps lt ms ma lf df LX RF po H locs hI hP hD hS ls hl kk
      by_cases c_39 : a0 % 64 = 37
      · refine n_tabIn (off := 2161) (tgt := 2205) hx hb dL_law_44 c_39 (by decide) (by decide) (by decide) (by decide) ?_
        exact lc_37 p l e s m b below meth c E A cw hda hdb spa sdb bf ln lv pr al la ld o oa os mo L xs hC n i (by omega) cl sl (by omega) (by omega) sc ar sa aa sb ab xh1 xt1 xf1 xh2 xt2 xf2 bv bn bm lm ps lt ms ma lf df LX RF po H locs hI hP hD hS ls hl kk
      by_cases c_40 : a0 % 64 = 38
      · refine n_tabIn (off := 2227) (tgt := 2271) hx hb dL_law_44 c_40 (by decide) (by decide) (by decide) (by decide) ?_
        exact lc_38 p l e s m b below meth c E A cw hda hdb spa sdb bf ln lv pr al la ld o oa os mo L xs hC n i (by omega) cl sl (by omega) (by omega) sc ar sa aa sb ab xh1 xt1 xf1 xh2 xt2 xf2 bv bn bm lm ps lt ms ma lf df LX RF po H locs hI hP hD hS ls hl kk
      by_cases c_41 : a0 % 64 = 39
      · refine n_tabIn (off := 2271) (tgt := 2315) hx hb dL_law_44 c_41 (by decide) (by decide) (by decide) (by decide) ?_
        exact lc_39 p l e s m b below meth c E A cw hda hdb spa sdb bf ln lv pr al la ld o oa os mo L xs hC n i (by omega) cl sl (by omega) (by omega) sc ar sa aa sb ab xh1 xt1 xf1 xh2 xt2 xf2 bv bn bm lm ps lt ms ma lf df LX RF po H locs hI hP hD hS ls hl kk
      by_cases c_42 : a0 % 64 = 40
      · refine n_tabIn (off := 2315) (tgt := 2359) hx hb dL_law_44 c_42 (by decide) (by decide) (by decide) (by decide) ?_
        exact lc_40 p l e s m b below meth c E A cw hda hdb spa sdb bf ln lv pr al la ld o oa os mo L xs hC n i (by omega) cl sl (by omega) (by omega) sc ar sa aa sb ab xh1 xt1 xf1 xh2 xt2 xf2 bv bn bm lm ps lt ms ma lf df LX RF po H locs hI hP hD hS ls hl kk
      by_cases c_43 : a0 % 64 = 41
      · refine n_tabIn (off := 2359) (tgt := 2403) hx hb dL_law_44 c_43 (by decide) (by decide) (by decide) (by decide) ?_
        exact lc_41 p l e s m b below meth c E A cw hda hdb spa sdb bf ln lv pr al la ld o oa os mo L xs hC n i (by omega) cl sl (by omega) (by omega) sc ar sa aa sb ab xh1 xt1 xf1 xh2 xt2 xf2 bv bn bm lm ps lt ms ma lf df LX RF po H locs hI hP hD hS ls hl kk
      by_cases c_44 : a0 % 64 = 42
      · refine n_tabIn (off := 2417) (tgt := 2461) hx hb dL_law_44 c_44 (by decide) (by decide) (by decide) (by decide) ?_
        exact lc_42 p l e s m b below meth c E A cw hda hdb spa sdb bf ln lv pr al la ld o oa os mo L xs hC n i (by omega) cl sl (by omega) (by omega) sc ar sa aa sb ab xh1 xt1 xf1 xh2 xt2 xf2 bv bn bm lm ps lt ms ma lf df LX RF po H locs hI hP hD hS ls hl kk
      by_cases c_45 : a0 % 64 = 43
      · refine n_tabIn (off := 2473) (tgt := 2517) hx hb dL_law_44 c_45 (by decide) (by decide) (by decide) (by decide) ?_
        exact lc_43 p l e s m b below meth c E A cw hda hdb spa sdb bf ln lv pr al la ld o oa os mo L xs hC n i (by omega) cl sl (by omega) (by omega) sc ar sa aa sb ab xh1 xt1 xf1 xh2 xt2 xf2 bv bn bm lm ps lt ms ma lf df LX RF po H locs hI hP hD hS ls hl kk
      by_cases c_46 : a0 % 64 = 44
      · refine n_tabIn (off := 2529) (tgt := 2573) hx hb dL_law_44 c_46 (by decide) (by decide) (by decide) (by decide) ?_
        exact lc_44 p l e s m b below meth c E A cw hda hdb spa sdb bf ln lv pr al la ld o oa os mo L xs hC n i (by omega) cl sl (by omega) (by omega) sc ar sa aa sb ab xh1 xt1 xf1 xh2 xt2 xf2 bv bn bm lm ps lt ms ma lf df LX RF po H locs hI hP hD hS ls hl kk
      by_cases c_47 : a0 % 64 = 45
      · refine n_tabIn (off := 2542) (tgt := 2586) hx hb dL_law_44 c_47 (by decide) (by decide) (by decide) (by decide) ?_
        exact lc_45 p l e s m b below meth c E A cw hda hdb spa sdb bf ln lv pr al la ld o oa os mo L xs hC n i (by omega) cl sl (by omega) (by omega) sc ar sa aa sb ab xh1 xt1 xf1 xh2 xt2 xf2 bv bn bm lm ps lt ms ma lf df LX RF po H locs hI hP hD hS ls hl kk
      by_cases c_48 : a0 % 64 = 46
      · refine n_tabIn (off := 2600) (tgt := 2644) hx hb dL_law_44 c_48 (by decide) (by decide) (by decide) (by decide) ?_
        exact lc_46 p l e s m b below meth c E A cw hda hdb spa sdb bf ln lv pr al la ld o oa os mo L xs hC n i (by omega) cl sl (by omega) (by omega) sc ar sa aa sb ab xh1 xt1 xf1 xh2 xt2 xf2 bv bn bm lm ps lt ms ma lf df LX RF po H locs hI hP hD hS ls hl kk
      by_cases c_49 : a0 % 64 = 47
      · refine n_tabIn (off := 2644) (tgt := 2688) hx hb dL_law_44 c_49 (by decide) (by decide) (by decide) (by decide) ?_
        exact lc_47 p l e s m b below meth c E A cw hda hdb spa sdb bf ln lv pr al la ld o oa os mo L xs hC n i (by omega) cl sl (by omega) (by omega) sc ar sa aa sb ab xh1 xt1 xf1 xh2 xt2 xf2 bv bn bm lm ps lt ms ma lf df LX RF po H locs hI hP hD hS ls hl kk
      by_cases c_50 : a0 % 64 = 48
      · refine n_tabIn (off := 2688) (tgt := 2732) hx hb dL_law_44 c_50 (by decide) (by decide) (by decide) (by decide) ?_
        exact lc_48 p l e s m b below meth c E A cw hda hdb spa sdb bf ln lv pr al la ld o oa os mo L xs hC n i (by omega) cl sl (by omega) (by omega) sc ar sa aa sb ab xh1 xt1 xf1 xh2 xt2 xf2 bv bn bm lm ps lt ms ma lf df LX RF po H locs hI hP hD hS ls hl kk
      by_cases c_51 : a0 % 64 = 49
      · refine n_tabIn (off := 2732) (tgt := 2776) hx hb dL_law_44 c_51 (by decide) (by decide) (by decide) (by decide) ?_
        exact lc_49 p l e s m b below meth c E A cw hda hdb spa sdb bf ln lv pr al la ld o oa os mo L xs hC n i (by omega) cl sl (by omega) (by omega) sc ar sa aa sb ab xh1 xt1 xf1 xh2 xt2 xf2 bv bn bm lm ps lt ms ma lf df LX RF po H locs hI hP hD hS ls hl kk
      by_cases c_52 : a0 % 64 = 50
      · refine n_tabIn (off := 2745) (tgt := 2789) hx hb dL_law_44 c_52 (by decide) (by decide) (by decide) (by decide) ?_
        exact lc_50 p l e s m b below meth c E A cw hda hdb spa sdb bf ln lv pr al la ld o oa os mo L xs hC n i (by omega) cl sl (by omega) (by omega) sc ar sa aa sb ab xh1 xt1 xf1 xh2 xt2 xf2 bv bn bm lm ps lt ms ma lf df LX RF po H locs hI hP hD hS ls hl kk
      refine n_tabOut (tgt := 2833) hx hb dL_law_44 (by omega) (by omega) (by decide) ?_
      refine W.widen (k := cl + 1000) (n := sl + 6000) (by omega) (by omega) ?_
      exact kk sc ar sa aa sb ab xh1 xt1 xf1 xh2 xt2 xf2 bv bn bm lm ps lt ms ma lf df LX RF po H locs hI.s hP hD hS ls hl
