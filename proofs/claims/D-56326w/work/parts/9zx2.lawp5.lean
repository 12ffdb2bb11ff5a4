/-! ===== the law: a text was executed ===== -/
section LINVZ
variable {n : Nat} {E : EE} {al : Nat} {hsn chg wth why det cau len flt sgn : Int} {ma : Nat → Int → Int} {sc : Nat → Int} {ar : Nat → Int → Int} {sb : Nat → Int} {ab : Nat → Int → Int} {xh1 xt1 : Int} {xf1 : Int → Option Nat} {xh2 xt2 : Int} {xf2 : Int → Option Nat} {bn : Nat} {lt : Option Nat} {RF LX : va_W} {po : Nat → PST}
theorem LINV.exe {g1 g2 g4 g7 g8 : Int → Int} {chg2 why2 det2 cau2 flt2 : Int} {sc2 : Nat → Int} {ar2 : Nat → Int → Int} {yh1 yt1 : Int} {yf1 : Int → Option Nat} {yh2 yt2 : Int} {yf2 : Int → Option Nat} {lt2 : Option Nat} {RF2 LX2 : va_W} {po2 : Nat → PST}
    (h : LINV (n + 1) E al hsn chg wth why det cau len flt sgn ma sc ar sb ab xh1 xt1 xf1 xh2 xt2 xf2 bn lt RF LX po) (hr : LROW (4400000 * (n : Int)) g1 sc2 ar2) (hd : HDQ (4400000 * (n : Int)) g2 chg2 yh1 yt1 yf1 yh2 yt2 yf2 po2) (h2b : ∀ x, 0 ≤ g2 x ∧ g2 x < 2147483648) (h4b : ∀ x, 0 ≤ g4 x ∧ g4 x < 2147483648) (h7b : ∀ x, 0 ≤ g7 x ∧ g7 x < 2147483648) (h8 : TB g8)
    (hl : LTR lt2 RF2 why2 det2 cau2) (hf : -1 ≤ flt2 ∧ flt2 < 2147483648) (hx : LSTI n E al LX2) : LINV n E al hsn chg2 0 why2 det2 cau2 0 flt2 sgn (ua (ua (ua (ua (ua ma 1 g1) 2 g2) 4 g4) 7 g7) 8 g8) sc2 ar2 sb ab yh1 yt1 yf1 yh2 yt2 yf2 bn lt2 RF2 LX2 po2 := by
  have hs := h.s
  have hB := hs.2.2.2.2.2.2.2.2.1.1
  have hb8 : ∀ x, 0 ≤ g8 x ∧ g8 x < 2147483648 := fun x => ⟨(h8 x).1, Int.lt_trans (h8 x).2 (by decide)⟩
  exact ⟨hr, hs.2.1, hs.2.2.1, hd, BUFI_0 h.2.2.2.2.1, hs.2.2.2.2.2.1, hf, hl, ⟨ua_b 8 (ua_b 7 (ua_b 4 (ua_b 2 (ua_b 1 hB (RIV_b hr.1)) h2b) h4b) h7b) hb8, rfl, h8⟩, hx⟩
/-- all its changes were done -/
theorem LINV.exe_ok {X : Bool × Int × PS} {T : Int × (Int → Int) × Option Res} {g7 : Int → Int} {sc2 : Nat → Int} {ar2 : Nat → Int → Int} {yh1 yt1 : Int} {yf1 : Int → Option Nat} {yh2 yt2 : Int} {yf2 : Int → Option Nat} {LX2 : va_W} {LH LS : Int → Nat} {j : Nat} {y : SU} {q9 : Nat}
    (h : LINV (n + 1) E al hsn chg wth why det cau len flt sgn ma sc ar sb ab xh1 xt1 xf1 xh2 xt2 xf2 bn lt RF LX po) (hX : X = p_txt (ma 5) len (ma 8)) (hT : T = X_run X.2.2.2 X.2.1 61 0 (ma 1)) (hs : SR T.2.1 sc2 ar2) (he : SR (ma 1) y.1 y.2)
    (h1 : DQ yf1 yh1 yt1 (cmN chg (8 - chg)) (cmL chg (8 - chg) q9 LH)) (h2 : DQ yf2 yh2 yt2 (cmS (8 - chg)) (fun i => LS (i + 1)))
    (hp : ∀ (g : Int → Int) (y : SU), LROW (4400000 * (n : Int)) g y.1 y.2 → (∀ x, 0 ≤ ma 2 x ∧ ma 2 x < 2147483648) → (∀ x, 0 ≤ g x ∧ g x < 2147483648) → HIST (4400000 * (n : Int)) (k_kw 0 (ma 2) g chg) (k_ch chg + 1) (cmL chg (8 - chg) q9 LH) (fun i => LS (i + 1)) (pou po j y)) (h7b : ∀ x, 0 ≤ g7 x ∧ g7 x < 2147483648) (hx : LSTI n E al LX2) :
    LINV n E al hsn (k_cw 0 chg) 0 why det cau 0 flt sgn (ua (ua (ua (ua (ua ma 1 T.2.1) 2 (k_kw 0 (ma 2) (cpy (ma 1) (ma 4) 0 0) chg)) 4 (cpy (ma 1) (ma 4) 0 0)) 7 g7) 8 X.2.2.2) sc2 ar2 sb ab yh1 yt1 yf1 yh2 yt2 yf2 bn lt RF LX2 (pou po j y) := by
  have hB := h.2.2.2.2.2.2.2.2.1.1
  obtain ⟨LH0, LS0, -, -, -, hnh⟩ := h.2.2.2.1
  have hc := cm_nh hnh
  rw [hc.1] at h1
  rw [hc.2] at h2
  have e1 : k_cw 0 chg = k_ch chg + 1 := by unfold k_cw; rw [if_pos rfl]
  rw [e1]
  have hch : 0 ≤ k_ch chg + 1 ∧ k_ch chg + 1 ≤ 8 := by unfold k_ch; split <;> omega
  have hb5 : ∀ x, 0 ≤ ma 5 x ∧ ma 5 x < 65536 := fun x => by have := h.2.2.2.2.1.2.1 x; omega
  have hlen := h.2.2.2.2.1.1
  obtain ⟨hq1, hq2, hq3⟩ := p_txt_b hb5 hlen.1 h.2.2.2.2.2.2.2.2.1.2.2
  rw [← hX] at hq1 hq2 hq3
  have hcb := cpy_b (a := 0) (b := 0) (hB 1) (hB 4)
  have hy : LROW (4400000 * (n : Int)) (cpy (ma 1) (ma 4) 0 0) y.1 y.2 := LROW_ag (cpy_ag0 (ma 1) (ma 4)) hcb ⟨h.1.s.1, h.1.2.1, he⟩
  have hr := X_inv (told := X.2.2.2) (tm := X.2.1) (N := 4400000 * (n : Int)) (by omega) 61 0 (ma 1) hq2 (RIV_le h.1.1 (by omega)) h.1.2.1
  rw [← hT] at hr
  exact h.exe ⟨hr.1, hr.2, hs⟩ ⟨_, _, h1, h2, hp _ y hy (hB 2) hcb, hch⟩ (k_kw_b (hB 2) hcb) hcb h7b hq1 h.2.2.2.2.2.2.2.1 h.2.2.2.2.2.2.1 hx
/-- it was no text -/
theorem LINV.exe_no {X : Bool × Int × PS} {LX2 : va_W} (h : LINV (n + 1) E al hsn chg wth why det cau len flt sgn ma sc ar sb ab xh1 xt1 xf1 xh2 xt2 xf2 bn lt RF LX po) (hX : X = p_txt (ma 5) len (ma 8)) {g7 : Int → Int} (h7b : ∀ x, 0 ≤ g7 x ∧ g7 x < 2147483648) (hx : LSTI n E al LX2) :
    LINV n E al hsn chg 0 why det cau 0 X.2.2.1 sgn (ua (ua (ua (ua (ua ma 1 (ma 1)) 2 (ma 2)) 4 (ma 4)) 7 g7) 8 X.2.2.2) sc ar sb ab xh1 xt1 xf1 xh2 xt2 xf2 bn lt RF LX2 po := by
  have hB := h.2.2.2.2.2.2.2.2.1.1
  have hb5 : ∀ x, 0 ≤ ma 5 x ∧ ma 5 x < 65536 := fun x => by have := h.2.2.2.2.1.2.1 x; omega
  have hlen := h.2.2.2.2.1.1
  obtain ⟨hq1, hq2, hq3⟩ := p_txt_b hb5 hlen.1 h.2.2.2.2.2.2.2.2.1.2.2
  have hq4 := p_txt_p hb5 hlen.1 (ma 8)
  rw [← hX] at hq1 hq4
  exact h.exe h.1.s h.s.2.2.2.1 (hB 2) (hB 4) h7b hq1 h.2.2.2.2.2.2.2.1 (by omega) hx
/-- one of its changes failed -/
theorem LINV.exe_rf {X : Bool × Int × PS} {T : Int × (Int → Int) × Option Res} {R : Res} {g7 : Int → Int} {LX2 : va_W} {q9 q8 : Nat} {vs pre : List Value} (h : LINV (n + 1) E al hsn chg wth why det cau len flt sgn ma sc ar sb ab xh1 xt1 xf1 xh2 xt2 xf2 bn lt RF LX po) (hX : X = p_txt (ma 5) len (ma 8)) (hT : T = X_run X.2.2.2 X.2.1 61 0 (ma 1)) (hR : T.2.2 = some R) (ho : OSH R q8 vs) (hpr : pre.length = 6) (h7b : ∀ x, 0 ≤ g7 x ∧ g7 x < 2147483648) (hx : LSTI n E al LX2) :
    LINV n E al hsn chg 0 8 T.1 (x_cau why T) 0 flt sgn (ua (ua (ua (ua (ua ma 1 (cpy (cpy (ma 1) (ma 4) 0 0) T.2.1 0 0)) 2 (ma 2)) 4 (cpy (ma 1) (ma 4) 0 0)) 7 g7) 8 X.2.2.2) sc ar sb ab xh1 xt1 xf1 xh2 xt2 xf2 bn (some q9) ([(q8, .inr (5, vs))] ++ [(q9, .inr (5, pre ++ [iv 8, iv T.1, .ref q8]))]) LX2 po := by
  have hB := h.2.2.2.2.2.2.2.2.1.1
  have hb5 : ∀ x, 0 ≤ ma 5 x ∧ ma 5 x < 65536 := fun x => by have := h.2.2.2.2.1.2.1 x; omega
  have hlen := h.2.2.2.2.1.1
  obtain ⟨hq1, hq2, hq3⟩ := p_txt_b hb5 hlen.1 h.2.2.2.2.2.2.2.2.1.2.2
  rw [← hX] at hq1 hq2 hq3
  have hcb := cpy_b (a := 0) (b := 0) (hB 1) (hB 4)
  have hr := X_inv (told := X.2.2.2) (tm := X.2.1) (N := 4400000 * (n : Int)) (by omega) 61 0 (ma 1) hq2 (RIV_le h.1.1 (by omega)) h.1.2.1
  obtain ⟨hf1, hf2⟩ := X_ref (told := X.2.2.2) (tm := X.2.1) (N := 4400000 * (n : Int)) (by omega) 61 0 (ma 1) hq2 (RIV_le h.1.1 (by omega)) h.1.2.1
  rw [← hT] at hr hf1 hf2
  have hcb2 := cpy_b (a := 0) (b := 0) hcb (RIV_b hr.1)
  rw [x_cau_R hR ho]
  exact h.exe (LROW_ag (AG.tr (cpy_ag0 (ma 1) (ma 4)) (cpy_ag0 (cpy (ma 1) (ma 4) 0 0) T.2.1)) hcb2 h.1.s) h.s.2.2.2.1 (hB 2) hcb h7b hq1 (LTR_two ho hpr (oR_w (hf2 R hR)) (by omega)) h.2.2.2.2.2.2.1 hx
theorem LSTI_of {m : Int} {el : Nat} {an : Int} {f : Int → Option Nat} (h1 : 0 ≤ m ∧ m + 30 * (n : Int) ≤ 720) (h2 : 0 ≤ an ∧ an ≤ 10) (h3 : el = EX E 71 → an = 0) : LSTI n E al (LW E al m el an f) := ⟨m, el, an, f, rfl, h1, h2, h3⟩
end LINVZ
theorem cat_mem {L : List va_W} {g : va_W} {x : Nat × va_E} (hg : g ∈ L) (hx : x ∈ g) : x ∈ cat L := by
  rw [cat_fl]
  exact List.mem_flatten.mpr ⟨g, hg, hx⟩
