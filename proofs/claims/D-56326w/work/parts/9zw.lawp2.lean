/-! ===== the law: lines, the latest refusal, the list, what stands between two calls ===== -/
def SG7 (L : List Int) : Prop := ∀ v ∈ L, 0 ≤ v ∧ v < 128
theorem SG7_c {v : Int} {L : List Int} (hv : 0 ≤ v ∧ v < 128) (h : SG7 L) : SG7 (v :: L) := fun w hw => by
  rcases List.mem_cons.mp hw with rfl | hw
  · exact hv
  · exact h w hw
theorem SG7_d {v : Int} {L : List Int} (hv : 0 ≤ v ∧ v < 100) (h : SG7 L) : SG7 (dgR v L) := by
  unfold dgR
  split
  · exact SG7_c (by omega) (SG7_c (by omega) h)
  · exact SG7_c (by omega) h
theorem B7_ui {f : Int → Int} {i v : Int} (h : B7 f) (hv : 0 ≤ v ∧ v < 128) : B7 (ui f i v) := fun x => by
  unfold ui
  split
  · exact hv
  · exact h x
theorem B7_w {f : Int → Int} (hf : B7 f) : ∀ (L : List Int), SG7 L → B7 (wR L f)
  | [], _ => hf
  | v :: L, h => B7_ui (B7_w hf L (fun w hw => h w (List.mem_cons_of_mem _ hw))) (h v (List.mem_cons_self ..))
theorem itI_ind {σ : Type} {F : Int → σ → σ} {P : Int → σ → Prop} {s : σ} (h0 : P 0 s) {n : Int} (hn : 0 ≤ n) (hs : ∀ k x, 0 ≤ k → k < n → P k x → P (k + 1) (F k x)) : P n (itI F n s) := by
  obtain ⟨m, rfl⟩ := Int.eq_ofNat_of_zero_le hn
  show P (m : Int) (itN F m s)
  have key : ∀ j : Nat, j ≤ m → P (j : Int) (itN F j s) := by
    intro j
    induction j with
    | zero => intro _; exact h0
    | succ j ih =>
      intro hj
      have h1 := hs (j : Int) (itN F j s) (by omega) (by omega) (ih (by omega))
      have e : itI F ((j : Int) + 1) s = F (j : Int) (itI F (j : Int) s) := itI_s (by omega)
      have e2 : itN F (j + 1) s = F (j : Int) (itN F j s) := e
      rw [e2]
      exact h1
  exact key m (Nat.le_refl m)
theorem m_wrec_ok {g : Int → Int} {t : Int} (ht : 97 ≤ t ∧ t ≤ 104) (hT : TI g) : lenI (m_wrec g t) ≤ 16 ∧ SG7 (m_wrec g t) := by
  obtain ⟨-, htw, hsw, htm, -, -, hsc⟩ := hT
  have h2 := htw (t - 97) (by omega) (by omega)
  have h1 := htm (t - 97) (by omega) (by omega)
  have h0 := hsc (t - 97) (by omega) (by omega)
  have h6 := hsw (t - 97) (by omega) (by omega)
  have hd := dgR_len (m_of g (t - 97) 1) [m_of g (t - 97) 0, t]
  have hb : lenI (dgR (m_of g (t - 97) 1) [m_of g (t - 97) 0, t]) ≤ 4 ∧ SG7 (dgR (m_of g (t - 97) 1) [m_of g (t - 97) 0, t]) := by
    refine ⟨?_, SG7_d (by omega) (SG7_c (by omega) (SG7_c (by omega) (fun w hw => by cases hw)))⟩
    simp only [lenI] at hd
    omega
  have hk := itI_ind (F := m_wn g (t - 97)) (P := fun k L => lenI L ≤ 4 + 3 * k ∧ SG7 L) (s := dgR (m_of g (t - 97) 1) [m_of g (t - 97) 0, t]) ⟨by omega, hb.2⟩ (n := m_of g (t - 97) 2) h2.1 (fun k L k0 k1 hL => by
    have hn : 0 ≤ m_need g (t - 97) k ∧ m_need g (t - 97) k < 8 := by unfold m_need; omega
    unfold m_wn
    split
    · refine ⟨?_, SG7_c (by omega) (SG7_c (by decide) hL.2)⟩
      show lenI L + 1 + 1 ≤ 4 + 3 * (k + 1)
      omega
    · refine ⟨?_, SG7_c (by omega) (SG7_c (by decide) (SG7_c (by decide) hL.2))⟩
      show lenI L + 1 + 1 + 1 ≤ 4 + 3 * (k + 1)
      omega)
  unfold m_wrec
  split
  · refine ⟨?_, SG7_c (by omega) (SG7_c (by decide) hk.2)⟩
    show lenI (itI (m_wn g (t - 97)) (m_of g (t - 97) 2) (dgR (m_of g (t - 97) 1) [m_of g (t - 97) 0, t])) + 1 + 1 ≤ 16
    omega
  · exact ⟨by omega, hk.2⟩
theorem m_wobj_ok {g : Int → Int} {o : Int} (ho : 0 ≤ o ∧ o < g 1) (h60 : g 1 ≤ 60) (hx : OX g) : lenI (m_wobj g o) ≤ 16 ∧ SG7 (m_wobj g o) := by
  obtain ⟨p1, p2, p3⟩ := hx.2.1 o ho.1 ho.2
  have hd := dgR_len o []
  have hb : lenI ((97 + m_thing g o 0) :: dgR o []) ≤ 4 ∧ SG7 ((97 + m_thing g o 0) :: dgR o []) := by
    refine ⟨?_, SG7_c (by omega) (SG7_d (by omega) (fun w hw => by cases hw))⟩
    show lenI (dgR o []) + 1 ≤ 4
    simp only [lenI] at hd
    omega
  have hk := itI_ind (F := m_wf g o) (P := fun k L => lenI L ≤ 4 + 3 * k ∧ SG7 L) (s := (97 + m_thing g o 0) :: dgR o []) ⟨by omega, hb.2⟩ (n := m_thing g o 3) p2.1 (fun k L k0 k1 hL => by
    have hn := p3 k k0 (by omega)
    unfold m_wf
    split
    · refine ⟨?_, SG7_c (by decide) (SG7_c (by decide) hL.2)⟩
      show lenI L + 1 + 1 ≤ 4 + 3 * (k + 1)
      omega
    · have hd2 := dgR_len (m_thing g o (7 + k) - 1) (32 :: L)
      refine ⟨?_, SG7_d (by omega) (SG7_c (by decide) hL.2)⟩
      have e : lenI (32 :: L) = lenI L + 1 := rfl
      omega)
  unfold m_wobj
  exact ⟨by omega, hk.2⟩
/-- the latest refusal: its number, its detail, its origin's number -/
def LTR (lt : Option Nat) (RF : va_W) (w d cs : Int) : Prop :=
  (lt = none ∧ RF = [] ∧ w = 0 ∧ cs = 0) ∨
  (∃ (q : Nat) (p0 p1 p2 p3 p4 p5 : Value), lt = some q ∧ RF = [(q, .inr (5, [p0, p1, p2, p3, p4, p5, iv w, iv d, .null]))] ∧ (0 < w ∧ w < 100) ∧ (-2147483648 ≤ d ∧ d < 2147483648) ∧ cs = 0) ∨
  ∃ (q q2 : Nat) (p0 p1 p2 p3 p4 p5 r0 r1 r2 r3 r4 r5 : Value) (wt : Int), lt = some q ∧ RF = [(q2, .inr (5, [r0, r1, r2, r3, r4, r5, iv cs, iv wt, .null])), (q, .inr (5, [p0, p1, p2, p3, p4, p5, iv w, iv d, .ref q2]))] ∧ (0 < w ∧ w < 100) ∧ (-2147483648 ≤ d ∧ d < 2147483648) ∧ (0 < cs ∧ cs < 100)
theorem LTR.r {lt : Option Nat} {RF : va_W} {w d cs : Int} (h : LTR lt RF w d cs) : (0 ≤ w ∧ w < 100) ∧ (0 ≤ cs ∧ cs < 100) := by
  rcases h with ⟨-, -, h1, h2⟩ | ⟨q, p0, p1, p2, p3, p4, p5, -, -, h1, -, h2⟩ | ⟨q, q2, p0, p1, p2, p3, p4, p5, r0, r1, r2, r3, r4, r5, wt, -, -, h1, -, h2⟩ <;> omega
theorem LTR_one {q : Nat} {pre : List Value} {wd : Int × Int} (hp : pre.length = 6) (h1 : 0 < wd.1 ∧ wd.1 < 100) (h2 : -2147483648 ≤ wd.2 ∧ wd.2 < 2147483648) : LTR (some q) [(q, .inr (5, pre ++ [iv wd.1, iv wd.2, .null]))] wd.1 wd.2 0 := by
  match pre, hp with
  | [x0, x1, x2, x3, x4, x5], _ => exact Or.inr (Or.inl ⟨q, x0, x1, x2, x3, x4, x5, rfl, rfl, h1, h2, rfl⟩)
theorem LTR_two {R : Res} {q9 q8 : Nat} {vs pre : List Value} {d : Int} (ho : OSH R q8 vs) (hp : pre.length = 6) (hR : 0 < (oR R).1 ∧ (oR R).1 < 100) (hd : -2147483648 ≤ d ∧ d < 2147483648) : LTR (some q9) ([(q8, .inr (5, vs))] ++ [(q9, .inr (5, pre ++ [iv 8, iv d, .ref q8]))]) 8 d (oR R).1 := by
  obtain ⟨⟨p2, hp2, rfl⟩, -⟩ := ho
  match pre, hp with
  | [x0, x1, x2, x3, x4, x5], _ =>
    match p2, hp2 with
    | [y0, y1, y2, y3, y4, y5], _ => exact Or.inr (Or.inr ⟨q9, q8, x0, x1, x2, x3, x4, x5, y0, y1, y2, y3, y4, y5, (oR R).2, rfl, rfl, by decide, hd, hR⟩)
/-- the typed text's cells; the line's -/
def BUFI (n : Nat) (bn : Nat) (len : Int) (f : Int → Int) : Prop := (0 ≤ len ∧ len + n ≤ 24) ∧ B7 f ∧ ((bn = 16 ∧ len ≤ 16 ∧ ∀ x, ¬ (0 ≤ x ∧ x < 16) → f x = 0) ∨ bn = 34)
def LINI (k : Int) (f : Int → Int) : Prop := (0 ≤ k ∧ k ≤ 16) ∧ B7 f
/-- the parser's list -/
def LSTI (n : Nat) (E : EE) (al : Nat) (LX : va_W) : Prop := ∃ (amc : Int) (el : Nat) (an : Int) (fq : Int → Option Nat), LX = LW E al amc el an fq ∧ (0 ≤ amc ∧ amc + 30 * (n : Int) ≤ 720) ∧ (0 ≤ an ∧ an ≤ 10) ∧ (el = EX E 71 → an = 0)
def HDQ (N : Int) (kp : Int → Int) (nh xh1 xt1 : Int) (xf1 : Int → Option Nat) (xh2 xt2 : Int) (xf2 : Int → Option Nat) (po : Nat → PST) : Prop := ∃ LH LS : Int → Nat, DQ xf1 xh1 xt1 nh LH ∧ DQ xf2 xh2 xt2 (8 - nh) LS ∧ HIST N kp nh LH LS po ∧ (0 ≤ nh ∧ nh ≤ 8)
def MOK (ma : Nat → Int → Int) (wth : Int) : Prop := (∀ k x, 0 ≤ ma k x ∧ ma k x < 2147483648) ∧ wth = 0 ∧ TB (ma 8)
/-- n calls are to come -/
def LINV (n : Nat) (E : EE) (al : Nat) (hsn chg wth why det cau len flt sgn : Int) (ma : Nat → Int → Int) (sc : Nat → Int) (ar : Nat → Int → Int) (sb : Nat → Int) (ab : Nat → Int → Int) (xh1 xt1 : Int) (xf1 : Int → Option Nat) (xh2 xt2 : Int) (xf2 : Int → Option Nat) (bn : Nat) (lt : Option Nat) (RF LX : va_W) (po : Nat → PST) : Prop :=
  LROW (4400000 * (n : Int)) (ma 1) sc ar ∧ LROW (4400000 * (n : Int)) (ma 3) sb ab ∧ (hsn = 0 ∨ hsn = 1) ∧ HDQ (4400000 * (n : Int)) (ma 2) chg xh1 xt1 xf1 xh2 xt2 xf2 po ∧ BUFI n bn len (ma 5) ∧ LINI sgn (ma 6) ∧ (-1 ≤ flt ∧ flt < 2147483648) ∧ LTR lt RF why det cau ∧ MOK ma wth ∧ LSTI n E al LX
theorem BUFI.s {n bn : Nat} {len : Int} {f : Int → Int} (h : BUFI (n + 1) bn len f) : BUFI n bn len f := ⟨⟨h.1.1, by have := h.1.2; omega⟩, h.2⟩
theorem BUFI_type {n bn : Nat} {len v : Int} {f : Int → Int} (h : BUFI (n + 1) bn len f) (hv : 32 ≤ v ∧ v ≤ 126) (hl : bn = 16 → len < 16) : BUFI n bn (len + 1) (ui f len v) := by
  obtain ⟨⟨h1, h2⟩, h3, h4⟩ := h
  refine ⟨⟨by omega, by omega⟩, B7_ui h3 (by omega), ?_⟩
  rcases h4 with ⟨e, e2, e3⟩ | e
  · have := hl e
    refine Or.inl ⟨e, by omega, fun x hx => ?_⟩
    rw [ui_n (by omega)]
    exact e3 x hx
  · exact Or.inr e
/-- the buffer that grew is what the reference has -/
theorem BUFI_grow {n : Nat} {len v : Int} {f : Int → Int} (h : BUFI (n + 1) 16 len f) (hv : 32 ≤ v ∧ v ≤ 126) (hl : len = 16) : BUFI n 34 (len + 1) (ui f len v) ∧ ui (cp0 f (fun _ => 0) 16) 16 v = ui f len v := by
  obtain ⟨⟨h1, h2⟩, h3, h4⟩ := h
  refine ⟨⟨⟨by omega, by omega⟩, B7_ui h3 (by omega), Or.inr rfl⟩, ?_⟩
  have e3 : ∀ x, ¬ (0 ≤ x ∧ x < 16) → f x = 0 := by
    rcases h4 with ⟨-, -, e3⟩ | e
    · exact e3
    · exact absurd e (by decide)
  subst hl
  have e : cp0 f (fun _ => 0) 16 = f := by
    funext x
    show (if 0 ≤ x ∧ x < 16 then f x else 0) = f x
    by_cases hx : 0 ≤ x ∧ x < 16
    · rw [if_pos hx]
    · rw [if_neg hx]
      exact (e3 x hx).symm
  rw [e]
theorem BUFI_0 {n bn : Nat} {len : Int} {f : Int → Int} (h : BUFI (n + 1) bn len f) : BUFI n bn 0 f := by
  obtain ⟨⟨h1, h2⟩, h3, h4⟩ := h
  refine ⟨⟨by decide, by omega⟩, h3, ?_⟩
  rcases h4 with ⟨e, -, e3⟩ | e
  · exact Or.inl ⟨e, by decide, e3⟩
  · exact Or.inr e
theorem LSTI.s {n : Nat} {E : EE} {al : Nat} {LX : va_W} (h : LSTI (n + 1) E al LX) : LSTI n E al LX := by
  obtain ⟨amc, el, an, fq, h1, h2, h3, h4⟩ := h
  exact ⟨amc, el, an, fq, h1, by omega, h3, h4⟩
theorem LROW.s {n : Nat} {g : Int → Int} {sc : Nat → Int} {ar : Nat → Int → Int} (h : LROW (4400000 * ((n + 1 : Nat) : Int)) g sc ar) : LROW (4400000 * (n : Int)) g sc ar := LROW_le h (by omega)
theorem HDQ_le {N M : Int} {kp : Int → Int} {nh xh1 xt1 xh2 xt2 : Int} {xf1 xf2 : Int → Option Nat} {po : Nat → PST} (h : HDQ N kp nh xh1 xt1 xf1 xh2 xt2 xf2 po) (hl : M ≤ N) : HDQ M kp nh xh1 xt1 xf1 xh2 xt2 xf2 po := by
  obtain ⟨LH, LS, a, b, c, d⟩ := h
  exact ⟨LH, LS, a, b, HIST_le c hl, d⟩
theorem HDQ.s {n : Nat} {kp : Int → Int} {nh xh1 xt1 xh2 xt2 : Int} {xf1 xf2 : Int → Option Nat} {po : Nat → PST} (h : HDQ (4400000 * ((n + 1 : Nat) : Int)) kp nh xh1 xt1 xf1 xh2 xt2 xf2 po) : HDQ (4400000 * (n : Int)) kp nh xh1 xt1 xf1 xh2 xt2 xf2 po := HDQ_le h (by omega)
theorem MOK_ua {ma : Nat → Int → Int} {wth : Int} (h : MOK ma wth) (k : Nat) {f : Int → Int} (hk : ¬ 8 = k) (hf : ∀ x, 0 ≤ f x ∧ f x < 2147483648) : MOK (ua ma k f) wth := ⟨ua_b k h.1 hf, h.2.1, by rw [ua_n hk]; exact h.2.2⟩
section LINVX
variable {n : Nat} {E : EE} {al : Nat} {hsn chg wth why det cau len flt sgn : Int} {ma : Nat → Int → Int} {sc : Nat → Int} {ar : Nat → Int → Int} {sb : Nat → Int} {ab : Nat → Int → Int} {xh1 xt1 : Int} {xf1 : Int → Option Nat} {xh2 xt2 : Int} {xf2 : Int → Option Nat} {bn : Nat} {lt : Option Nat} {RF LX : va_W} {po : Nat → PST}
/-- a call that changes nothing -/
theorem LINV.s (h : LINV (n + 1) E al hsn chg wth why det cau len flt sgn ma sc ar sb ab xh1 xt1 xf1 xh2 xt2 xf2 bn lt RF LX po) : LINV n E al hsn chg wth why det cau len flt sgn ma sc ar sb ab xh1 xt1 xf1 xh2 xt2 xf2 bn lt RF LX po :=
  ⟨h.1.s, h.2.1.s, h.2.2.1, h.2.2.2.1.s, h.2.2.2.2.1.s, h.2.2.2.2.2.1, h.2.2.2.2.2.2.1, h.2.2.2.2.2.2.2.1, h.2.2.2.2.2.2.2.2.1, h.2.2.2.2.2.2.2.2.2.s⟩
/-- a line written -/
theorem LINV.line (h : LINV (n + 1) E al hsn chg wth why det cau len flt sgn ma sc ar sb ab xh1 xt1 xf1 xh2 xt2 xf2 bn lt RF LX po) {L : List Int} (hl : lenI L ≤ 16 ∧ SG7 L) : LINV n E al hsn chg wth why det cau len flt (lenI L) (ua ma 6 (wR L (ma 6))) sc ar sb ab xh1 xt1 xf1 xh2 xt2 xf2 bn lt RF LX po := by
  have h2 := h.s
  have hb := B7_w h2.2.2.2.2.2.1.2 L hl.2
  exact ⟨h2.1, h2.2.1, h2.2.2.1, h2.2.2.2.1, h2.2.2.2.2.1, ⟨⟨lenI_0 L, hl.1⟩, hb⟩, h2.2.2.2.2.2.2.1, h2.2.2.2.2.2.2.2.1, MOK_ua h2.2.2.2.2.2.2.2.2.1 6 (by decide) (fun x => by have := hb x; omega), h2.2.2.2.2.2.2.2.2.2⟩
/-- a sign typed -/
theorem LINV.type {bn2 : Nat} {v : Int} (h : LINV (n + 1) E al hsn chg wth why det cau len flt sgn ma sc ar sb ab xh1 xt1 xf1 xh2 xt2 xf2 bn lt RF LX po) (hb : BUFI n bn2 (len + 1) (ui (ma 5) len v)) : LINV n E al hsn chg wth why det cau (len + 1) flt sgn (ua ma 5 (ui (ma 5) len v)) sc ar sb ab xh1 xt1 xf1 xh2 xt2 xf2 bn2 lt RF LX po := by
  have h2 := h.s
  exact ⟨h2.1, h2.2.1, h2.2.2.1, h2.2.2.2.1, hb, h2.2.2.2.2.2.1, h2.2.2.2.2.2.2.1, h2.2.2.2.2.2.2.2.1, MOK_ua h2.2.2.2.2.2.2.2.2.1 5 (by decide) (fun x => by have := hb.2.1 x; omega), h2.2.2.2.2.2.2.2.2.2⟩
/-- saved -/
theorem LINV.save {sb2 : Nat → Int} {ab2 : Nat → Int → Int} (h : LINV (n + 1) E al hsn chg wth why det cau len flt sgn ma sc ar sb ab xh1 xt1 xf1 xh2 xt2 xf2 bn lt RF LX po) (hs : SR (ma 1) sb2 ab2) : LINV n E al 1 chg wth why det cau len flt sgn (ua ma 3 (cpy (ma 1) (ma 3) 0 0)) sc ar sb2 ab2 xh1 xt1 xf1 xh2 xt2 xf2 bn lt RF LX po := by
  have h2 := h.s
  have hB := h2.2.2.2.2.2.2.2.2.1.1
  have hcb := cpy_b (a := 0) (b := 0) (hB 1) (hB 3)
  exact ⟨h2.1, LROW_ag (cpy_ag0 _ _) hcb ⟨h2.1.1, h2.1.2.1, hs⟩, Or.inr rfl, h2.2.2.2.1, h2.2.2.2.2.1, h2.2.2.2.2.2.1, h2.2.2.2.2.2.2.1, h2.2.2.2.2.2.2.2.1, MOK_ua h2.2.2.2.2.2.2.2.2.1 3 (by decide) hcb, h2.2.2.2.2.2.2.2.2.2⟩
/-- another row; the deques are what they are -/
theorem LINV.row {g2 kp2 : Int → Int} {chg2 : Int} {sc2 : Nat → Int} {ar2 : Nat → Int → Int} {yh1 yt1 : Int} {yf1 : Int → Option Nat} {yh2 yt2 : Int} {yf2 : Int → Option Nat} {po2 : Nat → PST} {why2 det2 cau2 : Int} {lt2 : Option Nat} {RF2 : va_W} (h : LINV (n + 1) E al hsn chg wth why det cau len flt sgn ma sc ar sb ab xh1 xt1 xf1 xh2 xt2 xf2 bn lt RF LX po) (hr : LROW (4400000 * (n : Int)) g2 sc2 ar2) (hd : HDQ (4400000 * (n : Int)) kp2 chg2 yh1 yt1 yf1 yh2 yt2 yf2 po2) (hk : ∀ x, 0 ≤ kp2 x ∧ kp2 x < 2147483648) (hl : LTR lt2 RF2 why2 det2 cau2) : LINV n E al hsn chg2 wth why2 det2 cau2 len flt sgn (ua (ua ma 1 g2) 2 kp2) sc2 ar2 sb ab yh1 yt1 yf1 yh2 yt2 yf2 bn lt2 RF2 LX po2 := by
  have h2 := h.s
  exact ⟨hr, h2.2.1, h2.2.2.1, hd, h2.2.2.2.2.1, h2.2.2.2.2.2.1, h2.2.2.2.2.2.2.1, hl, MOK_ua (MOK_ua h2.2.2.2.2.2.2.2.2.1 1 (by decide) (RIV_b hr.1)) 2 (by decide) hk, h2.2.2.2.2.2.2.2.2.2⟩
/-- the fills of the reference may be anything -/
theorem LINV.fills (h : LINV n E al hsn chg wth why det cau len flt sgn ma sc ar sb ab xh1 xt1 xf1 xh2 xt2 xf2 bn lt RF LX po) (k : Nat) {f : Int → Int} (hk : k = 7 ∨ k = 4) (hf : ∀ x, 0 ≤ f x ∧ f x < 2147483648) : LINV n E al hsn chg wth why det cau len flt sgn (ua ma k f) sc ar sb ab xh1 xt1 xf1 xh2 xt2 xf2 bn lt RF LX po := by
  have e : ∀ j, ¬ j = k → ua ma k f j = ma j := fun j hj => ua_n hj
  unfold LINV
  rw [e 1 (by omega), e 2 (by omega), e 3 (by omega), e 5 (by omega), e 6 (by omega)]
  exact ⟨h.1, h.2.1, h.2.2.1, h.2.2.2.1, h.2.2.2.2.1, h.2.2.2.2.2.1, h.2.2.2.2.2.2.1, h.2.2.2.2.2.2.2.1, MOK_ua h.2.2.2.2.2.2.2.2.1 k (by omega) hf, h.2.2.2.2.2.2.2.2.2⟩
end LINVX
/-! the script's numbers -/
def sx (xs : Nat → Int32) (i : Int) : Int := (xs i.toNat).toInt
theorem sx_r (xs : Nat → Int32) (i : Int) : -2147483648 ≤ sx xs i ∧ sx xs i < 2147483648 := ⟨Int32.le_toInt _, Int32.toInt_lt _⟩
