/-! ===== the law: commands, what they leave between two calls ===== -/
def PCW : Res → Prop
  | .inr (.inl w) => (0 < w.1 ∧ w.1 < 100) ∧ (-2147483648 ≤ w.2 ∧ w.2 < 2147483648)
  | _ => True
theorem den_w {N : Int} {g : Int → Int} (hi : RIV N g) {t th : Int} (ht : 0 ≤ t ∧ t < 8) (h : 0 < (m_den g t th).1) : (0 < (m_den g t th).1 ∧ (m_den g t th).1 < 100) ∧ (-2147483648 ≤ (m_den g t th).2 ∧ (m_den g t th).2 < 2147483648) := by
  have := m_den_r (th := th) hi.1.2.1 hi.1.2.2.1 ht
  omega
theorem D_ref {N : Int} {g fl : Int → Int} (hi : RIV N g) (k a b c : Int) : PCW (D_res g fl k a b c) := by
  have htw := hi.1.2.1
  have hsw := hi.1.2.2.1
  have hb := RIV_b hi
  have hox := hi.2.1
  have hadd : ∀ z, PCW (A_add g a b z) := fun z => by
    unfold A_add
    split
    · trivial
    · rename_i h1
      have h2 := c_add_ok h1
      have h3 := m_place_r htw (t := a - 97) (n := b - 97) (by omega)
      have h4 : 0 ≤ c_cir (s_add g (a - 97) (b - 97) z) z ∧ c_cir (s_add g (a - 97) (b - 97) z) z ≤ 8 := by
        have := m_circ_r (s_add g (a - 97) (b - 97) z)
        unfold c_cir
        split <;> omega
      repeat' split
      · show (0 < (1 : Int) ∧ (1 : Int) < 100) ∧ _ ≤ m_place g (a - 97) (b - 97) ∧ m_place g (a - 97) (b - 97) < _
        omega
      · show (0 < (2 : Int) ∧ (2 : Int) < 100) ∧ (-2147483648 : Int) ≤ 3 ∧ (3 : Int) < 2147483648
        omega
      · show (0 < (3 : Int) ∧ (3 : Int) < 100) ∧ _ ≤ c_cir (s_add g (a - 97) (b - 97) z) z ∧ c_cir (s_add g (a - 97) (b - 97) z) z < _
        omega
      · trivial
  unfold D_res
  repeat' split
  · unfold A_def; split <;> trivial
  · unfold A_drop; repeat' split
    all_goals trivial
  · exact hadd false
  · exact hadd true
  · unfold A_rem; split <;> trivial
  · unfold A_repl
    split
    · trivial
    · rename_i h1
      have h2 := c_repl_ok h1
      have h3 := chain_8 (t := a - 97) hsw (b := b - 97) (by omega)
      have h4 := m_circ_r (m_set g (a - 97) 6 (b - 97 + 1))
      repeat' split
      · show (0 < (4 : Int) ∧ (4 : Int) < 100) ∧ _ ≤ m_chain g (b - 97) (a - 97) ∧ m_chain g (b - 97) (a - 97) < _
        omega
      · show (0 < (3 : Int) ∧ (3 : Int) < 100) ∧ _ ≤ m_circ (m_set g (a - 97) 6 (b - 97 + 1)) ∧ m_circ (m_set g (a - 97) 6 (b - 97 + 1)) < _
        omega
      · trivial
  · unfold A_back
    split
    · trivial
    · have h4 := m_circ_r (m_set g (a - 97) 6 0)
      split
      · show (0 < (3 : Int) ∧ (3 : Int) < 100) ∧ _ ≤ m_circ (m_set g (a - 97) 6 0) ∧ m_circ (m_set g (a - 97) 6 0) < _
        omega
      · trivial
  · unfold A_open; split <;> trivial
  · unfold A_close; split <;> trivial
  · unfold A_make
    split
    · trivial
    · rename_i h1
      have h2 := c_op_ok h1
      split
      · rename_i h3
        exact den_w hi (by omega) h3
      · trivial
  · unfold A_tch
    split
    · trivial
    · rename_i h1
      have h2 := m_noneed_ok (c_tch_ok h1).1
      obtain ⟨h5a, h5b, h5c⟩ := hox.2.1 a (by omega) (by omega)
      have h6 := (h5c b (by omega) (by omega)).1
      have h7 := hb (61 + 10 * a + (7 + b))
      split
      · show (0 < (7 : Int) ∧ (7 : Int) < 100) ∧ _ ≤ m_thing g a (7 + b) - 1 ∧ m_thing g a (7 + b) - 1 < _
        unfold m_thing
        omega
      · split
        · rename_i h3
          exact den_w hi h6 h3
        · trivial
theorem ua_id (ma : Nat → Int → Int) (k : Nat) : ua ma k (ma k) = ma := by
  funext j
  unfold ua
  cases hb : Nat.beq j k with
  | false => rfl
  | true => rw [Nat.eq_of_beq_eq_true hb]; rfl
section LINVY
variable {n : Nat} {E : EE} {al : Nat} {hsn chg wth why det cau len flt sgn : Int} {ma : Nat → Int → Int} {sc : Nat → Int} {ar : Nat → Int → Int} {sb : Nat → Int} {ab : Nat → Int → Int} {xh1 xt1 : Int} {xf1 : Int → Option Nat} {xh2 xt2 : Int} {xf2 : Int → Option Nat} {bn : Nat} {lt : Option Nat} {RF LX : va_W} {po : Nat → PST}
theorem LINV.riv (h : LINV n E al hsn chg wth why det cau len flt sgn ma sc ar sb ab xh1 xt1 xf1 xh2 xt2 xf2 bn lt RF LX po) : RIV (4400000 * (n : Int)) (ma 1) := h.1.1
/-- a command that was done -/
theorem LINV.ok {R : Res} {sc2 : Nat → Int} {ar2 : Nat → Int → Int} {yh1 yt1 : Int} {yf1 : Int → Option Nat} {yh2 yt2 : Int} {yf2 : Int → Option Nat} {LH LS : Int → Nat} {j : Nat} {y : SU} {q9 : Nat} (h : LINV (n + 1) E al hsn chg wth why det cau len flt sgn ma sc ar sb ab xh1 xt1 xf1 xh2 xt2 xf2 bn lt RF LX po)
    (hR : ∃ q, R = .inr (.inr q)) (hri : RIV (4400000 * (n : Int)) (rs_g (ma 1) R)) (hci : CI (rs_g (ma 1) R)) (hs : SR (rs_g (ma 1) R) sc2 ar2) (he : SR (ma 1) y.1 y.2) (h1 : DQ yf1 yh1 yt1 (cmN chg (8 - chg)) (cmL chg (8 - chg) q9 LH)) (h2 : DQ yf2 yh2 yt2 (cmS (8 - chg)) (fun i => LS (i + 1)))
    (hp : ∀ (g : Int → Int) (y : SU), LROW (4400000 * (n : Int)) g y.1 y.2 → (∀ x, 0 ≤ ma 2 x ∧ ma 2 x < 2147483648) → (∀ x, 0 ≤ g x ∧ g x < 2147483648) → HIST (4400000 * (n : Int)) (k_kw 0 (ma 2) g chg) (k_ch chg + 1) (cmL chg (8 - chg) q9 LH) (fun i => LS (i + 1)) (pou po j y)) :
    LINV n E al hsn (rs_cw wth chg R) wth (rs_why why R) (rs_det det R) (rs_cau cau R) len flt sgn (ua (ua ma 1 (rs_g (ma 1) R)) 2 (rs_kw wth (ma 2) (ma 1) chg R)) sc2 ar2 sb ab yh1 yt1 yf1 yh2 yt2 yf2 bn lt RF LX (pou po j y) := by
  obtain ⟨q, rfl⟩ := hR
  have hw : wth = 0 := h.2.2.2.2.2.2.2.2.1.2.1
  have hB := h.2.2.2.2.2.2.2.2.1.1
  obtain ⟨LH0, LS0, -, -, -, hnh⟩ := h.2.2.2.1
  have hc := cm_nh hnh
  rw [hc.1] at h1
  rw [hc.2] at h2
  have e1 : rs_cw wth chg (.inr (.inr q)) = k_ch chg + 1 := by show k_cw wth chg = _; unfold k_cw; rw [if_pos hw]
  have e2 : rs_kw wth (ma 2) (ma 1) chg (.inr (.inr q)) = k_kw 0 (ma 2) (ma 1) chg := by show k_kw wth (ma 2) (ma 1) chg = _; rw [hw]
  rw [e1, e2]
  have hch : 0 ≤ k_ch chg + 1 ∧ k_ch chg + 1 ≤ 8 := by unfold k_ch; split <;> omega
  exact h.row ⟨hri, hci, hs⟩ ⟨_, _, h1, h2, hp (ma 1) y ⟨h.1.s.1, h.1.2.1, he⟩ (hB 2) (hB 1), hch⟩ (k_kw_b (hB 2) (hB 1)) h.2.2.2.2.2.2.2.1
/-- one that failed -/
theorem LINV.no {R : Res} (h : LINV (n + 1) E al hsn chg wth why det cau len flt sgn ma sc ar sb ab xh1 xt1 xf1 xh2 xt2 xf2 bn lt RF LX po) (hR : ∃ c, R = .inl c) : LINV n E al hsn (rs_cw wth chg R) wth (rs_why why R) (rs_det det R) (rs_cau cau R) len flt sgn (ua (ua ma 1 (rs_g (ma 1) R)) 2 (rs_kw wth (ma 2) (ma 1) chg R)) sc ar sb ab xh1 xt1 xf1 xh2 xt2 xf2 bn lt RF LX po := by
  obtain ⟨c, rfl⟩ := hR
  show LINV n E al hsn chg wth why det cau len flt sgn (ua (ua ma 1 (ma 1)) 2 (ma 2)) sc ar sb ab xh1 xt1 xf1 xh2 xt2 xf2 bn lt RF LX po
  rw [ua_id, ua_id]
  exact h.s
/-- one that was refused -/
theorem LINV.rf {R : Res} {wd : Int × Int} {q : Nat} {pre : List Value} (h : LINV (n + 1) E al hsn chg wth why det cau len flt sgn ma sc ar sb ab xh1 xt1 xf1 xh2 xt2 xf2 bn lt RF LX po) (hR : R = .inr (.inl wd)) (hp : pre.length = 6) (hw : PCW R) : LINV n E al hsn (rs_cw wth chg R) wth (rs_why why R) (rs_det det R) (rs_cau cau R) len flt sgn (ua (ua ma 1 (rs_g (ma 1) R)) 2 (rs_kw wth (ma 2) (ma 1) chg R)) sc ar sb ab xh1 xt1 xf1 xh2 xt2 xf2 bn (some q) [(q, .inr (5, pre ++ [iv wd.1, iv wd.2, .null]))] LX po := by
  subst hR
  show LINV n E al hsn chg wth wd.1 wd.2 0 len flt sgn (ua (ua ma 1 (ma 1)) 2 (ma 2)) sc ar sb ab xh1 xt1 xf1 xh2 xt2 xf2 bn (some q) _ LX po
  rw [ua_id, ua_id]
  have h2 := h.s
  exact ⟨h2.1, h2.2.1, h2.2.2.1, h2.2.2.2.1, h2.2.2.2.2.1, h2.2.2.2.2.2.1, h2.2.2.2.2.2.2.1, LTR_one hp hw.1 hw.2, h2.2.2.2.2.2.2.2.2.1, h2.2.2.2.2.2.2.2.2.2⟩
/-- undone -/
theorem LINV.undo {ge : Int → Int} {sc2 : Nat → Int} {ar2 : Nat → Int → Int} {yh1 yt1 : Int} {yf1 : Int → Option Nat} {yh2 yt2 : Int} {yf2 : Int → Option Nat} {LH LS2 : Int → Nat} (h : LINV (n + 1) E al hsn chg wth why det cau len flt sgn ma sc ar sb ab xh1 xt1 xf1 xh2 xt2 xf2 bn lt RF LX po) (h0 : 0 < chg)
    (hl : LROW (4400000 * ((n + 1 : Nat) : Int)) ge sc2 ar2) (hg : ge = krow (ma 2) (chg - 1)) (h1 : DQ yf1 yh1 yt1 (chg - 1) LH) (h2 : DQ yf2 yh2 yt2 (8 - chg + 1) LS2) (hp : HIST (4400000 * ((n + 1 : Nat) : Int)) (ma 2) (chg - 1) LH LS2 po) :
    LINV n E al hsn (chg - 1) wth why det cau len flt sgn (ua ma 1 (cpy (ma 2) (ma 1) (661 * (chg - 1)) 0)) sc2 ar2 sb ab yh1 yt1 yf1 yh2 yt2 yf2 bn lt RF LX po := by
  subst hg
  have hB := h.2.2.2.2.2.2.2.2.1.1
  obtain ⟨-, -, -, -, -, hnh⟩ := h.2.2.2.1
  have hr := LROW_ag (cpy_agk (ma 2) (ma 1) (chg - 1)) (cpy_b (hB 2) (hB 1)) hl
  rw [show 8 - chg + 1 = 8 - (chg - 1) by omega] at h2
  have := h.row (kp2 := ma 2) hr.s ⟨LH, LS2, h1, h2, HIST_le hp (by omega), by omega⟩ (hB 2) h.2.2.2.2.2.2.2.1
  have e : ua (ua ma 1 (cpy (ma 2) (ma 1) (661 * (chg - 1)) 0)) 2 (ma 2) = ua ma 1 (cpy (ma 2) (ma 1) (661 * (chg - 1)) 0) := ua_id (ua ma 1 (cpy (ma 2) (ma 1) (661 * (chg - 1)) 0)) 2
  rw [e] at this
  exact this
/-- restored -/
theorem LINV.rest {sc2 : Nat → Int} {ar2 : Nat → Int → Int} {yt1 : Int} {yf1 : Int → Option Nat} {yt2 : Int} {yf2 : Int → Option Nat} {LH LS LX2 : Int → Nat} (h : LINV (n + 1) E al hsn chg wth why det cau len flt sgn ma sc ar sb ab xh1 xt1 xf1 xh2 xt2 xf2 bn lt RF LX po)
    (hs : SR (ma 3) sc2 ar2) (h1 : DQ yf1 xh1 yt1 0 LH) (h2 : DQ yf2 xh2 yt2 8 LX2) (hx : RSL (8 - chg) chg 0 LS LH LX2) (hp : HIST (4400000 * ((n + 1 : Nat) : Int)) (ma 2) chg LH LS po) :
    LINV n E al hsn 0 wth why det cau len flt sgn (ua ma 1 (cpy (ma 3) (ma 1) 0 0)) sc2 ar2 sb ab xh1 yt1 yf1 xh2 yt2 yf2 bn lt RF LX po := by
  have hB := h.2.2.2.2.2.2.2.2.1.1
  have hr : LROW (4400000 * ((n + 1 : Nat) : Int)) (cpy (ma 3) (ma 1) 0 0) sc2 ar2 := LROW_ag (cpy_ag0 (ma 3) (ma 1)) (cpy_b (hB 3) (hB 1)) ⟨h.2.1.1, h.2.1.2.1, hs⟩
  have := h.row (kp2 := ma 2) hr.s ⟨LH, LX2, h1, h2, HIST_le (HIST_rest hp hx) (by omega), by decide⟩ (hB 2) h.2.2.2.2.2.2.2.1
  have e : ua (ua ma 1 (cpy (ma 3) (ma 1) 0 0)) 2 (ma 2) = ua ma 1 (cpy (ma 3) (ma 1) 0 0) := ua_id (ua ma 1 (cpy (ma 3) (ma 1) 0 0)) 2
  rw [e] at this
  exact this
end LINVY
