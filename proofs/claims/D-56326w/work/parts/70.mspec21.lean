/-! ===== execute ===== -/
def PC3 : Res → Prop
  | .inl v => v ≤ 9
  | _ => True
theorem D_top (g fl : Int → Int) (k a b c : Int) : PC3 (D_res g fl k a b c) := by
  unfold D_res
  repeat' split
  · have := c_def_r g a b c; unfold A_def; split
    · show c_def g a b c ≤ 9; omega
    · trivial
  · have := c_none_r g a; unfold A_drop; repeat' split
    · show c_none g a ≤ 9; omega
    · show (3 : Int) ≤ 9; decide
    · trivial
  · have := c_add_r g a b; unfold A_add; repeat' split
    · show c_add g a b ≤ 9; omega
    all_goals trivial
  · have := c_add_r g a b; unfold A_add; repeat' split
    · show c_add g a b ≤ 9; omega
    all_goals trivial
  · have := c_rem_r g a b; unfold A_rem; repeat' split
    · show c_rem g a b ≤ 9; omega
    all_goals trivial
  · have := c_repl_r a b; unfold A_repl; repeat' split
    · show c_repl a b ≤ 9; omega
    all_goals trivial
  · have := c_back_r g a; unfold A_back; repeat' split
    · show c_back g a ≤ 9; omega
    all_goals trivial
  · unfold A_open; split
    · show (1 : Int) ≤ 9; decide
    · trivial
  · unfold A_close; split
    · trivial
    · show (1 : Int) ≤ 9; decide
  · have := c_op_r g a b; unfold A_make; repeat' split
    · show c_op g a b ≤ 9; omega
    all_goals trivial
  · have := c_tch_r g a b c; unfold A_tch; repeat' split
    · show c_tch g a b c ≤ 9; omega
    all_goals trivial
theorem D_cr (g fl : Int → Int) (k a b c : Int) : 0 ≤ rs_code (D_pl k) (D_res g fl k a b c) ∧ rs_code (D_pl k) (D_res g fl k a b c) ≤ 9 := by
  have h1 := D_pos g fl k a b c
  have h2 := D_top g fl k a b c
  have h3 := D_pl_r k
  generalize D_res g fl k a b c = R at h1 h2
  match R with
  | .inl v =>
    have h4 : 0 < v := h1
    have h5 : v ≤ 9 := h2
    show 0 ≤ v ∧ v ≤ 9
    omega
  | .inr (.inl q) => show 0 ≤ D_pl k ∧ D_pl k ≤ 9; omega
  | .inr (.inr q) => show (0 : Int) ≤ 0 ∧ (0 : Int) ≤ 9; decide
theorem rs_ref_r (R : Res) : 0 ≤ rs_ref R ∧ rs_ref R ≤ 1 := by
  match R with
  | .inl v => show (0 : Int) ≤ 0 ∧ (0 : Int) ≤ 1; decide
  | .inr (.inl q) => show (0 : Int) ≤ 1 ∧ (1 : Int) ≤ 1; decide
  | .inr (.inr q) => show (0 : Int) ≤ 0 ∧ (0 : Int) ≤ 1; decide
theorem rs_bad {pl dv : Int} {R : Res} (h : ¬ rs_code pl R = 0) : rs_val dv R = dv ∧ ∀ g, rs_g g R = g := by
  match R with
  | .inl v => exact ⟨rfl, fun _ => rfl⟩
  | .inr (.inl q) => exact ⟨rfl, fun _ => rfl⟩
  | .inr (.inr q) => exact absurd rfl h
theorem p_txt_b {inp : Int → Int} (hI : ∀ x, 0 ≤ inp x ∧ inp x < 65536) {len : Int} (hl : 0 ≤ len) {told : Int → Int} (h : TB told) : TB (p_txt inp len told).2.2.2 ∧ 0 ≤ (p_txt inp len told).2.1 ∧ 4 * (p_txt inp len told).2.1 ≤ len + 1 := by
  have := p_txN_b hI len 61 0 (0, told) ⟨Int.le_refl 0, hl⟩ h
  unfold p_txt
  exact ⟨this.1, this.2.1, by have := this.2.2; simp only at this; omega⟩
/-- by how a text went: no text, all done, one failed -/
def x_sel {α : Type} (X : Bool × Int × PS) (T : Int × (Int → Int) × Option Res) (a b c : α) : α := if X.1 = true then (match T.2.2 with | none => b | some _ => c) else a
theorem x_sel0 {α : Type} {X : Bool × Int × PS} {T : Int × (Int → Int) × Option Res} {a b c : α} (h : X.1 = false) : x_sel X T a b c = a := if_neg (by rw [h]; decide)
theorem x_sel1 {α : Type} {X : Bool × Int × PS} {T : Int × (Int → Int) × Option Res} {a b c : α} {dn : Int} {g : Int → Int} (h : X.1 = true) (hT : T = (dn, g, none)) : x_sel X T a b c = b := by
  subst hT
  exact if_pos h
theorem x_sel2 {α : Type} {X : Bool × Int × PS} {T : Int × (Int → Int) × Option Res} {a b c : α} {dn : Int} {g : Int → Int} {R : Res} (h : X.1 = true) (hT : T = (dn, g, some R)) : x_sel X T a b c = c := by
  subst hT
  exact if_pos h
/-- the cause that a failed text is refused for -/
def x_cau (w : Int) (T : Int × (Int → Int) × Option Res) : Int := match T.2.2 with | none => 0 | some R => if rs_ref R = 0 then 9 else rs_why w R
theorem X_mode1 {told gv : Int → Int} {tm dn z : Int} {Z : Nat} {w dt ca : Int} {T : Int × (Int → Int) × Option Res} {R : Res} {w2 d2 c2 i2 N : Int} (hz : X_run told tm (Z + 1) dn gv = T) (hd : dn < tm) (hR : X_res told gv dn = R) (hc : rs_code (D_pl (told (4 * dn))) R = 0) (hri : RIV N (rs_g gv R)) (hi2 : i2 = rs_ref R) (hw2 : w2 = rs_why w R) (hd2 : d2 = rs_det dt R) (hc2 : c2 = rs_cau ca R) (hzz : z = 0) : z = 0 ∧ i2 = 0 ∧ w2 = w ∧ d2 = dt ∧ c2 = ca ∧ RIV N (rs_g gv R) ∧ X_run told tm Z (dn + 1) (rs_g gv R) = T := by
  have h1 := D_pl_r (told (4 * dn))
  have h2 : PC R := by rw [← hR]; exact D_pos _ _ _ _ _ _
  have h3 := rs_succ (by omega : 1 ≤ D_pl (told (4 * dn))) hc (PC_inl h2)
  exact ⟨hzz, by rw [hi2]; exact h3.1, by rw [hw2]; exact h3.2.1 w, by rw [hd2]; exact h3.2.2.1 dt, by rw [hc2]; exact h3.2.2.2 ca, hri, X_ok hz hd hR hc⟩
