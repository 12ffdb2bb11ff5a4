/-! ===== the law: the pool opened; texts ===== -/
theorem cat_open {L : List va_W} {x s y t : va_W} (h : x = s ++ (y ++ t)) : (cat (L ++ [x])).Perm (cat (L ++ [y, s ++ t])) := by
  rw [cat_fl, cat_fl, List.flatten_append, List.flatten_append, h]
  refine List.Perm.append_left _ ?_
  simp only [List.flatten_cons, List.flatten_nil, List.append_nil]
  rw [← List.append_assoc, ← List.append_assoc]
  exact List.Perm.append_right t List.perm_append_comm
theorem cat_two {L R : List va_W} {x y : va_W} : cat (L ++ (x ++ y) :: R) = cat (L ++ x :: y :: R) := by
  rw [cat_fl, cat_fl, List.flatten_append, List.flatten_append, List.flatten_cons, List.flatten_cons, List.flatten_cons, List.append_assoc]
section ADDZ
variable {N : Int} {g : Int → Int}
theorem riv_addz (hi : RIV N g) (a b : Int) (z : Bool) : RIV N (rs_g g (A_add g a b z)) := riv_add hi a b z
theorem ci_addz (hr : RIV N g) (hi : CI g) (a b : Int) (z : Bool) : CI (rs_g g (A_add g a b z)) := ci_add hr hi a b z
theorem ref_addz (hi : RIV N g) (a b : Int) (z : Bool) : PCW (A_add g a b z) := by
  cases z
  · exact D_ref (fl := fun _ => 0) hi 2 a b 0
  · exact D_ref (fl := fun _ => 0) hi 3 a b 0
theorem cr_addz (g : Int → Int) (a b : Int) (z : Bool) : 0 ≤ rs_code 3 (A_add g a b z) ∧ rs_code 3 (A_add g a b z) ≤ 9 := by
  cases z
  · exact D_cr g (fun _ => 0) 2 a b 0
  · exact D_cr g (fun _ => 0) 3 a b 0
end ADDZ
/-- where a text's reading ends -/
theorem p_txN_p {inp : Int → Int} (hI : ∀ x, 0 ≤ inp x ∧ inp x < 65536) (len : Int) : ∀ (n : Nat) (tm : Int) (x : PS), 0 ≤ x.1 ∧ x.1 ≤ len → 0 ≤ (p_txN inp len n tm x).2.2.1 ∧ (p_txN inp len n tm x).2.2.1 ≤ len
  | 0, tm, x, hx => hx
  | n + 1, tm, x, hx => by
    have h1 := p_cmd_r hI len tm x hx
    cases hc : (p_cmd inp len tm x).1 with
    | false =>
      rw [p_tx_0 (T := p_txN inp len (n + 1) tm x) rfl rfl hc]
      exact ⟨h1.1, h1.2.1⟩
    | true =>
      have h2 := p_skip_r hI (v := 59) (by decide) (x := (p_cmd inp len tm x).2) (len := len) ⟨h1.1, h1.2.1⟩
      cases hd : (p_skip inp len 59 (p_cmd inp len tm x).2).1 with
      | true =>
        rw [← p_tx_1 (T := p_txN inp len (n + 1) tm x) rfl rfl hc rfl hd]
        exact p_txN_p hI len n (tm + 1) _ ⟨h2.1, h2.2.1⟩
      | false =>
        rw [p_tx_2 (T := p_txN inp len (n + 1) tm x) rfl rfl hc rfl hd]
        exact ⟨h2.1, h2.2.1⟩
theorem p_txt_p {inp : Int → Int} (hI : ∀ x, 0 ≤ inp x ∧ inp x < 65536) {len : Int} (hl : 0 ≤ len) (told : Int → Int) : 0 ≤ (p_txt inp len told).2.2.1 ∧ (p_txt inp len told).2.2.1 ≤ len := p_txN_p hI len 61 0 (0, told) ⟨Int.le_refl 0, hl⟩
/-- the refusal that a text's changes end with; how many were done -/
theorem X_ref {told : Int → Int} {tm N : Int} (hN : 0 ≤ N) : ∀ (z : Nat) (dn : Int) (g : Int → Int), dn ≤ tm → RIV (400000 * (tm - dn) + N) g → CI g → (dn ≤ (X_run told tm z dn g).1 ∧ (X_run told tm z dn g).1 ≤ tm) ∧ ∀ R, (X_run told tm z dn g).2.2 = some R → PCW R
  | 0, dn, g, hd, hr, hc => ⟨⟨Int.le_refl dn, hd⟩, fun R h => by cases h⟩
  | z + 1, dn, g, hd, hr, hc => by
    unfold X_run
    split
    · rename_i h1
      have h2 : RIV (400000 * (tm - (dn + 1)) + N) (rs_g g (X_res told g dn)) := riv_res (N := 400000 * (tm - (dn + 1)) + N) (RIV_le hr (by omega)) (by omega) (fun _ => by decide) _ _ _ _
      have h3 : CI (rs_g g (X_res told g dn)) := ci_res (N := 400000 * (tm - (dn + 1)) + N) (RIV_le hr (by omega)) (by omega) (fun _ => by decide) hc _ _ _ _
      split
      · obtain ⟨q1, q2⟩ := X_ref hN z (dn + 1) _ (by omega) h2 h3
        exact ⟨⟨by omega, q1.2⟩, q2⟩
      · refine ⟨⟨Int.le_refl dn, hd⟩, fun R h => ?_⟩
        cases h
        exact D_ref hr _ _ _ _
    · exact ⟨⟨Int.le_refl dn, hd⟩, fun R h => by cases h⟩
theorem x_selB {α : Type} {X : Bool × Int × PS} {T : Int × (Int → Int) × Option Res} (h : X.1 = true) (hT : T.2.2 = none) (a b c : α) : x_sel X T a b c = b := by
  unfold x_sel
  rw [if_pos h, hT]
theorem x_selC {α : Type} {X : Bool × Int × PS} {T : Int × (Int → Int) × Option Res} {R : Res} (h : X.1 = true) (hT : T.2.2 = some R) (a b c : α) : x_sel X T a b c = c := by
  unfold x_sel
  rw [if_pos h, hT]
theorem x_selA {α : Type} {X : Bool × Int × PS} {T : Int × (Int → Int) × Option Res} (h : X.1 = false) (a b c : α) : x_sel X T a b c = a := x_sel0 h
theorem x_cau_R {w : Int} {T : Int × (Int → Int) × Option Res} {R : Res} {q : Nat} {vs : List Value} (h : T.2.2 = some R) (ho : OSH R q vs) : x_cau w T = (oR R).1 := by
  unfold x_cau
  rw [h]
  match R, ho with
  | .inl c, _ => rfl
  | .inr (.inl v), _ => rfl
  | .inr (.inr z), ho => exact absurd ⟨z, rfl⟩ ho.2
theorem oR_w {R : Res} (h : PCW R) : 0 < (oR R).1 ∧ (oR R).1 < 100 := by
  match R, h with
  | .inl c, _ => exact (show 0 < (9 : Int) ∧ (9 : Int) < 100 by decide)
  | .inr (.inl v), h => exact h.1
  | .inr (.inr z), _ => exact (show 0 < (9 : Int) ∧ (9 : Int) < 100 by decide)
theorem x_sel_r {X : Bool × Int × PS} {T : Int × (Int → Int) × Option Res} : 0 ≤ x_sel X T (1 : Int) 0 2 ∧ x_sel X T (1 : Int) 0 2 ≤ 2 := by
  unfold x_sel
  split
  · split <;> omega
  · omega
theorem AG.tr {f g h : Int → Int} (h1 : AG f g) (h2 : AG g h) : AG f h := fun x a b => (h2 x a b).trans (h1 x a b)
