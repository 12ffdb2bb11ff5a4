/-! ===== a text's commands ===== -/
/-- the value of the done-th command of a text -/
noncomputable def X_res (told g : Int → Int) (dn : Int) : Res := D_res g (fun _ => 0) (told (4 * dn)) (told (4 * dn + 1)) (told (4 * dn + 2)) (told (4 * dn + 3))
/-- the commands from the dn-th on: how many were done, the row, the value of the one that failed -/
noncomputable def X_run (told : Int → Int) (tm : Int) : Nat → Int → (Int → Int) → Int × (Int → Int) × Option Res
  | 0, dn, g => (dn, g, none)
  | n + 1, dn, g => if dn < tm then (if rs_code (D_pl (told (4 * dn))) (X_res told g dn) = 0 then X_run told tm n (dn + 1) (rs_g g (X_res told g dn)) else (dn, rs_g g (X_res told g dn), some (X_res told g dn))) else (dn, g, none)
theorem X_ok {told g : Int → Int} {tm dn : Int} {n : Nat} {T : Int × (Int → Int) × Option Res} {R : Res} (h : X_run told tm (n + 1) dn g = T) (hd : dn < tm) (hR : X_res told g dn = R) (hc : rs_code (D_pl (told (4 * dn))) R = 0) : X_run told tm n (dn + 1) (rs_g g R) = T := by
  unfold X_run at h
  rw [if_pos hd, hR, if_pos hc] at h
  exact h
theorem X_no {told g : Int → Int} {tm dn : Int} {n : Nat} {T : Int × (Int → Int) × Option Res} {R : Res} (h : X_run told tm (n + 1) dn g = T) (hd : dn < tm) (hR : X_res told g dn = R) (hc : ¬ rs_code (D_pl (told (4 * dn))) R = 0) : T = (dn, rs_g g R, some R) := by
  unfold X_run at h
  rw [if_pos hd, hR, if_neg hc] at h
  exact h.symm
theorem X_end {told g : Int → Int} {tm dn : Int} {n : Nat} {T : Int × (Int → Int) × Option Res} (h : X_run told tm n dn g = T) (hd : tm ≤ dn) : T = (dn, g, none) := by
  cases n with
  | zero => exact h.symm
  | succ n =>
    unfold X_run at h
    rw [if_neg (by omega)] at h
    exact h.symm
theorem D_pl_r (k : Int) : 1 ≤ D_pl k ∧ D_pl k ≤ 3 := by unfold D_pl; repeat' split <;> omega
theorem D_dv_r (k : Int) : 0 ≤ D_dv k ∧ D_dv k ≤ 32 := by unfold D_dv; split <;> omega
/-- what a success leaves as it was -/
theorem rs_succ {pl : Int} {R : Res} (h : 1 ≤ pl) (hc : rs_code pl R = 0) (hno : ∀ v, R = .inl v → 0 < v) : rs_ref R = 0 ∧ (∀ w, rs_why w R = w) ∧ (∀ w, rs_det w R = w) ∧ ∀ w, rs_cau w R = w := by
  match R with
  | .inl v =>
    have h1 := hno v rfl
    have h2 : v = 0 := hc
    omega
  | .inr (.inl q) =>
    have h2 : pl = 0 := hc
    omega
  | .inr (.inr q) => exact ⟨rfl, fun _ => rfl, fun _ => rfl, fun _ => rfl⟩
theorem rs_kw1 {w c : Int} (hw : w ≠ 0) (h row : Int → Int) (R : Res) : rs_kw w h row c R = h ∧ rs_cw w c R = c := by
  match R with
  | .inl v => exact ⟨rfl, rfl⟩
  | .inr (.inl q) => exact ⟨rfl, rfl⟩
  | .inr (.inr q) => exact ⟨if_neg hw, if_neg hw⟩
