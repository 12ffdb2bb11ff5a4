/-! ===== execute: what a text's changes leave ===== -/
theorem X_inv {told : Int → Int} {tm N : Int} (hN : 0 ≤ N) : ∀ (z : Nat) (dn : Int) (g : Int → Int), dn ≤ tm → RIV (400000 * (tm - dn) + N) g → CI g → RIV N (X_run told tm z dn g).2.1 ∧ CI (X_run told tm z dn g).2.1
  | 0, dn, g, hd, hr, hc => ⟨RIV_le hr (by omega), hc⟩
  | z + 1, dn, g, hd, hr, hc => by
    unfold X_run
    split
    · rename_i h1
      have h2 : RIV (400000 * (tm - (dn + 1)) + N) (rs_g g (X_res told g dn)) := riv_res (N := 400000 * (tm - (dn + 1)) + N) (RIV_le hr (by omega)) (by omega) (fun _ => by decide) _ _ _ _
      have h3 : CI (rs_g g (X_res told g dn)) := ci_res (N := 400000 * (tm - (dn + 1)) + N) (RIV_le hr (by omega)) (by omega) (fun _ => by decide) hc _ _ _ _
      split
      · exact X_inv hN z (dn + 1) _ (by omega) h2 h3
      · exact ⟨RIV_le h2 (by omega), h3⟩
    · exact ⟨RIV_le hr (by omega), hc⟩
theorem X_inv0 {told : Int → Int} {tm N : Int} {g : Int → Int} (h : RIV (4400000 + N) g) (hc : CI g) (hN : 0 ≤ N) (ht : 0 ≤ tm ∧ tm ≤ 10) : RIV N (X_run told tm 61 0 g).2.1 ∧ CI (X_run told tm 61 0 g).2.1 := X_inv hN 61 0 g ht.1 (RIV_le h (by omega)) hc
/-- thrown out of execute: attempt, latest refusal, place of the error, the refusal's cells, the list -/
abbrev TAX : Type := SU × Option Nat × Int × va_W × (Int × Nat × Int × (Int → Option Nat))
def XEX (E : EE) (xt : Bool × Int × Int × (Int → Int)) (xr : Int × (Int → Int) × Option Res) (sa : SU) (lt : Option Nat) (ep am : Int) (En : String) (u : TAX) : Prop :=
  ((En = "java/lang/IllegalArgumentException" ∧ xt.1 = false ∧ u.1 = sa ∧ u.2.1 = lt ∧ u.2.2.1 = xt.2.2.1 ∧ u.2.2.2.1 = []) ∨ (En = "java/lang/UnsupportedOperationException" ∧ xt.1 = true ∧ u.2.2.1 = ep ∧ ∃ (q9 q8 : Nat) (vs pre : List Value), u.2.1 = some q9 ∧ u.2.2.2.1 = [(q8, .inr (5, vs))] ++ [(q9, .inr (5, pre ++ [iv 8, iv xr.1, .ref q8]))] ∧ (∃ R9, xr.2.2 = some R9 ∧ OSH R9 q8 vs) ∧ pre.length = 6)) ∧ (am ≤ u.2.2.2.2.1 ∧ u.2.2.2.2.1 ≤ am + 30) ∧ (0 ≤ u.2.2.2.2.2.2.1 ∧ u.2.2.2.2.2.2.1 ≤ 10) ∧ (u.2.2.2.2.2.1 = EX E 71 → u.2.2.2.2.2.2.1 = 0)
theorem n_neX {E : EE} {H : Heap} {r q : Nat} {vs vs2 : List Value} (h1 : va_P E.1 CL ([(r, .inr (5, vs))] : va_W) H) (h2 : va_P E.1 CL ([(q, .inr (5, vs2))] : va_W) H) (hne : vp_V vs 8 ≠ vp_V vs2 8) : ¬ r = q := by
  rintro rfl
  obtain ⟨c1, hc1, cell1, e1, -, -, s1⟩ := h1 0 _ rfl
  obtain ⟨c2, hc2, cell2, e2, -, -, s2⟩ := h2 0 _ rfl
  cases Option.some.inj (hc1.symm.trans hc2)
  cases Option.some.inj (e1.symm.trans e2)
  have hc1 : CL[5]? = some c1 := hc1
  have hN : 8 < c1.2.2 := by rw [← Option.some.inj hc1]; decide
  have h3 := (s1 8 hN).symm.trans (s2 8 hN)
  exact hne (Option.some.inj h3)
theorem n_neO {R : Res} {r : Nat} {vs pre : List Value} {a b : Value} {z : Nat} (h : OSH R r vs) (hp : pre.length = 6) : vp_V vs 8 ≠ vp_V (pre ++ [a, b, .ref z]) 8 := by
  obtain ⟨⟨p2, hp2, rfl⟩, -⟩ := h
  match pre, hp with
  | [x0, x1, x2, x3, x4, x5], _ =>
    match p2, hp2 with
    | [y0, y1, y2, y3, y4, y5], _ =>
      intro h
      have h : (Value.null) = Value.ref z := h
      cases h
/-- a cell younger than the world joins it, behind another that is not it -/
theorem n_joinY {E : EE} {A : Nat → Prop} {H : Heap} {ws : va_W} {L0 : List Nat} {n q r : Nat} {x y : va_E} (hlt : ∀ a ∈ L0, a < n) (he : ws.map Prod.fst = L0) (hP : va_P E.1 CL (ws ++ ([(r, y)] : va_W)) H) (hD : va_D A (ws ++ ([(r, y)] : va_W))) (hq : n ≤ q) (hAq : A q) (hPq : va_P E.1 CL ([(q, x)] : va_W) H) (hne : ¬ r = q) : va_P E.1 CL (ws ++ ([(r, y)] : va_W) ++ ([(q, x)] : va_W)) H ∧ va_D A (ws ++ ([(r, y)] : va_W) ++ ([(q, x)] : va_W)) := by
  refine ⟨hP.app hPq, va_D_pw.mpr ⟨List.pairwise_append.mpr ⟨(va_D_pw.mp hD).1, List.pairwise_singleton _ _, fun z hz w hw e9 => ?_⟩, fun z hz => ?_⟩⟩
  · rw [List.mem_singleton] at hw
    subst hw
    have h2 : z.1 = q := e9
    rcases List.mem_append.mp hz with h | h
    · have h1 := hlt z.1 (by rw [← he]; exact List.mem_map.mpr ⟨z, h, rfl⟩)
      omega
    · rw [List.mem_singleton] at h
      subst h
      exact hne h2
  · rcases List.mem_append.mp hz with h | h
    · exact (va_D_pw.mp hD).2 z h
    · rw [List.mem_singleton] at h
      subst h
      exact hAq
