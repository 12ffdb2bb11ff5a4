/-! ===== a text's changes ===== -/
theorem kKd_r (f : Int → Int) (n p : Int) : 0 ≤ kKd f n p ∧ kKd f n p ≤ 10 := by unfold kKd; (repeat' split) <;> omega
theorem kIt_v {f : Int → Int} (hf : B7 f) {n p : Int} (hp : 0 ≤ p ∧ p ≤ n) {it : Nat × Nat} (h0 : ¬ it.1 = 0) (hd : it.1 = 1 ∨ (1 ≤ it.2 ∧ it.2 ≤ 2)) (h : (kIt f n it p).1 = true) : 0 ≤ (kIt f n it p).2.2 1 ∧ (kIt f n it p).2.2 1 < 128 := by
  unfold kIt at h ⊢
  rw [if_neg h0] at h ⊢
  by_cases h1 : it.1 = 1
  · rw [if_pos h1] at h ⊢
    exact kLt_v hf h
  · rw [if_neg h1] at h ⊢
    have h2 := hd.resolve_left h1
    have := kNm_v hf hp h (by omega)
    omega
theorem kCh_v {f : Int → Int} (hf : B7 f) {n : Int} : ∀ (L : List (Nat × Nat)) (q p : Int) (U : Int → Int), (∀ it ∈ L, it.1 = 0 ∨ it.1 = 1 ∨ (1 ≤ it.2 ∧ it.2 ≤ 2)) → (0 ≤ p ∧ p ≤ n) → (kCh f n L q (p, U)).1 = true → (∀ i, q ≤ i → i < q + kCt L → 0 ≤ (kCh f n L q (p, U)).2.2 i ∧ (kCh f n L q (p, U)).2.2 i < 128) ∧ ∀ j, j < q → (kCh f n L q (p, U)).2.2 j = U j
  | [], q, p, U, _, _, _ => ⟨fun i h1 h2 => by simp only [kCt] at h2; omega, fun _ _ => rfl⟩
  | it :: L, q, p, U, hL, hp, h => by
    have e2 : kCh f n (it :: L) q (p, U) = if (kIt f n it p).1 = true then kCh f n L (if it.1 = 0 then q else q + 1) ((kIt f n it p).2.1, if it.1 = 0 then U else ui U q ((kIt f n it p).2.2 1)) else (false, ((kIt f n it p).2.1, U)) := rfl
    cases hc : (kIt f n it p).1 with
    | false =>
      rw [e2, hc] at h
      exact absurd (show false = true from h) Bool.false_ne_true
    | true =>
      rw [e2, if_pos hc] at h ⊢
      have hr := kIt_r hf hp it
      have hL0 := kCt_0 L
      by_cases h0 : it.1 = 0
      · rw [if_pos h0, if_pos h0] at h ⊢
        have := kCh_v hf L q (kIt f n it p).2.1 U (fun x hx => hL x (List.mem_cons_of_mem _ hx)) ⟨hr.1, hr.2.1⟩ h
        rw [show kCt (it :: L) = kCt L from by show (if it.1 = 0 then (0 : Int) else 1) + kCt L = _; rw [if_pos h0]; omega]
        exact this
      · rw [if_neg h0, if_neg h0] at h ⊢
        obtain ⟨h1, h2⟩ := kCh_v hf L (q + 1) (kIt f n it p).2.1 _ (fun x hx => hL x (List.mem_cons_of_mem _ hx)) ⟨hr.1, hr.2.1⟩ h
        have hct : kCt (it :: L) = 1 + kCt L := by show (if it.1 = 0 then (0 : Int) else 1) + kCt L = _; rw [if_neg h0]
        refine ⟨fun i hi1 hi2 => ?_, fun j hj => ?_⟩
        · by_cases hiq : i = q
          · subst hiq
            rw [h2 i (by omega)]
            unfold ui
            rw [if_pos rfl]
            exact kIt_v hf hp h0 ((hL it (List.mem_cons_self ..)).resolve_left h0) hc
          · exact h1 i (by omega) (by omega)
        · rw [h2 j (by omega)]
          unfold ui
          rw [if_neg (by omega)]
theorem kLs_ok (k : Int) : ∀ it ∈ kLs k, it.1 = 0 ∨ it.1 = 1 ∨ (1 ≤ it.2 ∧ it.2 ≤ 2) := by
  unfold kLs
  (repeat' split) <;> decide
theorem kCm_v {f : Int → Int} (hf : B7 f) {n p : Int} (hp : 0 ≤ p ∧ p ≤ n) (h : (kCm f n p).1 = true) : ∀ i, 1 ≤ i → i < 1 + kCt (kLs (kKd f n p)) → 0 ≤ (kCm f n p).2.2 i ∧ (kCm f n p).2.2 i < 128 := (kCh_v hf _ 1 p kT0 (kLs_ok _) hp h).1
/-- only what the kind needs counts -/
theorem chg_ag (E : EE) (q : Nat) {k a b c a2 b2 c2 : Int} (hk : 0 ≤ k ∧ k ≤ 10) (h1 : 1 ≤ kCt (kLs k) → a = a2) (h2 : 2 ≤ kCt (kLs k) → b = b2) (h3 : 3 ≤ kCt (kLs k) → c = c2) : chg E q k a b c = chg E q k a2 b2 c2 := by
  rcases (show k = 0 ∨ k = 1 ∨ k = 2 ∨ k = 3 ∨ k = 4 ∨ k = 5 ∨ k = 6 ∨ k = 7 ∨ k = 8 ∨ k = 9 ∨ k = 10 by omega) with rfl | rfl | rfl | rfl | rfl | rfl | rfl | rfl | rfl | rfl | rfl
  · rw [h1 (by decide), h2 (by decide), h3 (by decide)]
  · rw [h1 (by decide)]; rfl
  · rw [h1 (by decide), h2 (by decide)]; rfl
  · rw [h1 (by decide), h2 (by decide)]; rfl
  · rw [h1 (by decide), h2 (by decide)]; rfl
  · rw [h1 (by decide), h2 (by decide)]; rfl
  · rw [h1 (by decide)]; rfl
  · rfl
  · rw [h1 (by decide)]; rfl
  · rw [h1 (by decide), h2 (by decide)]; rfl
  · rw [h1 (by decide), h2 (by decide), h3 (by decide)]
/-- the list's first n places hold the changes that told says, whose cells are among pw -/
def CHG1 (E : EE) (told : Int → Int) (fq : Int → Option Nat) (pw : va_W) (i : Int) : Prop := ∃ q, fq i = some q ∧ (0 ≤ told (4 * i) ∧ told (4 * i) ≤ 10) ∧ (told (4 * i) = 7 → q = EX E 3020) ∧ (∀ x ∈ chg E q (told (4 * i)) (told (4 * i + 1)) (told (4 * i + 2)) (told (4 * i + 3)), x ∈ pw) ∧ ∀ j, 1 ≤ j → j < 1 + kCt (kLs (told (4 * i))) → 0 ≤ told (4 * i + j) ∧ told (4 * i + j) < 128
def CHL (E : EE) (told : Int → Int) (n : Int) (fq : Int → Option Nat) (pw : va_W) : Prop := ∀ i, 0 ≤ i → i < n → CHG1 E told fq pw i
theorem CHL_0 {E : EE} {told : Int → Int} {fq : Int → Option Nat} {pw : va_W} : CHL E told 0 fq pw := fun i h1 h2 => by omega
theorem CHL_s {E : EE} {f : Int → Int} (hf : B7 f) {n p k : Int} {T : Int → Int} {fq : Int → Option Nat} {pw : va_W} (hp : 0 ≤ p ∧ p ≤ n) (hk : 0 ≤ k) (h : CHL E T k fq pw) (hc : (kCm f n p).1 = true) {u : Nat} (h7 : kKd f n p = 7 → u = EX E 3020) :
    CHL E (p_cmd f n k (p, T)).2.2 (k + 1) (uq fq k (some u)) (pw ++ chg E u (kKd f n p) ((kCm f n p).2.2 1) ((kCm f n p).2.2 2) ((kCm f n p).2.2 3)) := by
  obtain ⟨-, -, h3⟩ := p_cmd_k f n p k T
  obtain ⟨h4, h5, h6⟩ := h3 hc
  have hkd := kKd_r f n p
  have hv := kCm_v hf hp hc
  intro i hi1 hi2
  by_cases e : i = k
  · subst e
    refine ⟨u, uq_s, by rw [h4]; exact hkd, by rw [h4]; exact h7, ?_, ?_⟩
    · rw [h4]
      have ea := chg_ag E u (k := kKd f n p) (a := (kCm f n p).2.2 1) (b := (kCm f n p).2.2 2) (c := (kCm f n p).2.2 3) (a2 := (p_cmd f n i (p, T)).2.2 (4 * i + 1)) (b2 := (p_cmd f n i (p, T)).2.2 (4 * i + 2)) (c2 := (p_cmd f n i (p, T)).2.2 (4 * i + 3)) hkd
        (fun h => (h5 1 (by omega) (by omega)).symm) (fun h => (h5 2 (by omega) (by omega)).symm) (fun h => (h5 3 (by omega) (by omega)).symm)
      rw [ea]
      exact fun x hx => List.mem_append_right _ hx
    · intro j hj1 hj2
      rw [h4] at hj2
      rw [h5 j hj1 hj2]
      exact hv j hj1 hj2
  · obtain ⟨q, a1, a2, a3, a4, a5⟩ := h i hi1 (by omega)
    have t0 : ∀ j, 0 ≤ j → j ≤ 3 → (p_cmd f n k (p, T)).2.2 (4 * i + j) = T (4 * i + j) := fun j _ _ => h6 _ (by omega)
    have e0 := t0 0 (by omega) (by omega)
    rw [show 4 * i + 0 = 4 * i by omega] at e0
    refine ⟨q, by rw [uq_n (by omega)]; exact a1, by rw [e0]; exact a2, by rw [e0]; exact a3, ?_, ?_⟩
    · rw [e0, t0 1 (by omega) (by omega), t0 2 (by omega) (by omega), t0 3 (by omega) (by omega)]
      exact fun x hx => List.mem_append_left _ (a4 x hx)
    · intro j hj1 hj2
      rw [e0] at hj2
      have hj3 : j ≤ 3 := by
        have : kCt (kLs (T (4 * i))) ≤ 3 := by unfold kLs; (repeat' split) <;> decide
        omega
      rw [t0 j (by omega) hj3]
      exact a5 j hj1 hj2
/-- the list and its array, if it has one -/
def LW (E : EE) (al : Nat) (amc : Int) (el : Nat) (an : Int) (fq : Int → Option Nat) : va_W := if el = EX E 71 then [(al, .inr (11, [iv amc, .ref el, iv an]))] else [(al, .inr (11, [iv amc, .ref el, iv an])), (el, qa (E.2 4) 10 fq)]
theorem LW_a (E : EE) (al : Nat) (amc an : Int) (fq : Int → Option Nat) : LW E al amc (EX E 71) an fq = [(al, .inr (11, [iv amc, .ref (EX E 71), iv an]))] := if_pos rfl
theorem LW_b {E : EE} {el : Nat} (h : ¬ el = EX E 71) (al : Nat) (amc an : Int) (fq : Int → Option Nat) : LW E al amc el an fq = [(al, .inr (11, [iv amc, .ref el, iv an]))] ++ [(el, qa (E.2 4) 10 fq)] := if_neg h
/-- an array of ours is not the empty list's -/
theorem ne_71 {E : EE} {A : Nat → Prop} {s : State} {ws : va_W} {q : Nat} {z : va_E} (hE : HE E A s s.heap) (hD : va_D A ws) (hm : (q, z) ∈ ws) : ¬ q = EX E 71 := by
  rintro rfl
  obtain ⟨cell, -, -, -, -, -, -, h7⟩ := hE.ea
  obtain ⟨i, hi⟩ := List.mem_iff_getElem?.mp hm
  exact h7 (hD.2 i _ hi)
