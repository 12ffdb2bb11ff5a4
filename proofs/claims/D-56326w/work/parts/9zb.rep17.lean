/-! ===== the class reads as the reference reads ===== -/
def mIt (f : Int → Int) (n : Int) (it : Nat × Nat) (pl : Int) : PS → PR := if it.1 = 0 then p_wd f n (TX.getD it.2 []) else if it.1 = 1 then p_one (kSc (decide (it.2 = 1))) f n pl else p_fig f n pl (it.2 : Int)
def mCh (f : Int → Int) (n : Int) : List (Nat × Nat) → Int → PS → PR
  | [], _, x => (true, x)
  | it :: L, pl, x => p_and (mIt f n it pl) (mCh f n L (if it.1 = 0 then pl else pl + 1)) x
def kCt : List (Nat × Nat) → Int
  | [] => 0
  | it :: L => (if it.1 = 0 then 0 else 1) + kCt L
theorem kCt_0 : ∀ L, 0 ≤ kCt L
  | [] => Int.le_refl _
  | it :: L => by
    have := kCt_0 L
    show 0 ≤ (if it.1 = 0 then (0 : Int) else 1) + kCt L
    split <;> omega
theorem p_skip_i {f : Int → Int} {n v p : Int} (T U : Int → Int) : (p_skip f n v (p, T)).1 = (p_skip f n v (p, U)).1 ∧ (p_skip f n v (p, T)).2.1 = (p_skip f n v (p, U)).2.1 := by
  unfold p_skip
  by_cases h : p_here f n p = v
  · rw [if_pos h, if_pos h]; exact ⟨rfl, rfl⟩
  · rw [if_neg h, if_neg h]; exact ⟨rfl, rfl⟩
theorem p_wd_i {f : Int → Int} {n : Int} : ∀ (L : List Int) (p : Int) (T U : Int → Int), p_wd f n L (p, T) = ((p_wd f n L (p, U)).1, (p_wd f n L (p, U)).2.1, T)
  | [], p, T, U => rfl
  | v :: L, p, T, U => by
    by_cases h : p_here f n p = v
    · show (if (p_skip f n v (p, T)).1 = true then p_wd f n L (p_skip f n v (p, T)).2 else (false, (p_skip f n v (p, T)).2)) = _
      have e2 : p_wd f n (v :: L) (p, U) = p_wd f n L (p + 1, U) := by
        show (if (p_skip f n v (p, U)).1 = true then p_wd f n L (p_skip f n v (p, U)).2 else (false, (p_skip f n v (p, U)).2)) = _
        rw [p_skip_y h, if_pos rfl]
      rw [e2, p_skip_y h, if_pos rfl]
      exact p_wd_i L (p + 1) T U
    · show (if (p_skip f n v (p, T)).1 = true then p_wd f n L (p_skip f n v (p, T)).2 else (false, (p_skip f n v (p, T)).2)) = _
      have e2 : p_wd f n (v :: L) (p, U) = (false, p, U) := by
        show (if (p_skip f n v (p, U)).1 = true then p_wd f n L (p_skip f n v (p, U)).2 else (false, (p_skip f n v (p, U)).2)) = _
        rw [p_skip_n h, if_neg (by intro h; cases h)]
      rw [e2, p_skip_n h, if_neg (by intro h; cases h)]
theorem p_one_i {z : Bool} {f : Int → Int} {n pl p : Int} {T : Int → Int} : p_one (kSc z) f n pl (p, T) = ((kLt z f n p).1, (kLt z f n p).2.1, if (kLt z f n p).1 = true then ui T pl ((kLt z f n p).2.2 1) else T) := by
  by_cases h : p_here f n p = 32
  · cases h2 : kSc z (p_here f n (p + 1)) with
    | true =>
      have h3 := kLt_2 h h2
      rw [h3.1, h3.2.1, h3.2.2, if_pos rfl]
      unfold p_one
      rw [p_skip_y h, if_pos rfl, if_pos (show kSc z (p_here f n (p + 1)) = true from h2)]
    | false =>
      have h3 := kLt_1 (z := z) h h2
      rw [h3.1, h3.2, if_neg (by intro h; cases h)]
      unfold p_one
      rw [p_skip_y h, if_pos rfl, if_neg (by show ¬ kSc z (p_here f n (p + 1)) = true; rw [h2]; decide)]
  · have h3 := kLt_0 (z := z) h
    rw [h3.1, h3.2, if_neg (by intro h; cases h)]
    unfold p_one
    rw [p_skip_n h, if_neg (by intro h; cases h)]
theorem p_fig_i {d : Int} {f : Int → Int} {n pl p : Int} {T : Int → Int} : p_fig f n pl d (p, T) = ((kNm d f n p).1, (kNm d f n p).2.1, if (kNm d f n p).1 = true then ui T pl ((kNm d f n p).2.2 1) else T) := by
  by_cases h : p_here f n p = 32
  · cases h2 : p_dg (p_here f n (p + 1)) with
    | true =>
      have h3 := kNm_2 (d := d) h h2 rfl
      rw [h3.1, h3.2.1, h3.2.2, if_pos rfl]
      unfold p_fig
      rw [p_skip_y h, if_pos rfl, if_pos (show p_dg (p_here f n (p + 1)) = true from h2)]
    | false =>
      have h3 := kNm_1 (d := d) h h2
      rw [h3.1, h3.2, if_neg (by intro h; cases h)]
      unfold p_fig
      rw [p_skip_y h, if_pos rfl, if_neg (by show ¬ p_dg (p_here f n (p + 1)) = true; rw [h2]; decide)]
  · have h3 := kNm_0 (d := d) h
    rw [h3.1, h3.2, if_neg (by intro h; cases h)]
    unfold p_fig
    rw [p_skip_n h, if_neg (by intro h; cases h)]
theorem mIt_i {f : Int → Int} {n pl p : Int} {it : Nat × Nat} {T : Int → Int} : mIt f n it pl (p, T) = ((kIt f n it p).1, (kIt f n it p).2.1, if it.1 = 0 then T else if (kIt f n it p).1 = true then ui T pl ((kIt f n it p).2.2 1) else T) := by
  unfold mIt kIt
  by_cases h : it.1 = 0
  · rw [if_pos h, if_pos h, if_pos h]
    exact p_wd_i _ _ _ _
  · rw [if_neg h, if_neg h, if_neg h]
    by_cases h1 : it.1 = 1
    · rw [if_pos h1, if_pos h1]
      exact p_one_i
    · rw [if_neg h1, if_neg h1]
      exact p_fig_i
/-- x is what the reference reads from pl on, y what the class reads from q on -/
def SIM (c pl q : Int) (T U : Int → Int) (x y : PR) : Prop := x.1 = y.1 ∧ x.2.1 = y.2.1 ∧ (y.1 = true → (∀ i, q ≤ i → i < q + c → x.2.2 (pl + (i - q)) = y.2.2 i) ∧ (∀ j, j < pl → x.2.2 j = T j) ∧ ∀ j, j < q → y.2.2 j = U j)
theorem mCh_sim {f : Int → Int} {n : Int} : ∀ (L : List (Nat × Nat)) (pl q p : Int) (T U : Int → Int), SIM (kCt L) pl q T U (mCh f n L pl (p, T)) (kCh f n L q (p, U))
  | [], pl, q, p, T, U => ⟨rfl, rfl, fun _ => ⟨fun i h1 h2 => by simp only [kCt] at h2; omega, fun _ _ => rfl, fun _ _ => rfl⟩⟩
  | it :: L, pl, q, p, T, U => by
    have e : mCh f n (it :: L) pl (p, T) = p_and (mIt f n it pl) (mCh f n L (if it.1 = 0 then pl else pl + 1)) (p, T) := rfl
    have e2 : kCh f n (it :: L) q (p, U) = if (kIt f n it p).1 = true then kCh f n L (if it.1 = 0 then q else q + 1) ((kIt f n it p).2.1, if it.1 = 0 then U else ui U q ((kIt f n it p).2.2 1)) else (false, ((kIt f n it p).2.1, U)) := rfl
    rw [e, e2]
    unfold p_and
    rw [mIt_i]
    cases hc : (kIt f n it p).1 with
    | false => exact ⟨rfl, rfl, fun h => absurd (show false = true from h) Bool.false_ne_true⟩
    | true =>
      have hL := kCt_0 L
      by_cases h0 : it.1 = 0
      · have := mCh_sim (f := f) (n := n) L pl q (kIt f n it p).2.1 T U
        unfold SIM at this ⊢
        rw [show kCt (it :: L) = kCt L from by show (if it.1 = 0 then (0 : Int) else 1) + kCt L = _; rw [if_pos h0]; omega]
        simp only [h0, if_true]
        exact this
      · obtain ⟨h1, h2, h3⟩ := mCh_sim (f := f) (n := n) L (pl + 1) (q + 1) (kIt f n it p).2.1 (ui T pl ((kIt f n it p).2.2 1)) (ui U q ((kIt f n it p).2.2 1))
        simp only [h0, if_true, if_false]
        refine ⟨h1, h2, fun hy => ?_⟩
        obtain ⟨h4, h5, h6⟩ := h3 hy
        have hct : kCt (it :: L) = 1 + kCt L := by show (if it.1 = 0 then (0 : Int) else 1) + kCt L = _; rw [if_neg h0]
        refine ⟨fun i hi1 hi2 => ?_, fun j hj => ?_, fun j hj => ?_⟩
        · by_cases hiq : i = q
          · subst hiq
            have a1 := h5 pl (by omega)
            have a2 := h6 i (by omega)
            rw [show pl + (i - i) = pl by omega]
            refine a1.trans (Eq.trans ?_ a2.symm)
            unfold ui
            rw [if_pos rfl, if_pos rfl]
          · have := h4 i (by omega) (by omega)
            rw [show pl + 1 + (i - (q + 1)) = pl + (i - q) by omega] at this
            exact this
        · refine (h5 j (by omega)).trans ?_
          unfold ui
          rw [if_neg (by omega)]
        · refine (h6 j (by omega)).trans ?_
          unfold ui
          rw [if_neg (by omega)]
theorem p_and_id (G : PS → PR) (x : PS) : p_and G (fun y => (true, y)) x = G x := by
  unfold p_and
  cases h : (G x).1 with
  | true => rw [if_pos rfl, ← h]
  | false => rw [if_neg (by intro h; cases h), ← h]
theorem p_and_e {F G G2 : PS → PR} (h : ∀ y, G y = G2 y) (x : PS) : p_and F G x = p_and F G2 x := by
  rw [show G = G2 from funext h]
/-- the first sign of a word -/
theorem kCh_1 {f : Int → Int} {n q p v : Int} {k k2 : Nat} {L : List (Nat × Nat)} {U : Int → Int} (hk : TX.getD k [] = v :: TX.getD k2 []) (h : p_here f n p = v) : kCh f n ((0, k) :: L) q (p, U) = kCh f n ((0, k2) :: L) q (p + 1, U) := by
  have e : kIt f n (0, k) p = kIt f n (0, k2) (p + 1) := by
    show p_wd f n (TX.getD k []) (p, kT0) = p_wd f n (TX.getD k2 []) (p + 1, kT0)
    rw [hk]
    show (if (p_skip f n v (p, kT0)).1 = true then p_wd f n (TX.getD k2 []) (p_skip f n v (p, kT0)).2 else (false, (p_skip f n v (p, kT0)).2)) = _
    rw [p_skip_y h, if_pos rfl]
  show (if (kIt f n (0, k) p).1 = true then _ else _) = (if (kIt f n (0, k2) (p + 1)).1 = true then _ else _)
  rw [e]
theorem kCh_n {f : Int → Int} {n q p v : Int} {k : Nat} {T2 : List Int} {L : List (Nat × Nat)} {U : Int → Int} (hk : TX.getD k [] = v :: T2) (h : ¬ p_here f n p = v) : kCh f n ((0, k) :: L) q (p, U) = (false, p, U) := by
  have e : kIt f n (0, k) p = (false, p, kT0) := by
    show p_wd f n (TX.getD k []) (p, kT0) = _
    rw [hk]
    show (if (p_skip f n v (p, kT0)).1 = true then _ else (false, (p_skip f n v (p, kT0)).2)) = _
    rw [p_skip_n h, if_neg (by intro h; cases h)]
  show (if (kIt f n (0, k) p).1 = true then _ else (false, ((kIt f n (0, k) p).2.1, U))) = _
  rw [e, if_neg (by intro h; cases h)]
theorem p_if_y {F G K : PS → PR} {x : PS} {y : PS} (h : F x = (true, y)) : p_if F G K x = G y := by
  unfold p_if
  rw [h, if_pos rfl]
theorem p_if_n {F G K : PS → PR} {x : PS} (h : F x = (false, x)) : p_if F G K x = K x := by
  unfold p_if
  rw [h, if_neg (by intro h; cases h)]
/-- what a command says -/
def CSIM (f : Int → Int) (n p tm : Int) (T : Int → Int) (x : PR) : Prop := x.1 = (kCm f n p).1 ∧ x.2.1 = (kCm f n p).2.1 ∧ ((kCm f n p).1 = true → x.2.2 (4 * tm) = kKd f n p ∧ (∀ i, 1 ≤ i → i < 1 + kCt (kLs (kKd f n p)) → x.2.2 (4 * tm + i) = (kCm f n p).2.2 i) ∧ ∀ j, j < 4 * tm → x.2.2 j = T j)
theorem CSIM_of {f : Int → Int} {n p tm p2 k : Int} {T : Int → Int} {x : PR} {L : List (Nat × Nat)} (hkd : kKd f n p = k) (hy : kCm f n p = kCh f n L 1 (p2, kT0)) (hc : kCt L = kCt (kLs k)) (hx : x = mCh f n L (4 * tm + 1) (p2, ui T (4 * tm) k)) : CSIM f n p tm T x := by
  obtain ⟨h1, h2, h3⟩ := mCh_sim (f := f) (n := n) L (4 * tm + 1) 1 p2 (ui T (4 * tm) k) kT0
  unfold CSIM
  rw [hkd, hy, hx]
  refine ⟨h1, h2, fun h => ?_⟩
  obtain ⟨h4, h5, -⟩ := h3 h
  refine ⟨?_, fun i hi1 hi2 => ?_, fun j hj => ?_⟩
  · refine (h5 (4 * tm) (by omega)).trans ?_
    unfold ui
    rw [if_pos rfl]
  · have := h4 i hi1 (by omega)
    rw [show 4 * tm + 1 + (i - 1) = 4 * tm + i by omega] at this
    exact this
  · refine (h5 j (by omega)).trans ?_
    unfold ui
    rw [if_neg (by omega)]
theorem CSIM_no {f : Int → Int} {n p tm p2 : Int} {T U : Int → Int} {x : PR} (hy : kCm f n p = (false, p2, U)) (hx : x.1 = false ∧ x.2.1 = p2) : CSIM f n p tm T x := by
  unfold CSIM
  rw [hy]
  exact ⟨hx.1, hx.2, fun h => by cases h⟩
