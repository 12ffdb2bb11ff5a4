/-! ===== the class reads as the reference reads: the eleven commands ===== -/
theorem mCh_c {f : Int → Int} {n pl pl2 : Int} {it : Nat × Nat} {L : List (Nat × Nat)} {F G : PS → PR} (hF : ∀ y, F y = mIt f n it pl y) (hpl : pl2 = if it.1 = 0 then pl else pl + 1) (hG : ∀ y, G y = mCh f n L pl2 y) : ∀ y, p_and F G y = mCh f n (it :: L) pl y := by
  intro y
  subst hpl
  rw [show F = mIt f n it pl from funext hF, show G = mCh f n L (if it.1 = 0 then pl else pl + 1) from funext hG]
  rfl
theorem mCh_l {f : Int → Int} {n pl : Int} {it : Nat × Nat} {F : PS → PR} (hF : ∀ y, F y = mIt f n it pl y) : ∀ y, F y = mCh f n [it] pl y := by
  intro y
  rw [hF]
  exact (p_and_id _ y).symm
theorem p_tools_m {f : Int → Int} {n pl : Int} : ∀ y, p_tools f n pl y = mCh f n [(1, 0), (1, 0)] pl y := mCh_c (it := (1, 0)) (fun _ => rfl) rfl (mCh_l (it := (1, 0)) (fun _ => rfl))
theorem p_word_m {f : Int → Int} {n tm p k : Int} {w : Nat} {T : Int → Int} {G : PS → PR} {L : List (Nat × Nat)} (hG : ∀ y, G y = mCh f n L (4 * tm + 1) y) : p_and (p_word f n (4 * tm) k (TX.getD w [])) G (p, T) = mCh f n ((0, w) :: L) (4 * tm + 1) (p, ui T (4 * tm) k) :=
  (show p_and (p_word f n (4 * tm) k (TX.getD w [])) G (p, T) = p_and (p_wd f n (TX.getD w [])) G (p, ui T (4 * tm) k) from rfl).trans (mCh_c (it := (0, w)) (fun _ => rfl) rfl hG _)
theorem p_and_y {F G : PS → PR} {x y : PS} (h : F x = (true, y)) : p_and F G x = G y := by
  unfold p_and
  rw [h, if_pos rfl]
theorem p_wd_n {f : Int → Int} {n p v : Int} {L T2 : List Int} {T : Int → Int} (hL : L = v :: T2) (h : ¬ p_here f n p = v) : p_wd f n L (p, T) = (false, p, T) := by
  subst hL
  show (if (p_skip f n v (p, T)).1 = true then p_wd f n T2 (p_skip f n v (p, T)).2 else (false, (p_skip f n v (p, T)).2)) = _
  rw [p_skip_n h, if_neg (by intro h; cases h)]
theorem kCh_e {f : Int → Int} {n q p p2 : Int} {it it2 : Nat × Nat} {L : List (Nat × Nat)} {U : Int → Int} (he : kIt f n it p = kIt f n it2 p2) (hi : it.1 = it2.1) : kCh f n (it :: L) q (p, U) = kCh f n (it2 :: L) q (p2, U) := by
  show (if (kIt f n it p).1 = true then _ else _) = (if (kIt f n it2 p2).1 = true then _ else _)
  rw [he, hi]
theorem p_wd_y {f : Int → Int} {n p v : Int} {L : List Int} {T : Int → Int} (h : p_here f n p = v) : p_wd f n (v :: L) (p, T) = p_wd f n L (p + 1, T) := by
  show (if (p_skip f n v (p, T)).1 = true then p_wd f n L (p_skip f n v (p, T)).2 else (false, (p_skip f n v (p, T)).2)) = _
  rw [p_skip_y h, if_pos rfl]
theorem kCh_w2 {f : Int → Int} {n q p v v2 : Int} {k k2 : Nat} {L : List (Nat × Nat)} {U : Int → Int} (hk : TX.getD k [] = v :: v2 :: TX.getD k2 []) (h : p_here f n p = v) (h2 : p_here f n (p + 1) = v2) : kCh f n ((0, k) :: L) q (p, U) = kCh f n ((0, k2) :: L) q (p + 1 + 1, U) := by
  refine kCh_e ?_ rfl
  show p_wd f n (TX.getD k []) (p, kT0) = p_wd f n (TX.getD k2 []) (p + 1 + 1, kT0)
  rw [hk, p_wd_y h, p_wd_y h2]
theorem kCh_w2n {f : Int → Int} {n q p v v2 : Int} {k : Nat} {T2 : List Int} {L : List (Nat × Nat)} {U : Int → Int} (hk : TX.getD k [] = v :: v2 :: T2) (h : p_here f n p = v) (h2 : ¬ p_here f n (p + 1) = v2) : kCh f n ((0, k) :: L) q (p, U) = (false, p + 1, U) := by
  have e : kIt f n (0, k) p = (false, p + 1, kT0) := by
    show p_wd f n (TX.getD k []) (p, kT0) = _
    rw [hk, p_wd_y h, p_wd_n rfl h2]
  show (if (kIt f n (0, k) p).1 = true then _ else (false, ((kIt f n (0, k) p).2.1, U))) = _
  rw [e, if_neg (by intro h; cases h)]
theorem p_cmd_k (f : Int → Int) (n p tm : Int) (T : Int → Int) : CSIM f n p tm T (p_cmd f n tm (p, T)) := by
  unfold p_cmd
  by_cases h114 : p_here f n p = 114
  · rw [p_if_y (p_skip_y h114)]
    exact CSIM_of (k := 0) (p2 := p + 1) (L := (0, 21) :: [(1, 0), (1, 1), (2, 2)]) (by unfold kKd; (repeat' split) <;> first | rfl | omega) (by unfold kCm; rw [show kKd f n p = 0 from (by unfold kKd; (repeat' split) <;> first | rfl | omega)]; exact kCh_1 (k := 10) (k2 := 21) (v := 114) rfl h114) rfl (p_word_m (mCh_c (it := (1, 0)) (fun _ => rfl) rfl (mCh_c (it := (1, 1)) (fun _ => rfl) rfl (mCh_l (it := (2, 2)) (fun _ => by rw [show 4 * tm + 1 + 2 = 4 * tm + 1 + 1 + 1 by omega]; rfl)))))
  rw [p_if_n (p_skip_n h114)]
  by_cases h100 : p_here f n p = 100
  · rw [p_if_y (p_skip_y h100)]
    exact CSIM_of (k := 1) (p2 := p + 1) (L := (0, 22) :: [(1, 0)]) (by unfold kKd; (repeat' split) <;> first | rfl | omega) (by unfold kCm; rw [show kKd f n p = 1 from (by unfold kKd; (repeat' split) <;> first | rfl | omega)]; exact kCh_1 (k := 11) (k2 := 22) (v := 100) rfl h100) rfl (p_word_m (mCh_l (it := (1, 0)) (fun _ => rfl)))
  rw [p_if_n (p_skip_n h100)]
  by_cases h110 : p_here f n p = 110
  · rw [p_if_y (p_skip_y h110)]
    exact CSIM_of (k := 2) (p2 := p + 1) (L := (0, 23) :: [(1, 0), (1, 0)]) (by unfold kKd; (repeat' split) <;> first | rfl | omega) (by unfold kCm; rw [show kKd f n p = 2 from (by unfold kKd; (repeat' split) <;> first | rfl | omega)]; exact kCh_1 (k := 13) (k2 := 23) (v := 110) rfl h110) rfl (p_word_m (p_tools_m))
  rw [p_if_n (p_skip_n h110)]
  by_cases h108 : p_here f n p = 108
  · rw [p_if_y (p_skip_y h108)]
    exact CSIM_of (k := 3) (p2 := p + 1) (L := (0, 24) :: [(1, 0), (1, 0)]) (by unfold kKd; (repeat' split) <;> first | rfl | omega) (by unfold kCm; rw [show kKd f n p = 3 from (by unfold kKd; (repeat' split) <;> first | rfl | omega)]; exact kCh_1 (k := 12) (k2 := 24) (v := 108) rfl h108) rfl (p_word_m (p_tools_m))
  rw [p_if_n (p_skip_n h108)]
  by_cases h99 : p_here f n p = 99
  · rw [p_if_y (p_skip_y h99)]
    by_cases h117 : p_here f n (p + 1) = 117
    · rw [p_if_y (p_skip_y h117)]
      exact CSIM_of (k := 4) (p2 := p + 1 + 1) (L := (0, 25) :: [(1, 0), (1, 0)]) (by unfold kKd; (repeat' split) <;> first | rfl | omega) (by unfold kCm; rw [show kKd f n p = 4 from (by unfold kKd; (repeat' split) <;> first | rfl | omega)]; exact (kCh_w2 (k := 15) (k2 := 25) (v := 99) (v2 := 117) rfl h99 h117)) rfl (p_word_m (p_tools_m))
    rw [p_if_n (p_skip_n h117)]
    by_cases h108 : p_here f n (p + 1) = 108
    · exact CSIM_of (k := 8) (p2 := p + 1) (L := (0, 26) :: [(2, 1)]) (by unfold kKd; (repeat' split) <;> first | rfl | omega) (by unfold kCm; rw [show kKd f n p = 8 from (by unfold kKd; (repeat' split) <;> first | rfl | omega)]; exact kCh_1 (k := 14) (k2 := 26) (v := 99) rfl h99) rfl (p_word_m (mCh_l (it := (2, 1)) (fun _ => rfl)))
    · refine CSIM_no (p2 := p + 1) (U := kT0) (by unfold kCm; rw [show kKd f n p = 4 from (by unfold kKd; (repeat' split) <;> first | rfl | omega)]; exact kCh_w2n (k := 15) (v := 99) (v2 := 117) rfl h99 h117) ?_
      have e9 : p_wd f n (TX.getD 26 []) (p + 1, ui T (4 * tm) 8) = (false, p + 1, ui T (4 * tm) 8) := p_wd_n (v := 108) rfl h108
      have e8 : p_word f n (4 * tm) 8 (TX.getD 26 []) (p + 1, T) = (false, p + 1, ui T (4 * tm) 8) := e9
      unfold p_and
      rw [e8]
      exact ⟨rfl, rfl⟩
  rw [p_if_n (p_skip_n h99)]
  by_cases h115 : p_here f n p = 115
  · rw [p_if_y (p_skip_y h115)]
    exact CSIM_of (k := 5) (p2 := p + 1) (L := (0, 27) :: [(1, 0), (1, 0)]) (by unfold kKd; (repeat' split) <;> first | rfl | omega) (by unfold kCm; rw [show kKd f n p = 5 from (by unfold kKd; (repeat' split) <;> first | rfl | omega)]; exact kCh_1 (k := 16) (k2 := 27) (v := 115) rfl h115) rfl (p_word_m (p_tools_m))
  rw [p_if_n (p_skip_n h115)]
  by_cases h98 : p_here f n p = 98
  · rw [p_if_y (p_skip_y h98)]
    exact CSIM_of (k := 6) (p2 := p + 1) (L := (0, 28) :: [(1, 0)]) (by unfold kKd; (repeat' split) <;> first | rfl | omega) (by unfold kCm; rw [show kKd f n p = 6 from (by unfold kKd; (repeat' split) <;> first | rfl | omega)]; exact kCh_1 (k := 17) (k2 := 28) (v := 98) rfl h98) rfl (p_word_m (mCh_l (it := (1, 0)) (fun _ => rfl)))
  rw [p_if_n (p_skip_n h98)]
  by_cases h111 : p_here f n p = 111
  · rw [p_if_y (p_skip_y h111)]
    exact CSIM_of (k := 7) (p2 := p + 1) (L := [(0, 29)]) (by unfold kKd; (repeat' split) <;> first | rfl | omega) (by unfold kCm; rw [show kKd f n p = 7 from (by unfold kKd; (repeat' split) <;> first | rfl | omega)]; exact kCh_1 (k := 18) (k2 := 29) (v := 111) rfl h111) rfl (mCh_l (it := (0, 29)) (F := p_wd f n (TX.getD 29 [])) (fun _ => rfl) (p + 1, ui T (4 * tm) 7))
  rw [p_if_n (p_skip_n h111)]
  by_cases h109 : p_here f n p = 109
  · rw [p_if_y (p_skip_y h109)]
    exact CSIM_of (k := 9) (p2 := p + 1) (L := (0, 30) :: [(1, 0), (2, 1)]) (by unfold kKd; (repeat' split) <;> first | rfl | omega) (by unfold kCm; rw [show kKd f n p = 9 from (by unfold kKd; (repeat' split) <;> first | rfl | omega)]; exact kCh_1 (k := 19) (k2 := 30) (v := 109) rfl h109) rfl (p_word_m (mCh_c (it := (1, 0)) (fun _ => rfl) rfl (mCh_l (it := (2, 1)) (fun _ => rfl))))
  rw [p_if_n (p_skip_n h109)]
  by_cases h116 : p_here f n p = 116
  · exact CSIM_of (k := 10) (p2 := p + 1) (L := (0, 31) :: [(2, 2), (2, 1), (2, 1)]) (by unfold kKd; (repeat' split) <;> first | rfl | omega) (by unfold kCm; rw [show kKd f n p = 10 from (by unfold kKd; (repeat' split) <;> first | rfl | omega)]; exact kCh_1 (k := 20) (k2 := 31) (v := 116) rfl h116) rfl ((p_and_y (p_skip_y h116)).trans (p_word_m (mCh_c (it := (2, 2)) (fun _ => rfl) rfl (mCh_c (it := (2, 1)) (fun _ => rfl) rfl (mCh_l (it := (2, 1)) (fun _ => by rw [show 4 * tm + 1 + 2 = 4 * tm + 1 + 1 + 1 by omega]; rfl))))))
  · refine CSIM_no (p2 := p) (U := kT0) (by unfold kCm; rw [show kKd f n p = 10 from (by unfold kKd; (repeat' split) <;> first | rfl | omega)]; exact kCh_n (k := 20) (v := 116) rfl h116) ?_
    unfold p_and
    rw [p_skip_n h116]
    exact ⟨rfl, rfl⟩
