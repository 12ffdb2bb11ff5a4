/-! ===== the law: rows that agree where they are read ===== -/
def AG (g g2 : Int → Int) : Prop := ∀ x, 0 ≤ x → x < 661 → g2 x = g x
theorem AG_of {g g2 : Int → Int} (h : AG g g2) {t w : Int} (ht : 0 ≤ t ∧ t < 8) (hw : 0 ≤ w ∧ w < 7) : m_of g2 t w = m_of g t w := h _ (by omega) (by omega)
theorem AG_th {g g2 : Int → Int} (h : AG g g2) {k w : Int} (hk : 0 ≤ k ∧ k < 60) (hw : 0 ≤ w ∧ w < 10) : m_thing g2 k w = m_thing g k w := h _ (by omega) (by omega)
theorem RIV_ag {N : Int} {g g2 : Int → Int} (h : AG g g2) (hb : ∀ x, 0 ≤ g2 x ∧ g2 x < 2147483648) (hi : RIV N g) : RIV N g2 := by
  obtain ⟨hT, ⟨ho1, ho2, ho3⟩, -, h60, hbg, h2, h3, h4⟩ := hi
  have e1 := h 1 (by decide) (by decide)
  have e2 := h 2 (by decide) (by decide)
  have e3 := h 3 (by decide) (by decide)
  have e4 := h 4 (by decide) (by decide)
  refine ⟨TI_congr (fun t w a b c d => AG_of h ⟨a, b⟩ ⟨c, d⟩) hT, ⟨by rw [e1]; exact ho1, fun k a b => ?_, fun x a b => ?_⟩, TE_rf _, by rw [e1]; exact h60, hb, by rw [e2]; exact h2, by rw [e3]; exact h3, by rw [e4]; exact h4⟩
  · rw [e1] at b ⊢
    obtain ⟨p1, p2, p3⟩ := ho2 k a b
    have t9 : ∀ w, 0 ≤ w → w < 10 → m_thing g2 k w = m_thing g k w := fun w u v => AG_th h (by omega) ⟨u, v⟩
    refine ⟨by rw [t9 0 (by decide) (by decide)]; exact p1, by rw [t9 3 (by decide) (by decide)]; exact p2, fun j c d => ?_⟩
    rw [t9 (4 + j) (by omega) (by omega), t9 (7 + j) (by omega) (by omega)]
    exact p3 j c d
  · rw [e1] at a
    rw [h x (by omega) b]
    exact ho3 x a b
theorem CI_ag {N : Int} {g g2 : Int → Int} (h : AG g g2) (hi : RIV N g) (hc : CI g) : CI g2 := by
  have h60 := hi.2.2.2.1
  refine CI_objs (fun x a b => h x (by omega) (by omega)) hi.1.2.1 hi.2.1 (h 1 (by decide) (by decide)) (fun k a b => ⟨AG_th h (by omega) (by decide), fun q => ?_⟩) hc
  unfold m_here at q ⊢
  rw [AG_th h (by omega) (by decide)] at q
  exact q
theorem SR_ag {N : Int} {g g2 : Int → Int} {sc : Nat → Int} {ar : Nat → Int → Int} (h : AG g g2) (hi : RIV N g) (hs : SR g sc ar) : SR g2 sc ar := by
  obtain ⟨hb, hy, ⟨ho1, ho2, ho3⟩, hd⟩ := hs
  have h60 := hi.2.2.2.1
  have htw := hi.1.2.1
  refine ⟨fun u u0 u8 => ?_, hy, ⟨by rw [h 1 (by decide) (by decide), h 2 (by decide) (by decide), h 3 (by decide) (by decide), h 4 (by decide) (by decide)]; exact ho1, fun k a b => ?_, fun k a b => ?_⟩, hd⟩
  · have e : ∀ w, 0 ≤ w → w < 7 → m_of g2 u w = m_of g u w := fun w a b => AG_of h ⟨u0, u8⟩ ⟨a, b⟩
    obtain ⟨b1, b2_, b3⟩ := hb u u0 u8
    have eh : m_has g2 u = m_has g u := by unfold m_has; rw [e 0 (by decide) (by decide)]
    rw [eh, e 6 (by decide) (by decide), e 0 (by decide) (by decide), e 1 (by decide) (by decide), e 2 (by decide) (by decide)]
    refine ⟨b1, b2_, fun hh => ?_⟩
    obtain ⟨c1, c2, c3, c4⟩ := b3 hh
    refine ⟨c1, c2, c3, fun k k0 k3 k1 => ?_⟩
    obtain ⟨n1, n2⟩ := need_congr (g := g) (g2 := g2) (t := u) (k := k) (e (3 + k) (by omega) (by omega))
    rw [n1, n2]
    exact c4 k k0 k3 k1
  · have e0 : m_opened g2 k = m_opened g k := by unfold m_opened; rw [h 0 (by decide) (by decide)]
    rw [e0]
    exact ho2 k a b
  · rw [h 1 (by decide) (by decide)] at b
    have e : ∀ w, 0 ≤ w → w < 10 → m_thing g2 k w = m_thing g k w := fun w c d => AG_th h (by omega) ⟨c, d⟩
    have := ho3 k a b
    have e2 : m_here g2 k = m_here g k := by unfold m_here; rw [e 2 (by decide) (by decide)]
    rw [e 0 (by decide) (by decide), e 1 (by decide) (by decide), e 3 (by decide) (by decide), e2]
    refine ⟨this.1, this.2.1, this.2.2.1, this.2.2.2.1, fun j c c3 d => ?_⟩
    rw [e _ (by omega) (by omega), e _ (by omega) (by omega)]
    exact this.2.2.2.2 j c c3 d
/-- a row and the state that says it -/
def LROW (N : Int) (g : Int → Int) (sc : Nat → Int) (ar : Nat → Int → Int) : Prop := RIV N g ∧ CI g ∧ SR g sc ar
theorem LROW_le {N M : Int} {g : Int → Int} {sc : Nat → Int} {ar : Nat → Int → Int} (h : LROW N g sc ar) (hl : M ≤ N) : LROW M g sc ar := ⟨RIV_le h.1 hl, h.2.1, h.2.2⟩
theorem LROW_ag {N : Int} {g g2 : Int → Int} {sc : Nat → Int} {ar : Nat → Int → Int} (h : AG g g2) (hb : ∀ x, 0 ≤ g2 x ∧ g2 x < 2147483648) (hr : LROW N g sc ar) : LROW N g2 sc ar := ⟨RIV_ag h hb hr.1, CI_ag h hr.1 hr.2.1, SR_ag h hr.1 hr.2.2⟩
/-! the rows that are kept -/
def krow (f : Int → Int) (j : Int) : Int → Int := fun x => f (661 * j + x)
theorem cpy_ag (f h : Int → Int) (a : Int) : AG (fun x => f (a + x)) (cpy f h a 0) := fun x h0 h1 => by
  show (if 0 ≤ x ∧ x < 0 + 661 then f (a + (x - 0)) else h x) = f (a + x)
  rw [if_pos (by omega), Int.sub_zero]
theorem cpy_ag0 (f h : Int → Int) : AG f (cpy f h 0 0) := fun x h0 h1 => by
  show (if 0 ≤ x ∧ x < 0 + 661 then f (0 + (x - 0)) else h x) = f x
  rw [if_pos (by omega), Int.sub_zero, Int.zero_add]
theorem cpy_agk (f h : Int → Int) (j : Int) : AG (krow f j) (cpy f h (661 * j) 0) := cpy_ag f h (661 * j)
theorem kk_new {h row : Int → Int} {c : Int} : AG row (krow (k_kw 0 h row c) (k_ch c)) := fun x h0 h1 => by
  show (if (0 : Int) = 0 then k_kept h row c else h) (661 * k_ch c + x) = row x
  rw [if_pos rfl]
  show (if 661 * k_ch c ≤ 661 * k_ch c + x ∧ 661 * k_ch c + x < 661 * k_ch c + 661 then row (0 + (661 * k_ch c + x - 661 * k_ch c)) else _) = row x
  rw [if_pos (by omega)]
  congr 1
  omega
theorem kk_old {h row : Int → Int} {c i : Int} (hc : ¬ c = 8) (hi : i < c) : AG (krow h i) (krow (k_kw 0 h row c) i) := fun x h0 h1 => by
  show (if (0 : Int) = 0 then k_kept h row c else h) (661 * i + x) = h (661 * i + x)
  rw [if_pos rfl]
  have e : k_ch c = c := if_neg hc
  show (if 661 * k_ch c ≤ 661 * i + x ∧ 661 * i + x < 661 * k_ch c + 661 then _ else (if c = 8 then k_shift h else h) (661 * i + x)) = _
  rw [e, if_neg (by omega), if_neg hc]
theorem kk_shift {h row : Int → Int} {c i : Int} (hc : c = 8) (hi : 0 ≤ i ∧ i < 7) : AG (krow h (i + 1)) (krow (k_kw 0 h row c) i) := fun x h0 h1 => by
  show (if (0 : Int) = 0 then k_kept h row c else h) (661 * i + x) = h (661 * (i + 1) + x)
  rw [if_pos rfl]
  have e : k_ch c = 7 := if_pos hc
  show (if 661 * k_ch c ≤ 661 * i + x ∧ 661 * i + x < 661 * k_ch c + 661 then _ else (if c = 8 then k_shift h else h) (661 * i + x)) = _
  rw [e, if_neg (by omega), if_pos hc]
  show (if 0 ≤ 661 * i + x ∧ 661 * i + x < 4627 then h (661 * i + x + 661) else _) = _
  rw [if_pos (by omega)]
  congr 1
  omega
theorem krow_b {f : Int → Int} (h : ∀ x, 0 ≤ f x ∧ f x < 2147483648) (j : Int) : ∀ x, 0 ≤ krow f j x ∧ krow f j x < 2147483648 := fun x => h _
/-! the pool: eight states -/
abbrev PST : Type := (Nat → Nat) × SU
def POWn (E : EE) (po : Nat → PST) : Nat → va_W
  | 0 => []
  | n + 1 => POWn E po n ++ SW E (po n).1 (po n).2.1 (po n).2.2
def POW (E : EE) (po : Nat → PST) : va_W := POWn E po 8
def pou (po : Nat → PST) (j : Nat) (y : SU) : Nat → PST := fun k => if k = j then ((po j).1, y) else po k
theorem pou_s (po : Nat → PST) (j : Nat) (y : SU) : pou po j y j = ((po j).1, y) := if_pos rfl
theorem pou_n {po : Nat → PST} {j k : Nat} (y : SU) (h : ¬ k = j) : pou po j y k = po k := if_neg h
theorem pou_1 (po : Nat → PST) (j k : Nat) (y : SU) : (pou po j y k).1 = (po k).1 := by
  unfold pou
  split
  · rename_i h; rw [h]
  · rfl
theorem POWn_far {E : EE} {po : Nat → PST} {j : Nat} {y : SU} : ∀ n, n ≤ j → POWn E (pou po j y) n = POWn E po n
  | 0, _ => rfl
  | n + 1, h => by
    show POWn E (pou po j y) n ++ SW E (pou po j y n).1 (pou po j y n).2.1 (pou po j y n).2.2 = _
    rw [POWn_far n (by omega), pou_n y (by omega)]
    rfl
theorem POWn_open {E : EE} {po : Nat → PST} {j : Nat} : ∀ n, j < n → ∃ s t : va_W, POWn E po n = s ++ (SW E (po j).1 (po j).2.1 (po j).2.2 ++ t) ∧ ∀ y : SU, POWn E (pou po j y) n = s ++ (SW E (po j).1 y.1 y.2 ++ t)
  | 0, h => absurd h (Nat.not_lt_zero j)
  | n + 1, h => by
    by_cases e : j = n
    · subst e
      refine ⟨POWn E po j, [], by rw [List.append_nil]; rfl, fun y => ?_⟩
      show POWn E (pou po j y) j ++ SW E (pou po j y j).1 (pou po j y j).2.1 (pou po j y j).2.2 = _
      rw [POWn_far j (Nat.le_refl j), pou_s, List.append_nil]
    · obtain ⟨s, t, h1, h2⟩ := POWn_open n (show j < n by omega)
      refine ⟨s, t ++ SW E (po n).1 (po n).2.1 (po n).2.2, ?_, fun y => ?_⟩
      · show POWn E po n ++ _ = _
        rw [h1, List.append_assoc, List.append_assoc]
      · show POWn E (pou po j y) n ++ SW E (pou po j y n).1 (pou po j y n).2.1 (pou po j y n).2.2 = _
        rw [h2 y, pou_n y (fun q => e q.symm), List.append_assoc, List.append_assoc]
theorem POW_open2 {E : EE} {po : Nat → PST} {j : Nat} (h : j < 8) : ∃ (s t : va_W) (oe : Nat → Nat) (se : Nat → Int) (ae : Nat → Int → Int), po j = (oe, se, ae) ∧ POW E po = s ++ (SW E oe se ae ++ t) ∧ ∀ y : SU, POW E (pou po j y) = s ++ (SW E oe y.1 y.2 ++ t) := by
  obtain ⟨s, t, h1, h2⟩ := POWn_open (E := E) (po := po) 8 h
  exact ⟨s, t, (po j).1, (po j).2.1, (po j).2.2, rfl, h1, h2⟩
theorem POW_open {E : EE} {po : Nat → PST} {j : Nat} (h : j < 8) : ∃ s t : va_W, POW E po = s ++ (SW E (po j).1 (po j).2.1 (po j).2.2 ++ t) ∧ ∀ y : SU, POW E (pou po j y) = s ++ (SW E (po j).1 y.1 y.2 ++ t) := POWn_open 8 h
theorem po_perm2 {α : Type} (W s x t : List α) : (W ++ (s ++ (x ++ t))).Perm ((W ++ x) ++ (s ++ t)) := by
  rw [List.append_assoc]
  refine List.Perm.append_left W ?_
  rw [← List.append_assoc, ← List.append_assoc]
  exact List.Perm.append_right t List.perm_append_comm
theorem POW_mem {E : EE} {po : Nat → PST} {j : Nat} (h : j < 8) : ∃ vs, ((po j).1 0, .inr (2, vs)) ∈ POW E po := by
  obtain ⟨s, t, h1, -⟩ := POW_open (E := E) (po := po) h
  rw [h1]
  exact ⟨_, List.mem_append_right _ (List.mem_append_left _ (List.mem_cons_self ..))⟩
/-! the history and the spare states -/
def HST (N : Int) (kp : Int → Int) (nh ns : Int) (LH LS : Int → Nat) (po : Nat → PST) (hI sI : Int → Nat) : Prop :=
  (0 ≤ nh ∧ 0 ≤ ns ∧ nh + ns = 8) ∧ (∀ i, 0 ≤ i → i < nh → hI i < 8 ∧ LH i = (po (hI i)).1 0 ∧ LROW N (krow kp i) (po (hI i)).2.1 (po (hI i)).2.2) ∧
  (∀ i, 0 ≤ i → i < ns → sI i < 8 ∧ LS i = (po (sI i)).1 0) ∧ ((∀ i j, 0 ≤ i → i < j → j < nh → ¬ hI i = hI j) ∧ (∀ i j, 0 ≤ i → i < j → j < ns → ¬ sI i = sI j) ∧ ∀ i j, 0 ≤ i → i < nh → 0 ≤ j → j < ns → ¬ hI i = sI j) ∧
  ∀ k, k < 8 → ∃ g, SR g (po k).2.1 (po k).2.2 ∧ OY g
def HIST (N : Int) (kp : Int → Int) (nh : Int) (LH LS : Int → Nat) (po : Nat → PST) : Prop := ∃ hI sI, HST N kp nh (8 - nh) LH LS po hI sI
theorem LROW.oy {N : Int} {g : Int → Int} {sc : Nat → Int} {ar : Nat → Int → Int} (h : LROW N g sc ar) : OY g := (J_all h.1 h.2.1).1
theorem HIST_le {N M : Int} {kp : Int → Int} {nh : Int} {LH LS : Int → Nat} {po : Nat → PST} (h : HIST N kp nh LH LS po) (hl : M ≤ N) : HIST M kp nh LH LS po := by
  obtain ⟨hI, sI, a, b, c, d, e⟩ := h
  exact ⟨hI, sI, a, fun i p q => ⟨(b i p q).1, (b i p q).2.1, LROW_le (b i p q).2.2 hl⟩, c, d, e⟩
/-- the entry that a change takes -/
theorem HIST_entry {N : Int} {kp : Int → Int} {nh : Int} {LH LS : Int → Nat} {po : Nat → PST} (h : HIST N kp nh LH LS po) : ∃ j, j < 8 ∧ (8 - nh = 0 → LH 0 = (po j).1 0) ∧ (0 < 8 - nh → LS 0 = (po j).1 0) ∧
    ∀ (g : Int → Int) (y : SU), LROW N g y.1 y.2 → (∀ x, 0 ≤ kp x ∧ kp x < 2147483648) → (∀ x, 0 ≤ g x ∧ g x < 2147483648) → HIST N (k_kw 0 kp g nh) (k_ch nh + 1) (cmL nh (8 - nh) ((po j).1 0) LH) (fun i => LS (i + 1)) (pou po j y) := by
  obtain ⟨hI, sI, ⟨n0, n1, n2⟩, hh, hs, ⟨d1, d2, d3⟩, hp⟩ := h
  by_cases h8 : nh = 8
  · have h0 := hh 0 (by decide) (by omega)
    refine ⟨hI 0, h0.1, fun _ => h0.2.1, fun q => by omega, fun g y hy hk hg => ?_⟩
    have ec : k_ch nh = 7 := if_pos h8
    have em : cmN nh (8 - nh) = 8 := by unfold cmN; rw [if_pos (by omega)]; exact h8
    refine ⟨fun i => if i = 7 then hI 0 else hI (i + 1), sI, ⟨by omega, by omega, by omega⟩, fun i p q => ?_, fun i p q => by omega, ⟨fun i j p q r => ?_, fun i j p q r => by omega, fun i j p q r t => by omega⟩, fun k hk8 => ?_⟩
    · rw [ec] at q
      unfold cmL
      rw [em]
      by_cases e : i = 7
      · subst e
        show hI 0 < 8 ∧ (if (7 : Int) = 8 - 1 then (po (hI 0)).1 0 else _) = (pou po (hI 0) y (if (7 : Int) = 7 then hI 0 else _)).1 0 ∧ LROW N (krow (k_kw 0 kp g nh) 7) (pou po (hI 0) y (if (7 : Int) = 7 then hI 0 else _)).2.1 (pou po (hI 0) y (if (7 : Int) = 7 then hI 0 else _)).2.2
        rw [if_pos rfl, if_pos (by decide), pou_s]
        have := kk_new (h := kp) (row := g) (c := nh)
        rw [ec] at this
        exact ⟨h0.1, rfl, LROW_ag this (krow_b (k_kw_b hk hg) 7) hy⟩
      · have h1 := hh (i + 1) (by omega) (by omega)
        have hne : ¬ hI (i + 1) = hI 0 := fun z => d1 0 (i + 1) (by decide) (by omega) (by omega) z.symm
        show (if i = 7 then hI 0 else hI (i + 1)) < 8 ∧ (if i = 8 - 1 then (po (hI 0)).1 0 else if 8 - nh = 0 then LH (i + 1) else LH i) = (pou po (hI 0) y (if i = 7 then hI 0 else hI (i + 1))).1 0 ∧ LROW N (krow (k_kw 0 kp g nh) i) (pou po (hI 0) y (if i = 7 then hI 0 else hI (i + 1))).2.1 (pou po (hI 0) y (if i = 7 then hI 0 else hI (i + 1))).2.2
        rw [if_neg e, if_neg (by omega), if_pos (by omega), pou_n y hne]
        exact ⟨h1.1, h1.2.1, LROW_ag (kk_shift h8 (by omega)) (krow_b (k_kw_b hk hg) i) h1.2.2⟩
    · rw [ec] at r
      show ¬ (if i = 7 then hI 0 else hI (i + 1)) = (if j = 7 then hI 0 else hI (j + 1))
      rw [if_neg (by omega)]
      by_cases e : j = 7
      · rw [if_pos e]
        exact fun z => d1 0 (i + 1) (by decide) (by omega) (by omega) z.symm
      · rw [if_neg e]
        exact d1 (i + 1) (j + 1) (by omega) (by omega) (by omega)
    · by_cases e : k = hI 0
      · subst e
        rw [pou_s]
        exact ⟨g, hy.2.2, hy.oy⟩
      · rw [pou_n y e]
        exact hp k hk8
  · have h0 := hs 0 (by decide) (by omega)
    refine ⟨sI 0, h0.1, fun q => by omega, fun _ => h0.2, fun g y hy hk hg => ?_⟩
    have ec : k_ch nh = nh := if_neg h8
    have em : cmN nh (8 - nh) = nh + 1 := by unfold cmN; rw [if_neg (by omega)]
    refine ⟨fun i => if i = nh then sI 0 else hI i, fun i => sI (i + 1), ⟨by omega, by omega, by omega⟩, fun i p q => ?_, fun i p q => ?_, ⟨fun i j p q r => ?_, fun i j p q r => ?_, fun i j p q r t => ?_⟩, fun k hk8 => ?_⟩
    · rw [ec] at q
      unfold cmL
      rw [em]
      by_cases e : i = nh
      · subst e
        show (if i = i then sI 0 else hI i) < 8 ∧ (if i = i + 1 - 1 then (po (sI 0)).1 0 else _) = (pou po (sI 0) y (if i = i then sI 0 else hI i)).1 0 ∧ LROW N (krow (k_kw 0 kp g i) i) (pou po (sI 0) y (if i = i then sI 0 else hI i)).2.1 (pou po (sI 0) y (if i = i then sI 0 else hI i)).2.2
        rw [if_pos rfl, if_pos (by omega), pou_s]
        have := kk_new (h := kp) (row := g) (c := i)
        rw [ec] at this
        exact ⟨h0.1, rfl, LROW_ag this (krow_b (k_kw_b hk hg) i) hy⟩
      · have h1 := hh i p (by omega)
        have hne : ¬ hI i = sI 0 := d3 i 0 p (by omega) (by decide) (by omega)
        show (if i = nh then sI 0 else hI i) < 8 ∧ (if i = nh + 1 - 1 then (po (sI 0)).1 0 else if 8 - nh = 0 then LH (i + 1) else LH i) = (pou po (sI 0) y (if i = nh then sI 0 else hI i)).1 0 ∧ LROW N (krow (k_kw 0 kp g nh) i) (pou po (sI 0) y (if i = nh then sI 0 else hI i)).2.1 (pou po (sI 0) y (if i = nh then sI 0 else hI i)).2.2
        rw [if_neg e, if_neg (by omega), if_neg (by omega), pou_n y hne]
        exact ⟨h1.1, h1.2.1, LROW_ag (kk_old h8 (by omega)) (krow_b (k_kw_b hk hg) i) h1.2.2⟩
    · rw [ec] at q
      have h1 := hs (i + 1) (by omega) (by omega)
      show sI (i + 1) < 8 ∧ LS (i + 1) = (pou po (sI 0) y (sI (i + 1))).1 0
      rw [pou_1]
      exact h1
    · rw [ec] at r
      show ¬ (if i = nh then sI 0 else hI i) = (if j = nh then sI 0 else hI j)
      rw [if_neg (by omega)]
      by_cases e : j = nh
      · rw [if_pos e]
        exact d3 i 0 p (by omega) (by decide) (by omega)
      · rw [if_neg e]
        exact d1 i j p q (by omega)
    · exact d2 (i + 1) (j + 1) (by omega) (by omega) (by omega)
    · rw [ec] at q t
      show ¬ (if i = nh then sI 0 else hI i) = sI (j + 1)
      by_cases e : i = nh
      · rw [if_pos e]
        exact d2 0 (j + 1) (by decide) (by omega) (by omega)
      · rw [if_neg e]
        exact d3 i (j + 1) p (by omega) (by omega) (by omega)
    · by_cases e : k = sI 0
      · subst e
        rw [pou_s]
        exact ⟨g, hy.2.2, hy.oy⟩
      · rw [pou_n y e]
        exact hp k hk8
theorem cm_nh {nh : Int} (h : 0 ≤ nh ∧ nh ≤ 8) : cmN nh (8 - nh) = k_ch nh + 1 ∧ cmS (8 - nh) = 8 - (k_ch nh + 1) := by
  unfold cmN cmS k_ch
  by_cases e : nh = 8
  · subst e; decide
  · have e2 : ¬ 8 - nh = 0 := by omega
    rw [if_neg e, if_neg e2, if_neg e2]
    exact ⟨rfl, by omega⟩
/-- undone: the youngest entry goes to the spare ones -/
theorem HIST_undo {N : Int} {kp : Int → Int} {nh : Int} {LH LS : Int → Nat} {po : Nat → PST} (h : HIST N kp nh LH LS po) : ∃ j, j < 8 ∧ (∃ ge, SR ge (po j).2.1 (po j).2.2 ∧ OY ge ∧ (0 < nh → LROW N ge (po j).2.1 (po j).2.2 ∧ ge = krow kp (nh - 1))) ∧ (0 < nh → LH (nh - 1) = (po j).1 0 ∧ HIST N kp (nh - 1) LH (fun i => if i = 8 - nh then (po j).1 0 else LS i) po) := by
  obtain ⟨hI, sI, ⟨n0, n1, n2⟩, hh, hs, ⟨d1, d2, d3⟩, hp⟩ := h
  by_cases h0 : nh = 0
  · obtain ⟨g, hg⟩ := hp 0 (by decide)
    exact ⟨0, by decide, ⟨g, hg.1, hg.2, fun q => by omega⟩, fun q => by omega⟩
  · have h1 := hh (nh - 1) (by omega) (by omega)
    refine ⟨hI (nh - 1), h1.1, ⟨_, h1.2.2.2.2, h1.2.2.oy, fun _ => ⟨h1.2.2, rfl⟩⟩, fun _ => ⟨h1.2.1, hI, fun i => if i = 8 - nh then hI (nh - 1) else sI i, ⟨by omega, by omega, by omega⟩, fun i p q => hh i p (by omega), fun i p q => ?_, ⟨fun i j p q r => d1 i j p q (by omega), fun i j p q r => ?_, fun i j p q r t => ?_⟩, hp⟩⟩
    · show (if i = 8 - nh then hI (nh - 1) else sI i) < 8 ∧ (if i = 8 - nh then (po (hI (nh - 1))).1 0 else LS i) = (po (if i = 8 - nh then hI (nh - 1) else sI i)).1 0
      by_cases e : i = 8 - nh
      · rw [if_pos e, if_pos e]
        exact ⟨h1.1, rfl⟩
      · rw [if_neg e, if_neg e]
        exact hs i p (by omega)
    · show ¬ (if i = 8 - nh then hI (nh - 1) else sI i) = (if j = 8 - nh then hI (nh - 1) else sI j)
      rw [if_neg (by omega)]
      by_cases e : j = 8 - nh
      · rw [if_pos e]
        exact fun z => d3 (nh - 1) i (by omega) (by omega) p (by omega) z.symm
      · rw [if_neg e]
        exact d2 i j p q (by omega)
    · show ¬ hI i = (if j = 8 - nh then hI (nh - 1) else sI j)
      by_cases e : j = 8 - nh
      · rw [if_pos e]
        exact d1 i (nh - 1) p (by omega) (by omega)
      · rw [if_neg e]
        exact d3 i j p (by omega) r (by omega)
/-- restored: all entries go to the spare ones -/
theorem HIST_rest {N : Int} {kp : Int → Int} {nh : Int} {LH LS LX : Int → Nat} {po : Nat → PST} (h : HIST N kp nh LH LS po) (hx : RSL (8 - nh) nh 0 LS LH LX) : HIST N kp 0 LH LX po := by
  obtain ⟨hI, sI, ⟨n0, n1, n2⟩, hh, hs, ⟨d1, d2, d3⟩, hp⟩ := h
  obtain ⟨x1, x2⟩ := hx
  refine ⟨hI, fun i => if i < 8 - nh then sI i else hI (nh - 1 - (i - (8 - nh))), ⟨by omega, by omega, by omega⟩, fun i p q => by omega, fun i p q => ?_, ⟨fun i j p q r => by omega, fun i j p q r => ?_, fun i j p q r t => by omega⟩, hp⟩
  · show (if i < 8 - nh then sI i else hI (nh - 1 - (i - (8 - nh)))) < 8 ∧ LX i = (po (if i < 8 - nh then sI i else hI (nh - 1 - (i - (8 - nh))))).1 0
    by_cases e : i < 8 - nh
    · rw [if_pos e, x1 i p e]
      exact hs i p e
    · rw [if_neg e]
      have h1 := x2 (i - (8 - nh)) (by omega) (by omega)
      rw [show 8 - nh + (i - (8 - nh)) = i by omega] at h1
      have h2 := hh (nh - 1 - (i - (8 - nh))) (by omega) (by omega)
      rw [h1]
      exact ⟨h2.1, h2.2.1⟩
  · show ¬ (if i < 8 - nh then sI i else hI (nh - 1 - (i - (8 - nh)))) = (if j < 8 - nh then sI j else hI (nh - 1 - (j - (8 - nh))))
    by_cases e : i < 8 - nh
    · rw [if_pos e]
      by_cases f : j < 8 - nh
      · rw [if_pos f]
        exact d2 i j p q f
      · rw [if_neg f]
        exact fun z => d3 (nh - 1 - (j - (8 - nh))) i (by omega) (by omega) p e z.symm
    · rw [if_neg e, if_neg (by omega)]
      exact fun z => d1 (nh - 1 - (j - (8 - nh))) (nh - 1 - (i - (8 - nh))) (by omega) (by omega) (by omega) z.symm
theorem HIST_mem {E : EE} {N : Int} {kp : Int → Int} {nh : Int} {LH LS : Int → Nat} {po : Nat → PST} (h : HIST N kp nh LH LS po) : ∀ i, 0 ≤ i → i < nh → ∃ vs, (LH i, .inr (2, vs)) ∈ POW E po := by
  obtain ⟨hI, sI, -, hh, -⟩ := h
  intro i p q
  obtain ⟨a, b, -⟩ := hh i p q
  rw [b]
  exact POW_mem a
