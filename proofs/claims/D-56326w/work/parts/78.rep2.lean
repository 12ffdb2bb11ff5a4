/-! ===== the class' states: what they say of the row g ===== -/
def BY (ar : Nat → Int → Int) : Prop := (∀ t, 0 ≤ t → t < 8 → 0 ≤ ar 3 t ∧ ar 3 t < 65536) ∧ ∀ x, 0 ≤ x → x < 24 → 0 ≤ ar 7 x ∧ ar 7 x ≤ 1
/-- accounts, open threads (9), objects: tools (10) threads (11) isThere (12) needCounts (13) needs (14) fillings (15) -/
def OJ (g : Int → Int) (sc : Nat → Int) (ar : Nat → Int → Int) : Prop := (sc 2 = g 1 ∧ sc 9 = g 2 ∧ sc 10 = g 3 ∧ sc 11 = g 4) ∧ (∀ k, 0 ≤ k → k < 4 → ar 9 k = b2 (m_opened g k)) ∧ ∀ k, 0 ≤ k → k < g 1 → ar 10 k = m_thing g k 0 ∧ ar 11 k = m_thing g k 1 ∧ ar 12 k = b2 (m_here g k) ∧ ar 13 k = m_thing g k 3 ∧ ∀ j, 0 ≤ j → j < 3 → j < m_thing g k 3 → ar 14 (3 * k + j) = m_thing g k (4 + j) ∧ ar 15 (3 * k + j) = m_thing g k (7 + j) - 1
def SR (g : Int → Int) (sc : Nat → Int) (ar : Nat → Int → Int) : Prop := BR g ar ∧ BY ar ∧ OJ g sc ar ∧ sc 13 = 0
theorem ua_n {a : Nat → Int → Int} {k j : Nat} {f : Int → Int} (h : j ≠ k) : ua a k f j = a j := by
  unfold ua
  cases hb : Nat.beq j k with
  | false => rfl
  | true => exact absurd (Nat.eq_of_beq_eq_true hb) h
/-- an object's law: its tool, its needs, what fills them, its thread -/
def OZ (g : Int → Int) (n k : Int) : Prop := (0 ≤ m_thing g k 0 ∧ m_thing g k 0 < 8) ∧ (0 ≤ m_thing g k 3 ∧ m_thing g k 3 ≤ 3) ∧ (∀ j, 0 ≤ j → j < 3 → j < m_thing g k 3 → (0 ≤ m_thing g k (4 + j) ∧ m_thing g k (4 + j) < 8) ∧ 0 ≤ m_thing g k (7 + j) ∧ m_thing g k (7 + j) ≤ n) ∧ (0 ≤ m_thing g k 1 ∧ m_thing g k 1 < 2147483648)
/-- objects' law, up to 160 of them -/
def OY (g : Int → Int) : Prop := 0 ≤ g 1 ∧ g 1 ≤ 160 ∧ ∀ k, 0 ≤ k → k < g 1 → OZ g (g 1) k
theorem OX_OY {g : Int → Int} (h : OX g) (h2 : g 1 ≤ 160) (hb : ∀ x, 0 ≤ g x ∧ g x < 2147483648) : OY g := ⟨h.1, h2, fun k a b => ⟨(h.2.1 k a b).1, (h.2.1 k a b).2.1, fun j j0 j3 _ => (h.2.1 k a b).2.2 j j0 j3, hb _⟩⟩
theorem m_exist_r3 {g : Int → Int} (h : 0 ≤ g 1) (t th : Int) : -1 ≤ m_exist g t th ∧ m_exist g t th ≤ g 1 := by
  unfold m_exist
  split
  · omega
  · have h3 := fnd_spec (fun k => m_here g k && (decide (m_thing g k 0 = t) && (decide (m_of g t 0 = 115) || decide (m_thing g k 1 = th)))) (n := g 1) h
    omega
theorem m_opened_no {g : Int → Int} {th : Int} (h : ¬ (0 ≤ th ∧ th ≤ 3)) : m_opened g th = false := by
  unfold m_opened
  rw [decide_eq_false h]
  rfl
theorem m_isobj_y {g : Int → Int} {k : Int} {b : Bool} (h : 0 ≤ k ∧ k ≤ g 1 - 1) (hh : m_here g k = b) : m_isobj g k = b := by
  unfold m_isobj
  rw [decide_eq_true h, hh]
  rfl
theorem m_isobj_n {g : Int → Int} {k : Int} (h : ¬ (0 ≤ k ∧ k ≤ g 1 - 1)) : m_isobj g k = false := by
  unfold m_isobj
  rw [decide_eq_false h]
  rfl
section SRX
variable {g : Int → Int} {sc : Nat → Int} {ar : Nat → Int → Int}
theorem SR.br (h : SR g sc ar) : BR g ar := h.1
theorem SR.n1 (h : SR g sc ar) : sc 2 = g 1 ∧ sc 9 = g 2 ∧ sc 10 = g 3 ∧ sc 11 = g 4 := h.2.2.1.1
theorem SR.op (h : SR g sc ar) {k : Int} (hk : 0 ≤ k ∧ k < 4) : ar 9 k = b2 (m_opened g k) := h.2.2.1.2.1 k hk.1 hk.2
theorem SR.kind (h : SR g sc ar) {k : Int} (hk : 0 ≤ k ∧ k < g 1) : ar 10 k = m_thing g k 0 := (h.2.2.1.2.2 k hk.1 hk.2).1
theorem SR.plc (h : SR g sc ar) {k : Int} (hk : 0 ≤ k ∧ k < g 1) : ar 11 k = m_thing g k 1 := (h.2.2.1.2.2 k hk.1 hk.2).2.1
theorem SR.her (h : SR g sc ar) {k : Int} (hk : 0 ≤ k ∧ k < g 1) : ar 12 k = b2 (m_here g k) := (h.2.2.1.2.2 k hk.1 hk.2).2.2.1
theorem SR.many (h : SR g sc ar) {k : Int} (hk : 0 ≤ k ∧ k < g 1) : ar 13 k = m_thing g k 3 := (h.2.2.1.2.2 k hk.1 hk.2).2.2.2.1
theorem SR.wish (h : SR g sc ar) {k j : Int} (hk : 0 ≤ k ∧ k < g 1) (hj : 0 ≤ j ∧ j < 3 ∧ j < m_thing g k 3) : ar 14 (3 * k + j) = m_thing g k (4 + j) := ((h.2.2.1.2.2 k hk.1 hk.2).2.2.2.2 j hj.1 hj.2.1 hj.2.2).1
theorem SR.fil (h : SR g sc ar) {k j : Int} (hk : 0 ≤ k ∧ k < g 1) (hj : 0 ≤ j ∧ j < 3 ∧ j < m_thing g k 3) : ar 15 (3 * k + j) = m_thing g k (7 + j) - 1 := ((h.2.2.1.2.2 k hk.1 hk.2).2.2.2.2 j hj.1 hj.2.1 hj.2.2).2
theorem OJ_congr {g2 : Int → Int} {ar2 : Nat → Int → Int} (h : OJ g sc ar) (hg : ∀ x, x < 5 ∨ 61 ≤ x → g2 x = g x) (ha : ∀ k, 9 ≤ k → ar2 k = ar k) : OJ g2 sc ar2 := by
  have e : ∀ k w : Int, 0 ≤ k → 0 ≤ w → m_thing g2 k w = m_thing g k w := fun k w a b => hg _ (by omega)
  have e0 : ∀ k, m_opened g2 k = m_opened g k := fun k => by unfold m_opened; rw [hg 0 (by decide)]
  obtain ⟨h1, h2, h3⟩ := h
  refine ⟨by rw [hg 1 (by decide), hg 2 (by decide), hg 3 (by decide), hg 4 (by decide)]; exact h1, fun k a b => by rw [ha 9 (by decide), e0]; exact h2 k a b, fun k a b => ?_⟩
  rw [hg 1 (by decide)] at b
  have := h3 k a b
  rw [ha 10 (by decide), ha 11 (by decide), ha 12 (by decide), ha 13 (by decide), ha 14 (by decide), ha 15 (by decide), e k 0 a (by decide), e k 1 a (by decide), e k 3 a (by decide)]
  refine ⟨this.1, this.2.1, ?_, this.2.2.2.1, fun j c c3 d => ?_⟩
  · unfold m_here
    rw [e k 2 a (by decide)]
    exact this.2.2.1
  · rw [e k _ a (by omega), e k _ a (by omega)]
    exact this.2.2.2.2 j c c3 d
theorem SR_def (h : SR g sc ar) {t s mn : Int} (ht : 0 ≤ t ∧ t < 8) (hs : 0 < s ∧ s < 65536) : SR (s_def g t s mn) sc (ua (ua (ua (ua ar 2 (ui (ar 2) t 1)) 3 (ui (ar 3) t s)) 4 (ui (ar 4) t mn)) 5 (ui (ar 5) t 0)) := by
  obtain ⟨hb, hy, ho, hd⟩ := h
  refine ⟨fun u u0 u8 => ?_, ⟨fun u u0 u8 => ?_, hy.2⟩, OJ_congr ho (fun x hx => ?_) (fun k hk => ?_), hd⟩
  · obtain ⟨b1, b2_, b3⟩ := hb u u0 u8
    show ui (ar 2) t 1 u = b2 (m_has (s_def g t s mn) u) ∧ ar 8 u = m_of (s_def g t s mn) u 6 - 1 ∧ (m_has (s_def g t s mn) u = true → ui (ar 3) t s u = m_of (s_def g t s mn) u 0 ∧ ui (ar 4) t mn u = m_of (s_def g t s mn) u 1 ∧ ui (ar 5) t 0 u = m_of (s_def g t s mn) u 2 ∧ ∀ k, 0 ≤ k → k < 3 → k < m_of (s_def g t s mn) u 2 → ar 6 (3 * u + k) = m_need (s_def g t s mn) u k ∧ ar 7 (3 * u + k) = b2 (!(m_dir (s_def g t s mn) u k)))
    unfold m_has m_need m_dir
    rw [def_of (by decide), def_of (by decide), def_of (by decide), def_of (by decide)]
    by_cases hu : u = t
    · subst hu
      rw [ui_s, ui_s, ui_s, ui_s]
      refine ⟨?_, by simpa using b2_, fun _ => ⟨by simp, by simp, by simp, fun k k0 _ k1 => by simp at k1; omega⟩⟩
      rw [decide_eq_true (by simp; omega)]
      rfl
    · rw [ui_n hu, ui_n hu, ui_n hu, ui_n hu, if_neg hu, if_neg hu, if_neg hu, if_neg hu]
      refine ⟨b1, b2_, fun hh => ?_⟩
      obtain ⟨c1, c2, c3, c4⟩ := b3 hh
      exact ⟨c1, c2, c3, fun k k0 k3 k1 => by rw [def_of (by omega), if_neg hu]; exact c4 k k0 k3 k1⟩
  · show 0 ≤ ui (ar 3) t s u ∧ ui (ar 3) t s u < 65536
    unfold ui
    split
    · omega
    · exact hy.1 u u0 u8
  · unfold s_def m_set
    rw [ui_n (by omega), ui_n (by omega), ui_n (by omega)]
  · rw [ua_n (by omega), ua_n (by omega), ua_n (by omega), ua_n (by omega)]
theorem SR_drop (h : SR g sc ar) {t : Int} (ht : 0 ≤ t ∧ t < 8) : SR (s_drop g t) sc (ua ar 2 (ui (ar 2) t 0)) := by
  obtain ⟨hb, hy, ho, hd⟩ := h
  refine ⟨fun u u0 u8 => ?_, hy, OJ_congr ho (fun x hx => ?_) (fun k hk => ?_), hd⟩
  · obtain ⟨b1, b2_, b3⟩ := hb u u0 u8
    show ui (ar 2) t 0 u = b2 (m_has (s_drop g t) u) ∧ ar 8 u = m_of (s_drop g t) u 6 - 1 ∧ (m_has (s_drop g t) u = true → ar 3 u = m_of (s_drop g t) u 0 ∧ ar 4 u = m_of (s_drop g t) u 1 ∧ ar 5 u = m_of (s_drop g t) u 2 ∧ ∀ k, 0 ≤ k → k < 3 → k < m_of (s_drop g t) u 2 → ar 6 (3 * u + k) = m_need (s_drop g t) u k ∧ ar 7 (3 * u + k) = b2 (!(m_dir (s_drop g t) u k)))
    unfold m_has m_need m_dir
    rw [drop_of (by decide), drop_of (by decide), drop_of (by decide), drop_of (by decide)]
    by_cases hu : u = t
    · subst hu
      rw [ui_s]
      refine ⟨by simp; rfl, by simpa using b2_, fun hh => by simp at hh⟩
    · rw [ui_n hu, if_neg (by omega), if_neg (by omega), if_neg (by omega), if_neg (by omega)]
      refine ⟨b1, b2_, fun hh => ?_⟩
      obtain ⟨c1, c2, c3, c4⟩ := b3 hh
      exact ⟨c1, c2, c3, fun k k0 k3 k1 => by rw [drop_of (by omega), if_neg (by omega)]; exact c4 k k0 k3 k1⟩
  · unfold s_drop
    rw [if_neg (by omega)]
  · rw [ua_n (by omega)]
theorem SR_rem (h : SR g sc ar) {t q : Int} (ht : 0 ≤ t ∧ t < 8) (hq : 0 ≤ q ∧ q < m_of g t 2 ∧ m_of g t 2 ≤ 3) : SR (s_rem g t q) sc (ua (ua (ua ar 5 (ui (ar 5) t (m_of g t 2 - 1))) 6 (rm3 (ar 6) t q (m_of g t 2))) 7 (rm3 (ar 7) t q (m_of g t 2))) := by
  obtain ⟨hb, hy, ho, hd⟩ := h
  refine ⟨fun u u0 u8 => ?_, ⟨hy.1, fun x x0 x1 => ?_⟩, OJ_congr ho (fun x hx => ?_) (fun k hk => ?_), hd⟩
  · obtain ⟨b1, b2_, b3⟩ := hb u u0 u8
    show ar 2 u = b2 (m_has (s_rem g t q) u) ∧ ar 8 u = m_of (s_rem g t q) u 6 - 1 ∧ (m_has (s_rem g t q) u = true → ar 3 u = m_of (s_rem g t q) u 0 ∧ ar 4 u = m_of (s_rem g t q) u 1 ∧ ui (ar 5) t (m_of g t 2 - 1) u = m_of (s_rem g t q) u 2 ∧ ∀ k, 0 ≤ k → k < 3 → k < m_of (s_rem g t q) u 2 → rm3 (ar 6) t q (m_of g t 2) (3 * u + k) = m_need (s_rem g t q) u k ∧ rm3 (ar 7) t q (m_of g t 2) (3 * u + k) = b2 (!(m_dir (s_rem g t q) u k)))
    unfold m_has m_need m_dir
    rw [rem_of hq (by decide), rem_of hq (by decide), rem_of hq (by decide), rem_of hq (by decide)]
    by_cases hu : u = t
    · subst hu
      rw [ui_s, if_pos rfl, if_pos rfl, if_pos rfl, if_pos rfl]
      refine ⟨?_, ?_, fun hh => ?_⟩
      · rw [b1]; unfold m_has; congr 2; simp; omega
      · rw [b2_]; congr 1; repeat' split
        all_goals first | rfl | omega
      · have hh' : m_has g u = true := by unfold m_has; simpa [show ¬ (3 + q ≤ 0 ∧ (0 : Int) < 2 + m_of g u 2) by omega, show ¬ (0 : Int) = 2 + m_of g u 2 by omega] using hh
        obtain ⟨c1, c2, c3, c4⟩ := b3 hh'
        refine ⟨?_, ?_, by simp, fun k k0 k3 k1 => ?_⟩
        · rw [c1]; repeat' split
          all_goals first | rfl | omega
        · rw [c2]; repeat' split
          all_goals first | rfl | omega
        · simp only [if_true] at k1
          rw [rem_of hq (by omega), if_pos rfl, if_neg (by omega)]
          unfold rm3
          by_cases hk : q ≤ k
          · rw [if_pos (by omega), if_pos (by omega), if_pos (by omega), show 3 * u + k + 1 = 3 * u + (k + 1) by omega, show 3 + k + 1 = 3 + (k + 1) by omega]
            exact c4 (k + 1) (by omega) (by omega) (by omega)
          · rw [if_neg (by omega), if_neg (by omega), if_neg (by omega), if_neg (by omega)]
            exact c4 k k0 k3 (by omega)
    · rw [ui_n hu, if_neg hu, if_neg hu, if_neg hu, if_neg hu]
      refine ⟨b1, b2_, fun hh => ?_⟩
      obtain ⟨c1, c2, c3, c4⟩ := b3 hh
      refine ⟨c1, c2, c3, fun k k0 k3 k1 => ?_⟩
      rw [rem_of hq (by omega), if_neg hu]
      unfold rm3
      rw [if_neg (by omega), if_neg (by omega)]
      exact c4 k k0 k3 k1
  · show 0 ≤ rm3 (ar 7) t q (m_of g t 2) x ∧ rm3 (ar 7) t q (m_of g t 2) x ≤ 1
    unfold rm3
    split
    · exact hy.2 (x + 1) (by omega) (by omega)
    · exact hy.2 x x0 x1
  · unfold s_rem
    rw [if_neg (by omega), if_neg (by omega), if_neg (by omega)]
  · rw [ua_n (by omega), ua_n (by omega), ua_n (by omega)]
/-- by which exception a command fails -/
def nmX (a b c : String) : Int → String := fun k => if k = 1 then a else if k = 2 then b else c
/-- the end of a command by an exception: its class; what a refusal holds -/
def XC1 (nm : Int → String) (R : Res) (En : String) (z : Option (Nat × List Value)) : Prop := (∃ c, R = .inl c ∧ En = nm c) ∨ ∃ wd : Int × Int, R = .inr (.inl wd) ∧ En = "ClockworkTailor$Refusal" ∧ z = some (5, [iv wd.1, iv wd.2, .null])
abbrev SU : Type := (Nat → Int) × (Nat → Int → Int)
abbrev SUX : Type := (Nat → Int) × (Nat → Int → Int) × Option (Nat × List Value)
end SRX
/-- the state but for its depth -/
def SZ (g : Int → Int) (sc : Nat → Int) (ar : Nat → Int → Int) : Prop := BR g ar ∧ BY ar ∧ OJ g sc ar
section SZ0
variable {g : Int → Int} {sc : Nat → Int} {ar : Nat → Int → Int}
theorem SR.q (h : SR g sc ar) : SZ g sc ar := ⟨h.1, h.2.1, h.2.2.1⟩
theorem SZ.br (h : SZ g sc ar) : BR g ar := h.1
theorem SZ.n1 (h : SZ g sc ar) : sc 2 = g 1 ∧ sc 9 = g 2 ∧ sc 10 = g 3 ∧ sc 11 = g 4 := h.2.2.1
theorem SZ.kind (h : SZ g sc ar) {k : Int} (hk : 0 ≤ k ∧ k < g 1) : ar 10 k = m_thing g k 0 := (h.2.2.2.2 k hk.1 hk.2).1
theorem SZ.plc (h : SZ g sc ar) {k : Int} (hk : 0 ≤ k ∧ k < g 1) : ar 11 k = m_thing g k 1 := (h.2.2.2.2 k hk.1 hk.2).2.1
theorem SZ.her (h : SZ g sc ar) {k : Int} (hk : 0 ≤ k ∧ k < g 1) : ar 12 k = b2 (m_here g k) := (h.2.2.2.2 k hk.1 hk.2).2.2.1
end SZ0
