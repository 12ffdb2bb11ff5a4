/-! ===== reading: the class's parser ===== -/
abbrev kT0 : Int → Int := fun _ => 0
theorem B7.i {f : Int → Int} (h : B7 f) : ∀ x, 0 ≤ f x ∧ f x < 65536 := fun x => by
  have := h x
  omega
theorem p_here_7 {f : Int → Int} (h : B7 f) (n a : Int) : -1 ≤ p_here f n a ∧ p_here f n a < 128 ∧ (0 ≤ p_here f n a → a < n ∧ p_here f n a = f a) := by
  unfold p_here
  have := h a
  split <;> refine ⟨by omega, by omega, fun q => ⟨by omega, by omega⟩⟩
def kSc (z : Bool) (v : Int) : Bool := if z = true then p_sc v else p_tl v
def kLt (z : Bool) (f : Int → Int) (n p : Int) : PR := p_one (kSc z) f n 1 (p, kT0)
def kNm (d : Int) (f : Int → Int) (n p : Int) : PR := p_fig f n 1 d (p, kT0)
def kWd (k : Nat) (f : Int → Int) (n p : Int) : PR := p_wd f n (TX.getD k []) (p, kT0)
/-- it failed, at p; it succeeded, at p, with v -/
def kFl (q : PR) (p : Int) : Prop := q.1 = false ∧ q.2.1 = p
def kOk (q : PR) (p v : Int) : Prop := q.1 = true ∧ q.2.1 = p ∧ q.2.2 1 = v
theorem p_skip_y {f : Int → Int} {n v p : Int} {T : Int → Int} (h : p_here f n p = v) : p_skip f n v (p, T) = (true, p + 1, T) := if_pos h
theorem p_skip_n {f : Int → Int} {n v p : Int} {T : Int → Int} (h : ¬ p_here f n p = v) : p_skip f n v (p, T) = (false, p, T) := if_neg h
theorem kLt_0 {z : Bool} {f : Int → Int} {n p : Int} (h : ¬ p_here f n p = 32) : kFl (kLt z f n p) p := by
  unfold kFl kLt p_one
  rw [p_skip_n h]
  exact ⟨rfl, rfl⟩
theorem kLt_1 {z : Bool} {f : Int → Int} {n p : Int} (h : p_here f n p = 32) (h2 : kSc z (p_here f n (p + 1)) = false) : kFl (kLt z f n p) (p + 1) := by
  unfold kFl kLt p_one
  rw [p_skip_y h, if_pos rfl, if_neg (by show ¬ kSc z (p_here f n (p + 1)) = true; rw [h2]; decide)]
  exact ⟨rfl, rfl⟩
theorem kLt_2 {z : Bool} {f : Int → Int} {n p : Int} (h : p_here f n p = 32) (h2 : kSc z (p_here f n (p + 1)) = true) : kOk (kLt z f n p) (p + 1 + 1) (p_here f n (p + 1)) := by
  unfold kOk kLt p_one
  rw [p_skip_y h, if_pos rfl, if_pos (show kSc z (p_here f n (p + 1)) = true from h2)]
  exact ⟨rfl, rfl, rfl⟩
theorem kSc_0 {z : Bool} {v : Int} (h : kSc z v = true) : 0 ≤ v := by
  unfold kSc at h
  cases z with
  | true => exact p_sc_0 v h
  | false => exact p_tl_0 v h
theorem kNm_0 {d : Int} {f : Int → Int} {n p : Int} (h : ¬ p_here f n p = 32) : kFl (kNm d f n p) p := by
  unfold kFl kNm p_fig
  rw [p_skip_n h]
  exact ⟨rfl, rfl⟩
theorem kNm_1 {d : Int} {f : Int → Int} {n p : Int} (h : p_here f n p = 32) (h2 : p_dg (p_here f n (p + 1)) = false) : kFl (kNm d f n p) (p + 1) := by
  unfold kFl kNm p_fig
  rw [p_skip_y h, if_pos rfl, if_neg (by show ¬ p_dg (p_here f n (p + 1)) = true; rw [h2]; decide)]
  exact ⟨rfl, rfl⟩
theorem kNm_2 {d : Int} {f : Int → Int} {n p : Int} {t : Int × Int} (h : p_here f n p = 32) (h2 : p_dg (p_here f n (p + 1)) = true) (h3 : p_figN f n d.toNat 0 (p + 1) = t) : kOk (kNm d f n p) t.2 t.1 := by
  unfold kOk kNm p_fig
  rw [p_skip_y h, if_pos rfl, if_pos (show p_dg (p_here f n (p + 1)) = true from h2)]
  subst h3
  exact ⟨rfl, rfl, rfl⟩
/-- an item of a command: (0, k) the word k, (1, 0) a tool, (1, 1) a scope, (2, d) a number of at most d figures -/
def kIt (f : Int → Int) (n : Int) (it : Nat × Nat) (p : Int) : PR := if it.1 = 0 then kWd it.2 f n p else if it.1 = 1 then kLt (decide (it.2 = 1)) f n p else kNm (it.2 : Int) f n p
def kCh (f : Int → Int) (n : Int) : List (Nat × Nat) → Int → PS → PR
  | [], _, x => (true, x)
  | it :: L, pl, x => if (kIt f n it x.1).1 = true then kCh f n L (if it.1 = 0 then pl else pl + 1) ((kIt f n it x.1).2.1, if it.1 = 0 then x.2 else ui x.2 pl ((kIt f n it x.1).2.2 1)) else (false, ((kIt f n it x.1).2.1, x.2))
theorem kCh_t {f : Int → Int} {n pl p : Int} {it : Nat × Nat} {L : List (Nat × Nat)} {T : Int → Int} {X : PR} (h0 : X = kCh f n (it :: L) pl (p, T)) (h : (kIt f n it p).1 = true) : X = kCh f n L (if it.1 = 0 then pl else pl + 1) ((kIt f n it p).2.1, if it.1 = 0 then T else ui T pl ((kIt f n it p).2.2 1)) := h0.trans (if_pos h)
theorem kCh_f {f : Int → Int} {n pl p : Int} {it : Nat × Nat} {L : List (Nat × Nat)} {T : Int → Int} {X : PR} (h0 : X = kCh f n (it :: L) pl (p, T)) (h : (kIt f n it p).1 = false) : kFl X ((kIt f n it p).2.1) := by
  rw [h0, show kCh f n (it :: L) pl (p, T) = (false, ((kIt f n it p).2.1, T)) from if_neg (by rw [h]; decide)]
  exact ⟨rfl, rfl⟩
theorem kIt_r {f : Int → Int} (hf : B7 f) {n p : Int} (h : 0 ≤ p ∧ p ≤ n) (it : Nat × Nat) : 0 ≤ (kIt f n it p).2.1 ∧ (kIt f n it p).2.1 ≤ n ∧ p ≤ (kIt f n it p).2.1 := by
  unfold kIt
  split
  · exact ⟨(p_wd_r hf.i (TX.getD it.2 []) (p, kT0) (tx_0 _) h).1, (p_wd_r hf.i (TX.getD it.2 []) (p, kT0) (tx_0 _) h).2.1, (p_wd_r hf.i (TX.getD it.2 []) (p, kT0) (tx_0 _) h).2.2.1⟩
  · split
    · exact p_one_r (fun v hv => kSc_0 hv) hf.i h
    · exact p_fig_r hf.i h
/-- which command stands at p -/
def kKd (f : Int → Int) (n p : Int) : Int :=
  if p_here f n p = 114 then 0 else if p_here f n p = 100 then 1 else if p_here f n p = 110 then 2 else if p_here f n p = 108 then 3 else
  if p_here f n p = 99 then (if p_here f n (p + 1) = 108 then 8 else 4) else if p_here f n p = 115 then 5 else if p_here f n p = 98 then 6 else
  if p_here f n p = 111 then 7 else if p_here f n p = 109 then 9 else 10
def kLs (k : Int) : List (Nat × Nat) :=
  if k = 0 then [(0, 10), (1, 0), (1, 1), (2, 2)] else if k = 1 then [(0, 11), (1, 0)] else if k = 2 then [(0, 13), (1, 0), (1, 0)] else if k = 3 then [(0, 12), (1, 0), (1, 0)] else
  if k = 4 then [(0, 15), (1, 0), (1, 0)] else if k = 5 then [(0, 16), (1, 0), (1, 0)] else if k = 6 then [(0, 17), (1, 0)] else if k = 7 then [(0, 18)] else
  if k = 8 then [(0, 14), (2, 1)] else if k = 9 then [(0, 19), (1, 0), (2, 1)] else [(0, 20), (2, 2), (2, 1), (2, 1)]
def kCm (f : Int → Int) (n p : Int) : PR := kCh f n (kLs (kKd f n p)) 1 (p, kT0)
theorem kLt_v {z : Bool} {f : Int → Int} (hf : B7 f) {n p : Int} (h : (kLt z f n p).1 = true) : 0 ≤ (kLt z f n p).2.2 1 ∧ (kLt z f n p).2.2 1 < 128 := by
  have e1 : p_here f n p = 32 := Classical.byContradiction fun e => by rw [(kLt_0 e).1] at h; cases h
  have e2 : kSc z (p_here f n (p + 1)) = true := by
    cases e : kSc z (p_here f n (p + 1)) with
    | true => rfl
    | false => rw [(kLt_1 e1 e).1] at h; cases h
  rw [(kLt_2 e1 e2).2.2]
  have := p_here_7 hf n (p + 1)
  have := kSc_0 e2
  omega
theorem kNm_v {d : Int} {f : Int → Int} (hf : B7 f) {n p : Int} (hp : 0 ≤ p ∧ p ≤ n) (h : (kNm d f n p).1 = true) (hd : 1 ≤ d ∧ d ≤ 2) : 0 ≤ (kNm d f n p).2.2 1 ∧ (kNm d f n p).2.2 1 < 100 ∧ (d = 1 → (kNm d f n p).2.2 1 < 10) := by
  have e1 : p_here f n p = 32 := Classical.byContradiction fun e => by rw [(kNm_0 e).1] at h; cases h
  have e2 : p_dg (p_here f n (p + 1)) = true := by
    cases e : p_dg (p_here f n (p + 1)) with
    | true => rfl
    | false => rw [(kNm_1 e1 e).1] at h; cases h
  rw [(kNm_2 e1 e2 rfl).2.2]
  have h7 := p_here_7 hf n p
  have hr := p_figN_r hf.i (len := n) d.toNat 0 (p + 1) (by omega) (by omega) (by decide)
  rcases (show d = 1 ∨ d = 2 by omega) with rfl | rfl
  · have e : ((0 : Int) + 1) * 10 ^ (1 : Int).toNat = 10 := by decide
    rw [e] at hr
    exact ⟨hr.2.2.1, by omega, fun _ => hr.2.2.2⟩
  · have e : ((0 : Int) + 1) * 10 ^ (2 : Int).toNat = 100 := by decide
    rw [e] at hr
    exact ⟨hr.2.2.1, hr.2.2.2, fun h => by cases h⟩
