/-! ===== the tailor: what a commit does to its deques ===== -/
def cmN (nh ns : Int) : Int := if ns = 0 then nh else nh + 1
def cmL (nh ns : Int) (q : Nat) (L : Int → Nat) : Int → Nat := fun i => if i = cmN nh ns - 1 then q else if ns = 0 then L (i + 1) else L i
def cmS (ns : Int) : Int := if ns = 0 then 0 else ns - 1
theorem DQ.ext {f : Int → Option Nat} {hd tl n : Int} {L L2 : Int → Nat} (h : DQ f hd tl n L) (e : ∀ i, 0 ≤ i → i < n → L2 i = L i) : DQ f hd tl n L2 := ⟨h.1, h.2.1, h.2.2.1, fun i a b => by rw [e i a b]; exact h.2.2.2 i a b⟩
/-- the oldest goes, the new one comes -/
theorem tcm_old {f : Int → Option Nat} {hd tl n : Int} {L : Int → Nat} (h : DQ f hd tl n L) (hn : n = 8) (q : Nat) : DQ (uq (uq f hd none) tl (some q)) (if hd + 1 < 17 then hd + 1 else 0) (if tl + 1 < 17 then tl + 1 else 0) (cmN n 0) (cmL n 0 q L) := by
  have h1 := (h.pollFirst (by omega)).add (by omega) q
  have e : cmN n 0 = n - 1 + 1 := by unfold cmN; rw [if_pos rfl]; omega
  rw [e]
  refine h1.ext (fun i a b => ?_)
  unfold cmL
  rw [e, show n - 1 + 1 - 1 = n - 1 by omega]
  by_cases hi : i = n - 1
  · rw [if_pos hi]; show q = if i = n - 1 then q else _; rw [if_pos hi]
  · rw [if_neg hi, if_pos rfl]; show L (i + 1) = if i = n - 1 then q else _; rw [if_neg hi]
theorem tcm_new {f : Int → Option Nat} {hd tl n ns : Int} {L : Int → Nat} (h : DQ f hd tl n L) (hn : n < 8) (hs : ¬ ns = 0) (q : Nat) : DQ (uq f tl (some q)) hd (if tl + 1 < 17 then tl + 1 else 0) (cmN n ns) (cmL n ns q L) := by
  have h1 := h.add (by omega) q
  have e : cmN n ns = n + 1 := by unfold cmN; rw [if_neg hs]
  rw [e]
  refine h1.ext (fun i a b => ?_)
  unfold cmL
  rw [e, show n + 1 - 1 = n by omega]
  by_cases hi : i = n
  · rw [if_pos hi]; show q = if i = n then q else _; rw [if_pos hi]
  · rw [if_neg hi, if_neg hs]; show L i = if i = n then q else _; rw [if_neg hi]
theorem tcm_sp {f : Int → Option Nat} {hd tl ns : Int} {L : Int → Nat} (h : DQ f hd tl ns L) (hs : 0 < ns) : DQ (uq f hd none) (if hd + 1 < 17 then hd + 1 else 0) tl (cmS ns) (fun i => L (i + 1)) := by
  have e : cmS ns = ns - 1 := by unfold cmS; rw [if_neg (by omega)]
  rw [e]
  exact h.pollFirst hs
theorem tcm_s0 {f : Int → Option Nat} {hd tl ns : Int} {L : Int → Nat} (h : DQ f hd tl ns L) (hs : ns = 0) : DQ f hd tl (cmS ns) (fun i => L (i + 1)) := by
  have e : cmS ns = ns := by unfold cmS; rw [if_pos hs, hs]
  rw [e]
  exact h.ext (fun i a b => by omega)
