/-- the length of a text that is kept last sign first; the signs written over what lay there -/
def lenI : List Int → Int
  | [] => 0
  | _ :: L => lenI L + 1
theorem lenI_0 (L : List Int) : 0 ≤ lenI L := by
  induction L with
  | nil => decide
  | cons v L ih => show 0 ≤ lenI L + 1; omega
def wR : List Int → (Int → Int) → Int → Int
  | [], f => f
  | v :: L, f => ui (wR L f) (lenI L) v
/-- a number's figures (below 100) -/
def dgR (v : Int) (L : List Int) : List Int := if 9 < v then (48 + v % 10) :: (48 + v / 10 % 10) :: L else (48 + v % 10) :: L
theorem dgR_len (v : Int) (L : List Int) : lenI L < lenI (dgR v L) ∧ lenI (dgR v L) ≤ lenI L + 2 := by
  unfold dgR
  split
  · show lenI L < lenI L + 1 + 1 ∧ lenI L + 1 + 1 ≤ lenI L + 2
    omega
  · show lenI L < lenI L + 1 ∧ lenI L + 1 ≤ lenI L + 2
    omega
theorem dgR_p {v : Int} {L : List Int} {f : Int → Int} (h : 9 < v) : wR (dgR v L) f = ui (ui (wR L f) (lenI L) (48 + v / 10 % 10)) (lenI L + 1) (48 + v % 10) := by
  unfold dgR
  rw [if_pos h]
  rfl
theorem wR_cb {v : Int} {L : List Int} {f : Int → Int} (h : ∀ x, 0 ≤ wR L f x ∧ wR L f x < 2147483648) (hv : 0 ≤ v ∧ v < 65536) : ∀ x, 0 ≤ wR (v :: L) f x ∧ wR (v :: L) f x < 2147483648 := ui_b h (by omega)
theorem wR_db {v : Int} {L : List Int} {f : Int → Int} (h : ∀ x, 0 ≤ wR L f x ∧ wR L f x < 2147483648) (hv : 0 ≤ v ∧ v < 100) : ∀ x, 0 ≤ wR (dgR v L) f x ∧ wR (dgR v L) f x < 2147483648 := by
  unfold dgR
  split
  · exact wR_cb (wR_cb h (by omega)) (by omega)
  · exact wR_cb h (by omega)
/-- a recipe's line, an object's line -/
def m_wn (g : Int → Int) (t k : Int) (L : List Int) : List Int := (97 + m_need g t k) :: (if m_dir g t k = true then 32 :: L else 63 :: 32 :: L)
def m_wrec (g : Int → Int) (c : Int) : List Int := if 0 < m_of g (c - 97) 6 then (97 + (m_of g (c - 97) 6 - 1)) :: 62 :: itI (m_wn g (c - 97)) (m_of g (c - 97) 2) (dgR (m_of g (c - 97) 1) [m_of g (c - 97) 0, c]) else itI (m_wn g (c - 97)) (m_of g (c - 97) 2) (dgR (m_of g (c - 97) 1) [m_of g (c - 97) 0, c])
def m_wf (g : Int → Int) (o k : Int) (L : List Int) : List Int := if m_thing g o (7 + k) = 0 then 63 :: 32 :: L else dgR (m_thing g o (7 + k) - 1) (32 :: L)
def m_wobj (g : Int → Int) (o : Int) : List Int := itI (m_wf g o) (m_thing g o 3) ((97 + m_thing g o 0) :: dgR o [])
theorem m_wn_s {g : Int → Int} {t k : Int} {L L0 : List Int} (hk : 0 ≤ k) (h : L = itI (m_wn g t) k L0) {L2 : List Int} (h2 : (if m_dir g t k = true then 32 :: L else 63 :: 32 :: L) = L2) : (97 + m_need g t k) :: L2 = itI (m_wn g t) (k + 1) L0 := by
  rw [itI_s hk, ← h, ← h2]
  rfl
theorem m_wf_s {g : Int → Int} {o k : Int} {L L0 : List Int} (hk : 0 ≤ k) (h : L = itI (m_wf g o) k L0) {L2 : List Int} (h2 : m_wf g o k L = L2) : L2 = itI (m_wf g o) (k + 1) L0 := by
  rw [itI_s hk, ← h, ← h2]
/-- codes: a line's sign, a typed sign, the fault's place -/
def c_line (n k : Int) : Int := if 0 ≤ k ∧ k ≤ n - 1 then 0 else 1
theorem c_line_r (n k : Int) : 0 ≤ c_line n k ∧ c_line n k ≤ 1 := by unfold c_line; split <;> omega
def c_type (n v : Int) : Int := if 32 ≤ v ∧ v ≤ 126 then (if n = 60 then 2 else 0) else 1
theorem c_type_r (n v : Int) : 0 ≤ c_type n v ∧ c_type n v ≤ 2 := by unfold c_type; (repeat' split) <;> omega
theorem c_type_ok {n v : Int} (h : ¬ 0 < c_type n v) : (32 ≤ v ∧ v ≤ 126) ∧ n ≠ 60 := by
  unfold c_type at h
  (repeat' split at h) <;> omega
def c_mns (v : Int) : Int := if v < 0 then 1 else 0
theorem c_mns_r (v : Int) : 0 ≤ c_mns v ∧ c_mns v ≤ 1 := by unfold c_mns; split <;> omega
def c_nul (v : Int) : Int := if v = 0 then 1 else 0
theorem c_nul_r (v : Int) : 0 ≤ c_nul v ∧ c_nul v ≤ 1 := by unfold c_nul; split <;> omega
theorem c_nul_ok {v : Int} (h : ¬ 0 < c_nul v) : v ≠ 0 := by unfold c_nul at h; split at h <;> omega
