/-! ===== bits and sets ===== -/
theorem s_l : ∀ n, n < 32 → ((nI n &&& 31).toBitVec.smod 32).toNat = n := by decide +kernel
def pw (k : Int) : Int := ((2 ^ k.toNat : Nat) : Int)
def shr (a k : Int) : Int := a / pw k
def bor (a b : Int) : Int := ((a.toNat ||| b.toNat : Nat) : Int)
theorem pw_r {k : Int} (h : 0 ≤ k ∧ k < 8) : 1 ≤ pw k ∧ pw k ≤ 128 := by
  rcases (show k = 0 ∨ k = 1 ∨ k = 2 ∨ k = 3 ∨ k = 4 ∨ k = 5 ∨ k = 6 ∨ k = 7 by omega) with rfl | rfl | rfl | rfl | rfl | rfl | rfl | rfl <;> decide
theorem iI_shr {a k : Int} (ha : -2147483648 ≤ a ∧ a < 2147483648) (hk : 0 ≤ k ∧ k < 32) : iI a >>> (iI k &&& 31) = iI (shr a k) := by
  obtain ⟨n, rfl⟩ := Int.eq_ofNat_of_zero_le hk.1
  have h1 := pk_shr (iI a) (nI n &&& 31) n (s_l n (by omega))
  rw [iI_toInt ha] at h1
  have h2 : iI (n : Int) = nI n := Int32.ofInt_eq_ofNat
  rw [h2, ← iI_self (iI a >>> (nI n &&& 31)), h1, Int.shiftRight_eq_div_pow]
  rfl
theorem iI_and1 (a : Int) : iI a &&& iI 1 = iI (a % 2) := by
  have h1 := pk_and (iI a) (m := iI 1) 1 (by decide)
  have h2 : (iI a).toBitVec.toNat = (a % 4294967296).toNat := by
    show (BitVec.ofInt 32 a).toNat = _
    rw [BitVec.toNat_ofInt]
    rfl
  rw [h1, h2, iI_nI (Int.emod_nonneg _ (by decide))]
  congr 1
  omega
theorem iI_shl1 {k : Int} (hk : 0 ≤ k ∧ k < 31) : iI 1 <<< (iI k &&& 31) = iI (pw k) := by
  obtain ⟨n, rfl⟩ := Int.eq_ofNat_of_zero_le hk.1
  have hn : n < 31 := by omega
  have hp : 2 ^ n < 2 ^ 32 := Nat.pow_lt_pow_right (by decide) (by omega)
  have h1 := pk_shlN (n := 1) (nI n &&& 31) n (s_l n (by omega)) (by omega)
  have h2 : iI (n : Int) = nI n := Int32.ofInt_eq_ofNat
  rw [h2]
  show nI 1 <<< (nI n &&& 31) = _
  rw [h1, Nat.one_mul]
  exact (Int32.ofInt_eq_ofNat).symm
theorem nI_or (a b : Nat) : nI a ||| nI b = nI (a ||| b) := by
  apply Int32.toBitVec_inj.1
  show BitVec.ofNat 32 a ||| BitVec.ofNat 32 b = BitVec.ofNat 32 (a ||| b)
  apply BitVec.eq_of_getLsbD_eq
  intro i hi
  simp [hi]
theorem iI_or {a b : Int} (ha : 0 ≤ a) (hb : 0 ≤ b) : iI a ||| iI b = iI (bor a b) := by
  rw [iI_nI ha, iI_nI hb, nI_or]
  exact (Int32.ofInt_eq_ofNat).symm
/-- a set of tools as a number -/
def nbs (f : Int → Bool) : Nat → Nat
  | 0 => 0
  | n + 1 => (if f n = true then 2 ^ n else 0) + nbs f n
def bsI (f : Int → Bool) : Int := (nbs f 8 : Int)
theorem nbs_lt (f : Int → Bool) (n : Nat) : nbs f n < 2 ^ n := by
  induction n with
  | zero => exact Nat.one_pos
  | succ n ih =>
    rw [Nat.pow_succ]
    unfold nbs
    split <;> omega
theorem nbs_bit (f : Int → Bool) (n i : Nat) : (nbs f n).testBit i = (decide (i < n) && f i) := by
  induction n with
  | zero => simp [nbs]
  | succ n ih =>
    unfold nbs
    rcases Nat.lt_trichotomy i n with h | h | h
    · have e : decide (i < n + 1) = decide (i < n) := by rw [decide_eq_true h, decide_eq_true (by omega)]
      rw [e, ← ih]
      split
      · exact Nat.testBit_two_pow_add_gt h _
      · rw [Nat.zero_add]
    · subst h
      rw [decide_eq_true (Nat.lt_succ_self i), Bool.true_and]
      split
      · rename_i hf
        rw [Nat.testBit_two_pow_add_eq, Nat.testBit_lt_two_pow (nbs_lt f i), hf]
        rfl
      · rename_i hf
        rw [Nat.zero_add, Nat.testBit_lt_two_pow (nbs_lt f i)]
        cases hq : f i with
        | true => exact absurd hq hf
        | false => rfl
    · rw [decide_eq_false (by omega), Bool.false_and]
      refine Nat.testBit_lt_two_pow ?_
      have h1 := nbs_lt f (n + 1)
      unfold nbs at h1
      exact Nat.lt_of_lt_of_le h1 (Nat.pow_le_pow_right (by decide) h)
theorem bsI_r (f : Int → Bool) : 0 ≤ bsI f ∧ bsI f < 256 := by
  have := nbs_lt f 8
  unfold bsI
  omega
theorem bsI_bit (f : Int → Bool) {k : Int} (h : 0 ≤ k ∧ k < 8) : shr (bsI f) k % 2 = b2 (f k) := by
  obtain ⟨i, rfl⟩ := Int.eq_ofNat_of_zero_le h.1
  have h1 := nbs_bit f 8 i
  rw [decide_eq_true (by omega), Bool.true_and] at h1
  have h2 : (shr (bsI f) (i : Int)) % 2 = ((nbs f 8 / 2 ^ i % 2 : Nat) : Int) := rfl
  rw [h2, ← h1, Nat.testBit_eq_decide_div_mod_eq]
  have h3 : nbs f 8 / 2 ^ i % 2 < 2 := Nat.mod_lt _ (by decide)
  unfold b2
  split
  · rename_i h4
    have := of_decide_eq_true h4
    omega
  · rename_i h4
    have : ¬ nbs f 8 / 2 ^ i % 2 = 1 := fun h5 => h4 (decide_eq_true h5)
    omega
theorem bsI_ext {f h : Int → Bool} (e : ∀ k, 0 ≤ k → k < 8 → f k = h k) : bsI f = bsI h := by
  have : ∀ n : Nat, n ≤ 8 → nbs f n = nbs h n := by
    intro n
    induction n with
    | zero => intro _; rfl
    | succ n ih =>
      intro hn
      unfold nbs
      rw [ih (by omega), e n (by omega) (by omega)]
  show ((nbs f 8 : Nat) : Int) = _
  rw [this 8 (Nat.le_refl 8)]
  rfl
theorem bsI_inj {f h : Int → Bool} (e : bsI f = bsI h) : ∀ k, 0 ≤ k → k < 8 → f k = h k := by
  intro k h1 h2
  have a := bsI_bit f ⟨h1, h2⟩
  rw [e, bsI_bit h ⟨h1, h2⟩] at a
  cases hf : f k <;> cases hh : h k <;> rw [hf, hh] at a <;> first | rfl | exact absurd a (by decide)
theorem bor_bs (f h : Int → Bool) : bor (bsI f) (bsI h) = bsI (fun v => f v || h v) := by
  show ((nbs f 8 ||| nbs h 8 : Nat) : Int) = ((nbs (fun v => f v || h v) 8 : Nat) : Int)
  congr 1
  apply Nat.eq_of_testBit_eq
  intro i
  rw [Nat.testBit_or, nbs_bit, nbs_bit, nbs_bit]
  cases decide (i < 8) <;> simp
theorem pw_bs {s : Int} (h : 0 ≤ s ∧ s < 8) : pw s = bsI (fun v => decide (v = s)) := by
  rcases (show s = 0 ∨ s = 1 ∨ s = 2 ∨ s = 3 ∨ s = 4 ∨ s = 5 ∨ s = 6 ∨ s = 7 by omega) with rfl | rfl | rfl | rfl | rfl | rfl | rfl | rfl <;> decide +kernel
theorem bsI_no : bsI (fun _ => false) = 0 := by decide +kernel
def exN (f : Int → Bool) : Nat → Bool
  | 0 => false
  | n + 1 => exN f n || f n
/-- is there a k < n with f k -/
def exB (f : Int → Bool) (n : Int) : Bool := exN f n.toNat
theorem exB_s {f : Int → Bool} {n : Int} (h : 0 ≤ n) : exB f (n + 1) = (exB f n || f n) := by
  obtain ⟨k, rfl⟩ := Int.eq_ofNat_of_zero_le h
  rfl
theorem exN_iff (f : Int → Bool) (n : Nat) : exN f n = true ↔ ∃ k : Int, 0 ≤ k ∧ k < n ∧ f k = true := by
  induction n with
  | zero => exact ⟨fun h => (by cases h), fun ⟨k, h1, h2, _⟩ => by omega⟩
  | succ n ih =>
    unfold exN
    rw [Bool.or_eq_true, ih]
    constructor
    · rintro (⟨k, h1, h2, h3⟩ | h)
      · exact ⟨k, h1, by omega, h3⟩
      · exact ⟨n, by omega, by omega, h⟩
    · rintro ⟨k, h1, h2, h3⟩
      by_cases hk : k = n
      · right; rw [← hk]; exact h3
      · left; exact ⟨k, h1, by omega, h3⟩
theorem exB_iff {f : Int → Bool} {n : Int} : exB f n = true ↔ ∃ k : Int, 0 ≤ k ∧ k < n ∧ f k = true := by
  unfold exB
  rw [exN_iff]
  constructor
  · rintro ⟨k, h1, h2, h3⟩; exact ⟨k, h1, by omega, h3⟩
  · rintro ⟨k, h1, h2, h3⟩; exact ⟨k, h1, by omega, h3⟩
section NBITS
variable {p : Program} {l : Launch} {e : Env} {R : Room} {s : State} {m : MethodId} {args : Array Value} {below : List Frame} {meth : Method} {c : Code} {H : Heap} {locs : List Loc} {cells slots : Nat} {Q : State → Prop}
variable {cc : ByteArray} {pc : Nat} {ls : Array Slot} {rest : List Value}
theorem n_top {x y : Int} (h : x = y) (k : W p l e R s m args below meth c H locs cells slots Q (F0 m (pc) ls (iv y :: rest))) : W p l e R s m args below meth c H locs cells slots Q (F0 m (pc) ls (iv x :: rest)) := by rw [h]; exact k
theorem n_ishr (hexec : p.tables.exec = Jvm.exec) (hb : c.code = cc) {x y : Int} (hx : (-2147483648 ≤ x ∧ x < 2147483648)) (hy : 0 ≤ y ∧ y < 32) (hdg : decode cc pc = .ok (.ishr, 1)) (k : W p l e R s m args below meth c H locs cells slots Q (F0 m (pc + 1) ls (iv (shr x y) :: rest))) : W p l e R s m args below meth c H locs cells slots Q (F0 m (pc) ls (iv y :: iv x :: rest)) := lv_ishr hexec hb hdg (by rw [iI_shr hx hy]; exact k)
theorem n_iand1 (hexec : p.tables.exec = Jvm.exec) (hb : c.code = cc) {x : Int} (hdg : decode cc pc = .ok (.iand, 1)) (k : W p l e R s m args below meth c H locs cells slots Q (F0 m (pc + 1) ls (iv (x % 2) :: rest))) : W p l e R s m args below meth c H locs cells slots Q (F0 m (pc) ls (iv 1 :: iv x :: rest)) := lv_iand hexec hb hdg (by rw [iI_and1]; exact k)
theorem n_ishl1 (hexec : p.tables.exec = Jvm.exec) (hb : c.code = cc) {y : Int} (hy : 0 ≤ y ∧ y < 31) (hdg : decode cc pc = .ok (.ishl, 1)) (k : W p l e R s m args below meth c H locs cells slots Q (F0 m (pc + 1) ls (iv (pw y) :: rest))) : W p l e R s m args below meth c H locs cells slots Q (F0 m (pc) ls (iv y :: iv 1 :: rest)) := lv_ishl hexec hb hdg (by rw [iI_shl1 hy]; exact k)
theorem n_ishl1_bs (hexec : p.tables.exec = Jvm.exec) (hb : c.code = cc) {y : Int} (hy : 0 ≤ y ∧ y < 8) (hdg : decode cc pc = .ok (.ishl, 1)) (k : W p l e R s m args below meth c H locs cells slots Q (F0 m (pc + 1) ls (iv (bsI (fun v => decide (v = y))) :: rest))) : W p l e R s m args below meth c H locs cells slots Q (F0 m (pc) ls (iv y :: iv 1 :: rest)) := n_ishl1 hexec hb (by omega) hdg (by rw [pw_bs hy]; exact k)
theorem n_ior (hexec : p.tables.exec = Jvm.exec) (hb : c.code = cc) {x y : Int} (hx : 0 ≤ x) (hy : 0 ≤ y) (hdg : decode cc pc = .ok (.ior, 1)) (k : W p l e R s m args below meth c H locs cells slots Q (F0 m (pc + 1) ls (iv (bor x y) :: rest))) : W p l e R s m args below meth c H locs cells slots Q (F0 m (pc) ls (iv y :: iv x :: rest)) := lv_ior hexec hb hdg (by rw [iI_or hx hy]; exact k)
theorem n_ior_bs (hexec : p.tables.exec = Jvm.exec) (hb : c.code = cc) {f h : Int → Bool} (hdg : decode cc pc = .ok (.ior, 1)) (k : W p l e R s m args below meth c H locs cells slots Q (F0 m (pc + 1) ls (iv (bsI (fun v => f v || h v)) :: rest))) : W p l e R s m args below meth c H locs cells slots Q (F0 m (pc) ls (iv (bsI h) :: iv (bsI f) :: rest)) := n_ior hexec hb (bsI_r f).1 (bsI_r h).1 hdg (by rw [bor_bs]; exact k)
theorem n_ior_b (hexec : p.tables.exec = Jvm.exec) (hb : c.code = cc) {x y : Bool} (hdg : decode cc pc = .ok (.ior, 1)) (k : W p l e R s m args below meth c H locs cells slots Q (F0 m (pc + 1) ls (iv (b2 (x || y)) :: rest))) : W p l e R s m args below meth c H locs cells slots Q (F0 m (pc) ls (iv (b2 y) :: iv (b2 x) :: rest)) := n_ior hexec hb (b2_r x).1 (b2_r y).1 hdg (by rw [show bor (b2 x) (b2 y) = b2 (x || y) by cases x <;> cases y <;> decide]; exact k)
theorem n_icmpb_ne (hexec : p.tables.exec = Jvm.exec) (hb : c.code = cc) {b : Bool} {off : Int} {tgt : Nat} (hdg : decode cc pc = .ok (.if_icmp .ne off, 3)) (ht : (pc : Int) + off = (tgt : Int)) (kt : b = false → W p l e R s m args below meth c H locs cells slots Q (F0 m (tgt) ls (rest))) (kf : b = true → W p l e R s m args below meth c H locs cells slots Q (F0 m (pc + 3) ls (rest))) : W p l e R s m args below meth c H locs cells slots Q (F0 m (pc) ls (iv 1 :: iv (b2 b) :: rest)) := n_icmp_ne hexec hb hdg ht (by have := b2_r b; omega) (by decide) (fun q => kt (by cases b with | true => exact absurd rfl q | false => rfl)) (fun q => kf ((b2_1 b).mp q))
theorem n_icmpb_eq (hexec : p.tables.exec = Jvm.exec) (hb : c.code = cc) {b : Bool} {off : Int} {tgt : Nat} (hdg : decode cc pc = .ok (.if_icmp .eq off, 3)) (ht : (pc : Int) + off = (tgt : Int)) (kt : b = true → W p l e R s m args below meth c H locs cells slots Q (F0 m (tgt) ls (rest))) (kf : b = false → W p l e R s m args below meth c H locs cells slots Q (F0 m (pc + 3) ls (rest))) : W p l e R s m args below meth c H locs cells slots Q (F0 m (pc) ls (iv 1 :: iv (b2 b) :: rest)) := n_icmp_eq hexec hb hdg ht (by have := b2_r b; omega) (by decide) (fun q => kt ((b2_1 b).mp q)) (fun q => kf (by cases b with | true => exact absurd rfl q | false => rfl))
end NBITS
