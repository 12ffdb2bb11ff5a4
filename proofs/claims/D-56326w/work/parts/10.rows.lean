/-! ===== integers as Int; rows of the kit over them ===== -/
def iI (x : Int) : Int32 := Int32.ofInt x
abbrev iv (x : Int) : Value := .int (iI x)
def b2 (b : Bool) : Int := if b then 1 else 0
theorem b2_t : b2 true = 1 := rfl
theorem b2_f : b2 false = 0 := rfl
theorem b2_r (b : Bool) : 0 ≤ b2 b ∧ b2 b ≤ 1 := by cases b <;> decide
theorem b2_0 (b : Bool) : b2 b = 0 ↔ b = false := by cases b <;> decide
theorem b2_1 (b : Bool) : b2 b = 1 ↔ b = true := by cases b <;> decide
theorem b2_pos {P : Prop} [Decidable P] (h : P) : b2 (decide P) = 1 := by rw [decide_eq_true h]; rfl
theorem b2_neg {P : Prop} [Decidable P] (h : ¬ P) : b2 (decide P) = 0 := by rw [decide_eq_false h]; rfl
theorem iI_toInt {x : Int} (h : -2147483648 ≤ x ∧ x < 2147483648) : (iI x).toInt = x := Int32.toInt_ofInt_of_le h.1 h.2
theorem iI_self (x : Int32) : iI x.toInt = x := Int32.ofInt_toInt x
theorem iI_rng (x : Int32) : -2147483648 ≤ x.toInt ∧ x.toInt < 2147483648 := ⟨x.le_toInt, x.toInt_lt⟩
theorem iI_ex (x : Int32) : ∃ z : Int, x = iI z ∧ -2147483648 ≤ z ∧ z < 2147483648 := ⟨x.toInt, (iI_self x).symm, (iI_rng x).1, (iI_rng x).2⟩
theorem iI_add (a b : Int) : iI a + iI b = iI (a + b) := (Int32.ofInt_add a b).symm
theorem iI_sub (a b : Int) : iI a - iI b = iI (a - b) := (Int32.ofInt_sub a b).symm
theorem iI_mul (a b : Int) : iI a * iI b = iI (a * b) := (Int32.ofInt_mul a b).symm
theorem iI_neg (a : Int) : -iI a = iI (-a) := Int32.neg_ofInt
theorem iI_eq {a b : Int} (ha : -2147483648 ≤ a ∧ a < 2147483648) (hb : -2147483648 ≤ b ∧ b < 2147483648) : iI a = iI b ↔ a = b := ⟨fun h => by rw [← iI_toInt ha, ← iI_toInt hb, h], fun h => by rw [h]⟩
theorem iI_lt {a b : Int} (ha : -2147483648 ≤ a ∧ a < 2147483648) (hb : -2147483648 ≤ b ∧ b < 2147483648) : iI a < iI b ↔ a < b := by rw [Int32.lt_iff_toInt_lt, iI_toInt ha, iI_toInt hb]
theorem iI_le {a b : Int} (ha : -2147483648 ≤ a ∧ a < 2147483648) (hb : -2147483648 ≤ b ∧ b < 2147483648) : iI a ≤ iI b ↔ a ≤ b := by rw [Int32.le_iff_toInt_le, iI_toInt ha, iI_toInt hb]
theorem iI_0 : iI 0 = 0 := by decide
theorem iI_in {x : Int} {n : Nat} (h : 0 ≤ x ∧ x < (n : Int)) (hn : n < 2147483648) : vp_in (iI x) n := vp_in_iff.mpr (by rw [iI_toInt (by omega)]; exact h)
theorem iI_cl {x : Int} (h0 : 0 ≤ x) (h1 : x < 2147483648) : (((iI x).toNatClampNeg : Nat) : Int) = x := by
  rw [← Int32.toNat_toInt, iI_toInt (by omega)]
  omega
theorem iI_cln {x : Int} (h0 : 0 ≤ x) (h1 : x < 2147483648) : (iI x).toNatClampNeg = x.toNat := by
  rw [← Int32.toNat_toInt, iI_toInt (by omega)]
theorem iI_nI {x : Int} (h : 0 ≤ x) : iI x = nI x.toNat := by
  obtain ⟨n, rfl⟩ := Int.eq_ofNat_of_zero_le h
  exact Int32.ofInt_eq_ofNat
theorem iI_div {a b : Int} (ha : 0 ≤ a ∧ a < 2147483648) (hb : 0 < b ∧ b < 2147483648) : iI a / iI b = iI (a / b) := by
  obtain ⟨n, rfl⟩ := Int.eq_ofNat_of_zero_le ha.1
  obtain ⟨d, rfl⟩ := Int.eq_ofNat_of_zero_le (Int.le_of_lt hb.1)
  show Int32.ofInt n / Int32.ofInt d = Int32.ofInt ((n : Int) / (d : Int))
  rw [Int32.ofInt_eq_ofNat, Int32.ofInt_eq_ofNat, show ((n : Int) / (d : Int)) = ((n / d : Nat) : Int) from rfl, Int32.ofInt_eq_ofNat]
  exact pk_div (by omega) (by omega) (by omega)
theorem iI_rem {a b : Int} (ha : 0 ≤ a ∧ a < 2147483648) (hb : 0 < b ∧ b < 2147483648) : iI a - iI a / iI b * iI b = iI (a % b) := by
  rw [iI_div ha hb, iI_mul, iI_sub]
  congr 1
  have := Int.mul_ediv_add_emod a b
  rw [Int.mul_comm] at this
  omega
theorem iI_char (x : Int) : ((iI x).toUInt32 % 65536).toInt32 = iI (x % 65536) := by
  rw [pk_char, iI_nI (Int.emod_nonneg _ (by decide))]
  congr 1
  have h : (iI x).toBitVec.toNat = (x % 4294967296).toNat := by
    show (BitVec.ofInt 32 x).toNat = _
    rw [BitVec.toNat_ofInt]
    rfl
  rw [h]
  omega
theorem iI_char_id {x : Int} (h : 0 ≤ x ∧ x < 65536) : ((iI x).toUInt32 % 65536).toInt32 = iI x := by rw [iI_char, Int.emod_eq_of_lt h.1 h.2]
theorem nr_i (x : Int) : narrow .int (iv x) = iv x := rfl
theorem nr_c {x : Int} (h : 0 ≤ x ∧ x < 65536) : narrow .char (iv x) = iv x := by
  have := pk_nc (iI x)
  rw [iI_char_id h] at this
  exact this
theorem ft_c {x : Int} (h : 0 ≤ x ∧ x < 65536) : fits .char (iv x) = true := by
  have := pk_fc (iI x)
  rw [iI_char_id h] at this
  exact this
theorem vn_c {x : Int} (h : 0 ≤ x ∧ x < 65536) : vp_nar .char (iI x) = iI x := by rw [vp_nar_char, show (iI x).toUInt32.toUInt16.toUInt32.toInt32 = ((iI x).toUInt32 % 65536).toInt32 from (vp_nar_char (iI x)).symm.trans (by have := pk_vc (iI x); rw [iI_char_id h] at this; rw [iI_char_id h]; exact this), iI_char_id h]
theorem nr_b {x : Int} (h : 0 ≤ x ∧ x ≤ 1) : narrow .boolean (iv x) = iv x := by
  rcases (show x = 0 ∨ x = 1 by omega) with rfl | rfl <;> decide
theorem ft_b {x : Int} (h : 0 ≤ x ∧ x ≤ 1) : fits .boolean (iv x) = true := by
  rcases (show x = 0 ∨ x = 1 by omega) with rfl | rfl <;> decide
theorem vn_b {x : Int} (h : 0 ≤ x ∧ x ≤ 1) : vp_nar .boolean (iI x) = iI x := by
  rcases (show x = 0 ∨ x = 1 by omega) with rfl | rfl <;> decide
theorem nr_b2 (b : Bool) : narrow .boolean (iv (b2 b)) = iv (b2 b) := nr_b (b2_r b)
/-! arrays as functions of Int -/
def ui (f : Int → Int) (i v : Int) : Int → Int := fun x => if x = i then v else f x
theorem ui_s {f : Int → Int} {i v : Int} : ui f i v i = v := if_pos rfl
theorem ui_n {f : Int → Int} {i v x : Int} (h : x ≠ i) : ui f i v x = f x := if_neg h
def us (s : Nat → Int) (k : Nat) (v : Int) : Nat → Int := fun j => cond (Nat.beq j k) v (s j)
def ua (a : Nat → Int → Int) (k : Nat) (f : Int → Int) : Nat → Int → Int := fun j => cond (Nat.beq j k) f (a j)
abbrev ia (cA : ClassId) (n : Nat) (f : Int → Int) : va_E := .inl (cA, n, .inl (fun k : Nat => iI (f (k : Int))))
theorem ia_at {f : Int → Int} {i : Int} (h0 : 0 ≤ i) (h1 : i < 2147483648) : (fun k : Nat => iI (f (k : Int))) (iI i).toNatClampNeg = iI (f i) := by
  show iI (f ((iI i).toNatClampNeg : Nat)) = _
  rw [iI_cl h0 h1]
theorem ia_upd {f : Int → Int} {i v : Int} (h0 : 0 ≤ i) (h1 : i < 2147483648) : upd (fun k : Nat => iI (f (k : Int))) (iI i).toNatClampNeg (iI v) = fun k : Nat => iI (ui f i v (k : Int)) := by
  funext k
  unfold upd ui
  have hc := iI_cl h0 h1
  by_cases hk : k = (iI i).toNatClampNeg
  · rw [if_pos hk, if_pos (by rw [hk]; exact hc)]
  · rw [if_neg hk, if_neg (by omega)]
section NROWS
variable {p : Program} {l : Launch} {e : Env} {R : Room} {s : State} {m : MethodId} {args : Array Value} {below : List Frame} {meth : Method} {c : Code} {H : Heap} {locs : List Loc} {cells slots : Nat} {Q : State → Prop}
variable {cc : ByteArray} {pc : Nat} {ls : Array Slot} {rest : List Value} {D : va_G} {cl : List vw_C} {ws : va_W} {tys : List (ClassId × FieldType)} {a : Nat} {A : Nat → Prop} {H0 : Heap}
theorem n_iadd (hexec : p.tables.exec = Jvm.exec) (hb : c.code = cc) {x y : Int} (hdg : decode cc pc = .ok (.iadd, 1)) (k : W p l e R s m args below meth c H locs cells slots Q (F0 m (pc + 1) ls (iv (x + y) :: rest))) : W p l e R s m args below meth c H locs cells slots Q (F0 m (pc) ls (iv y :: iv x :: rest)) := lv_iadd hexec hb hdg (by rw [iI_add]; exact k)
theorem n_isub (hexec : p.tables.exec = Jvm.exec) (hb : c.code = cc) {x y : Int} (hdg : decode cc pc = .ok (.isub, 1)) (k : W p l e R s m args below meth c H locs cells slots Q (F0 m (pc + 1) ls (iv (x - y) :: rest))) : W p l e R s m args below meth c H locs cells slots Q (F0 m (pc) ls (iv y :: iv x :: rest)) := lv_isub hexec hb hdg (by rw [iI_sub]; exact k)
theorem n_imul (hexec : p.tables.exec = Jvm.exec) (hb : c.code = cc) {x y : Int} (hdg : decode cc pc = .ok (.imul, 1)) (k : W p l e R s m args below meth c H locs cells slots Q (F0 m (pc + 1) ls (iv (x * y) :: rest))) : W p l e R s m args below meth c H locs cells slots Q (F0 m (pc) ls (iv y :: iv x :: rest)) := lv_imul hexec hb hdg (by rw [iI_mul]; exact k)
theorem n_ineg (hexec : p.tables.exec = Jvm.exec) (hb : c.code = cc) {x : Int} (hdg : decode cc pc = .ok (.ineg, 1)) (k : W p l e R s m args below meth c H locs cells slots Q (F0 m (pc + 1) ls (iv (-x) :: rest))) : W p l e R s m args below meth c H locs cells slots Q (F0 m (pc) ls (iv x :: rest)) := lv_ineg hexec hb hdg (by rw [iI_neg]; exact k)
theorem n_idiv (hexec : p.tables.exec = Jvm.exec) (hb : c.code = cc) {x y : Int} (hx : 0 ≤ x ∧ x < 2147483648) (hy : 0 < y ∧ y < 2147483648) (hdg : decode cc pc = .ok (.idiv, 1)) (k : W p l e R s m args below meth c H locs cells slots Q (F0 m (pc + 1) ls (iv (x / y) :: rest))) : W p l e R s m args below meth c H locs cells slots Q (F0 m (pc) ls (iv y :: iv x :: rest)) := lv_idiv hexec hb hdg (fun h => by rw [← iI_0, iI_eq (by omega) (by omega)] at h; omega) (by rw [iI_div hx hy]; exact k)
theorem n_irem (hexec : p.tables.exec = Jvm.exec) (hb : c.code = cc) {x y : Int} (hx : 0 ≤ x ∧ x < 2147483648) (hy : 0 < y ∧ y < 2147483648) (hdg : decode cc pc = .ok (.irem, 1)) (k : W p l e R s m args below meth c H locs cells slots Q (F0 m (pc + 1) ls (iv (x % y) :: rest))) : W p l e R s m args below meth c H locs cells slots Q (F0 m (pc) ls (iv y :: iv x :: rest)) := lv_irem hexec hb hdg (fun h => by rw [← iI_0, iI_eq (by omega) (by omega)] at h; omega) (by rw [iI_rem hx hy]; exact k)
theorem n_i2c (hexec : p.tables.exec = Jvm.exec) (hb : c.code = cc) {x : Int} (h : 0 ≤ x ∧ x < 65536) (hdg : decode cc pc = .ok (.i2c, 1)) (k : W p l e R s m args below meth c H locs cells slots Q (F0 m (pc + 1) ls (iv x :: rest))) : W p l e R s m args below meth c H locs cells slots Q (F0 m (pc) ls (iv x :: rest)) := lv_i2c hexec hb hdg (iI_char_id h) k
theorem n_i2cm (hexec : p.tables.exec = Jvm.exec) (hb : c.code = cc) {x : Int} (hdg : decode cc pc = .ok (.i2c, 1)) (k : W p l e R s m args below meth c H locs cells slots Q (F0 m (pc + 1) ls (iv (x % 65536) :: rest))) : W p l e R s m args below meth c H locs cells slots Q (F0 m (pc) ls (iv x :: rest)) := lv_i2c hexec hb hdg (iI_char x) k
theorem n_icmp_eq (hexec : p.tables.exec = Jvm.exec) (hb : c.code = cc) {x y : Int} {off : Int} {tgt : Nat} (hdg : decode cc pc = .ok (.if_icmp .eq off, 3)) (ht : (pc : Int) + off = (tgt : Int)) (hx : (-2147483648 ≤ x ∧ x < 2147483648)) (hy : (-2147483648 ≤ y ∧ y < 2147483648)) (kt : x = y → W p l e R s m args below meth c H locs cells slots Q (F0 m (tgt) ls (rest))) (kf : ¬ x = y → W p l e R s m args below meth c H locs cells slots Q (F0 m (pc + 3) ls (rest))) : W p l e R s m args below meth c H locs cells slots Q (F0 m (pc) ls (iv y :: iv x :: rest)) := lv_icmp_eq hexec hb hdg ht (fun q => kt ((iI_eq hx hy).mp q)) (fun q => kf (fun h => q ((iI_eq hx hy).mpr h)))
theorem n_if_eq (hexec : p.tables.exec = Jvm.exec) (hb : c.code = cc) {x : Int} {off : Int} {tgt : Nat} (hdg : decode cc pc = .ok (.ifCond .eq off, 3)) (ht : (pc : Int) + off = (tgt : Int)) (hx : (-2147483648 ≤ x ∧ x < 2147483648)) (kt : x = 0 → W p l e R s m args below meth c H locs cells slots Q (F0 m (tgt) ls (rest))) (kf : ¬ x = 0 → W p l e R s m args below meth c H locs cells slots Q (F0 m (pc + 3) ls (rest))) : W p l e R s m args below meth c H locs cells slots Q (F0 m (pc) ls (iv x :: rest)) := lv_if_eq hexec hb hdg ht (fun q => kt (by rw [← iI_0] at q; exact (iI_eq hx (show -2147483648 ≤ (0 : Int) ∧ (0 : Int) < 2147483648 by decide)).mp q)) (fun q => kf (by rw [← iI_0] at q; exact fun h => q ((iI_eq hx (show -2147483648 ≤ (0 : Int) ∧ (0 : Int) < 2147483648 by decide)).mpr h)))
theorem n_icmp_ne (hexec : p.tables.exec = Jvm.exec) (hb : c.code = cc) {x y : Int} {off : Int} {tgt : Nat} (hdg : decode cc pc = .ok (.if_icmp .ne off, 3)) (ht : (pc : Int) + off = (tgt : Int)) (hx : (-2147483648 ≤ x ∧ x < 2147483648)) (hy : (-2147483648 ≤ y ∧ y < 2147483648)) (kt : ¬ x = y → W p l e R s m args below meth c H locs cells slots Q (F0 m (tgt) ls (rest))) (kf : x = y → W p l e R s m args below meth c H locs cells slots Q (F0 m (pc + 3) ls (rest))) : W p l e R s m args below meth c H locs cells slots Q (F0 m (pc) ls (iv y :: iv x :: rest)) := lv_icmp_ne hexec hb hdg ht (fun q => kt (fun h => q ((iI_eq hx hy).mpr h))) (fun q => kf ((iI_eq hx hy).mp q))
theorem n_if_ne (hexec : p.tables.exec = Jvm.exec) (hb : c.code = cc) {x : Int} {off : Int} {tgt : Nat} (hdg : decode cc pc = .ok (.ifCond .ne off, 3)) (ht : (pc : Int) + off = (tgt : Int)) (hx : (-2147483648 ≤ x ∧ x < 2147483648)) (kt : ¬ x = 0 → W p l e R s m args below meth c H locs cells slots Q (F0 m (tgt) ls (rest))) (kf : x = 0 → W p l e R s m args below meth c H locs cells slots Q (F0 m (pc + 3) ls (rest))) : W p l e R s m args below meth c H locs cells slots Q (F0 m (pc) ls (iv x :: rest)) := lv_if_ne hexec hb hdg ht (fun q => kt (by rw [← iI_0] at q; exact fun h => q ((iI_eq hx (show -2147483648 ≤ (0 : Int) ∧ (0 : Int) < 2147483648 by decide)).mpr h))) (fun q => kf (by rw [← iI_0] at q; exact (iI_eq hx (show -2147483648 ≤ (0 : Int) ∧ (0 : Int) < 2147483648 by decide)).mp q))
theorem n_icmp_lt (hexec : p.tables.exec = Jvm.exec) (hb : c.code = cc) {x y : Int} {off : Int} {tgt : Nat} (hdg : decode cc pc = .ok (.if_icmp .lt off, 3)) (ht : (pc : Int) + off = (tgt : Int)) (hx : (-2147483648 ≤ x ∧ x < 2147483648)) (hy : (-2147483648 ≤ y ∧ y < 2147483648)) (kt : x < y → W p l e R s m args below meth c H locs cells slots Q (F0 m (tgt) ls (rest))) (kf : y ≤ x → W p l e R s m args below meth c H locs cells slots Q (F0 m (pc + 3) ls (rest))) : W p l e R s m args below meth c H locs cells slots Q (F0 m (pc) ls (iv y :: iv x :: rest)) := lv_icmp_lt hexec hb hdg ht (fun q => kt ((iI_lt hx hy).mp q)) (fun q => kf (Int.not_lt.mp (fun h => q ((iI_lt hx hy).mpr h))))
theorem n_if_lt (hexec : p.tables.exec = Jvm.exec) (hb : c.code = cc) {x : Int} {off : Int} {tgt : Nat} (hdg : decode cc pc = .ok (.ifCond .lt off, 3)) (ht : (pc : Int) + off = (tgt : Int)) (hx : (-2147483648 ≤ x ∧ x < 2147483648)) (kt : x < 0 → W p l e R s m args below meth c H locs cells slots Q (F0 m (tgt) ls (rest))) (kf : 0 ≤ x → W p l e R s m args below meth c H locs cells slots Q (F0 m (pc + 3) ls (rest))) : W p l e R s m args below meth c H locs cells slots Q (F0 m (pc) ls (iv x :: rest)) := lv_if_lt hexec hb hdg ht (fun q => kt (by rw [← iI_0] at q; exact (iI_lt hx (show -2147483648 ≤ (0 : Int) ∧ (0 : Int) < 2147483648 by decide)).mp q)) (fun q => kf (by rw [← iI_0] at q; exact Int.not_lt.mp (fun h => q ((iI_lt hx (show -2147483648 ≤ (0 : Int) ∧ (0 : Int) < 2147483648 by decide)).mpr h))))
theorem n_icmp_ge (hexec : p.tables.exec = Jvm.exec) (hb : c.code = cc) {x y : Int} {off : Int} {tgt : Nat} (hdg : decode cc pc = .ok (.if_icmp .ge off, 3)) (ht : (pc : Int) + off = (tgt : Int)) (hx : (-2147483648 ≤ x ∧ x < 2147483648)) (hy : (-2147483648 ≤ y ∧ y < 2147483648)) (kt : y ≤ x → W p l e R s m args below meth c H locs cells slots Q (F0 m (tgt) ls (rest))) (kf : x < y → W p l e R s m args below meth c H locs cells slots Q (F0 m (pc + 3) ls (rest))) : W p l e R s m args below meth c H locs cells slots Q (F0 m (pc) ls (iv y :: iv x :: rest)) := lv_icmp_ge hexec hb hdg ht (fun q => kt ((iI_le hy hx).mp q)) (fun q => kf (Int.not_le.mp (fun h => q ((iI_le hy hx).mpr h))))
theorem n_if_ge (hexec : p.tables.exec = Jvm.exec) (hb : c.code = cc) {x : Int} {off : Int} {tgt : Nat} (hdg : decode cc pc = .ok (.ifCond .ge off, 3)) (ht : (pc : Int) + off = (tgt : Int)) (hx : (-2147483648 ≤ x ∧ x < 2147483648)) (kt : 0 ≤ x → W p l e R s m args below meth c H locs cells slots Q (F0 m (tgt) ls (rest))) (kf : x < 0 → W p l e R s m args below meth c H locs cells slots Q (F0 m (pc + 3) ls (rest))) : W p l e R s m args below meth c H locs cells slots Q (F0 m (pc) ls (iv x :: rest)) := lv_if_ge hexec hb hdg ht (fun q => kt (by rw [← iI_0] at q; exact (iI_le (show -2147483648 ≤ (0 : Int) ∧ (0 : Int) < 2147483648 by decide) hx).mp q)) (fun q => kf (by rw [← iI_0] at q; exact Int.not_le.mp (fun h => q ((iI_le (show -2147483648 ≤ (0 : Int) ∧ (0 : Int) < 2147483648 by decide) hx).mpr h))))
theorem n_icmp_gt (hexec : p.tables.exec = Jvm.exec) (hb : c.code = cc) {x y : Int} {off : Int} {tgt : Nat} (hdg : decode cc pc = .ok (.if_icmp .gt off, 3)) (ht : (pc : Int) + off = (tgt : Int)) (hx : (-2147483648 ≤ x ∧ x < 2147483648)) (hy : (-2147483648 ≤ y ∧ y < 2147483648)) (kt : y < x → W p l e R s m args below meth c H locs cells slots Q (F0 m (tgt) ls (rest))) (kf : x ≤ y → W p l e R s m args below meth c H locs cells slots Q (F0 m (pc + 3) ls (rest))) : W p l e R s m args below meth c H locs cells slots Q (F0 m (pc) ls (iv y :: iv x :: rest)) := lv_icmp_gt hexec hb hdg ht (fun q => kt ((iI_lt hy hx).mp q)) (fun q => kf (Int.not_lt.mp (fun h => q ((iI_lt hy hx).mpr h))))
theorem n_if_gt (hexec : p.tables.exec = Jvm.exec) (hb : c.code = cc) {x : Int} {off : Int} {tgt : Nat} (hdg : decode cc pc = .ok (.ifCond .gt off, 3)) (ht : (pc : Int) + off = (tgt : Int)) (hx : (-2147483648 ≤ x ∧ x < 2147483648)) (kt : 0 < x → W p l e R s m args below meth c H locs cells slots Q (F0 m (tgt) ls (rest))) (kf : x ≤ 0 → W p l e R s m args below meth c H locs cells slots Q (F0 m (pc + 3) ls (rest))) : W p l e R s m args below meth c H locs cells slots Q (F0 m (pc) ls (iv x :: rest)) := lv_if_gt hexec hb hdg ht (fun q => kt (by rw [← iI_0] at q; exact (iI_lt (show -2147483648 ≤ (0 : Int) ∧ (0 : Int) < 2147483648 by decide) hx).mp q)) (fun q => kf (by rw [← iI_0] at q; exact Int.not_lt.mp (fun h => q ((iI_lt (show -2147483648 ≤ (0 : Int) ∧ (0 : Int) < 2147483648 by decide) hx).mpr h))))
theorem n_icmp_le (hexec : p.tables.exec = Jvm.exec) (hb : c.code = cc) {x y : Int} {off : Int} {tgt : Nat} (hdg : decode cc pc = .ok (.if_icmp .le off, 3)) (ht : (pc : Int) + off = (tgt : Int)) (hx : (-2147483648 ≤ x ∧ x < 2147483648)) (hy : (-2147483648 ≤ y ∧ y < 2147483648)) (kt : x ≤ y → W p l e R s m args below meth c H locs cells slots Q (F0 m (tgt) ls (rest))) (kf : y < x → W p l e R s m args below meth c H locs cells slots Q (F0 m (pc + 3) ls (rest))) : W p l e R s m args below meth c H locs cells slots Q (F0 m (pc) ls (iv y :: iv x :: rest)) := lv_icmp_le hexec hb hdg ht (fun q => kt ((iI_le hx hy).mp q)) (fun q => kf (Int.not_le.mp (fun h => q ((iI_le hx hy).mpr h))))
theorem n_if_le (hexec : p.tables.exec = Jvm.exec) (hb : c.code = cc) {x : Int} {off : Int} {tgt : Nat} (hdg : decode cc pc = .ok (.ifCond .le off, 3)) (ht : (pc : Int) + off = (tgt : Int)) (hx : (-2147483648 ≤ x ∧ x < 2147483648)) (kt : x ≤ 0 → W p l e R s m args below meth c H locs cells slots Q (F0 m (tgt) ls (rest))) (kf : 0 < x → W p l e R s m args below meth c H locs cells slots Q (F0 m (pc + 3) ls (rest))) : W p l e R s m args below meth c H locs cells slots Q (F0 m (pc) ls (iv x :: rest)) := lv_if_le hexec hb hdg ht (fun q => kt (by rw [← iI_0] at q; exact (iI_le hx (show -2147483648 ≤ (0 : Int) ∧ (0 : Int) < 2147483648 by decide)).mp q)) (fun q => kf (by rw [← iI_0] at q; exact Int.not_le.mp (fun h => q ((iI_le hx (show -2147483648 ≤ (0 : Int) ∧ (0 : Int) < 2147483648 by decide)).mpr h))))
theorem n_ifb_eq (hexec : p.tables.exec = Jvm.exec) (hb : c.code = cc) {b : Bool} {off : Int} {tgt : Nat} (hdg : decode cc pc = .ok (.ifCond .eq off, 3)) (ht : (pc : Int) + off = (tgt : Int)) (kt : b = false → W p l e R s m args below meth c H locs cells slots Q (F0 m (tgt) ls (rest))) (kf : b = true → W p l e R s m args below meth c H locs cells slots Q (F0 m (pc + 3) ls (rest))) : W p l e R s m args below meth c H locs cells slots Q (F0 m (pc) ls (iv (b2 b) :: rest)) := n_if_eq hexec hb hdg ht (by have := b2_r b; omega) (fun q => kt ((b2_0 b).mp q)) (fun q => kf (by cases b with | true => rfl | false => exact absurd rfl q))
theorem n_ifb_ne (hexec : p.tables.exec = Jvm.exec) (hb : c.code = cc) {b : Bool} {off : Int} {tgt : Nat} (hdg : decode cc pc = .ok (.ifCond .ne off, 3)) (ht : (pc : Int) + off = (tgt : Int)) (kt : b = true → W p l e R s m args below meth c H locs cells slots Q (F0 m (tgt) ls (rest))) (kf : b = false → W p l e R s m args below meth c H locs cells slots Q (F0 m (pc + 3) ls (rest))) : W p l e R s m args below meth c H locs cells slots Q (F0 m (pc) ls (iv (b2 b) :: rest)) := n_if_ne hexec hb hdg ht (by have := b2_r b; omega) (fun q => kt (by cases b with | true => rfl | false => exact absurd rfl q)) (fun q => kf ((b2_0 b).mp q))
theorem n_ifd_eq (hexec : p.tables.exec = Jvm.exec) (hb : c.code = cc) {P : Prop} [Decidable P] {off : Int} {tgt : Nat} (hdg : decode cc pc = .ok (.ifCond .eq off, 3)) (ht : (pc : Int) + off = (tgt : Int)) (kt : ¬ P → W p l e R s m args below meth c H locs cells slots Q (F0 m (tgt) ls (rest))) (kf : P → W p l e R s m args below meth c H locs cells slots Q (F0 m (pc + 3) ls (rest))) : W p l e R s m args below meth c H locs cells slots Q (F0 m (pc) ls (iv (b2 (decide P)) :: rest)) := n_ifb_eq hexec hb hdg ht (fun q => kt (of_decide_eq_false q)) (fun q => kf (of_decide_eq_true q))
theorem n_ifd_ne (hexec : p.tables.exec = Jvm.exec) (hb : c.code = cc) {P : Prop} [Decidable P] {off : Int} {tgt : Nat} (hdg : decode cc pc = .ok (.ifCond .ne off, 3)) (ht : (pc : Int) + off = (tgt : Int)) (kt : P → W p l e R s m args below meth c H locs cells slots Q (F0 m (tgt) ls (rest))) (kf : ¬ P → W p l e R s m args below meth c H locs cells slots Q (F0 m (pc + 3) ls (rest))) : W p l e R s m args below meth c H locs cells slots Q (F0 m (pc) ls (iv (b2 (decide P)) :: rest)) := n_ifb_ne hexec hb hdg ht (fun q => kt (of_decide_eq_true q)) (fun q => kf (of_decide_eq_false q))
theorem n_iald (hexec : p.tables.exec = Jvm.exec) (hb : c.code = cc) (hK : va_K D cl tys s) (hP : va_P D cl ws H) (q0 t0 : Nat) {cA : ClassId} {n : Nat} {f : Int → Int} (ha : ws[q0]? = some (a, ia cA n f)) (ht : tys[t0]? = some (cA, .int)) {i : Int} (hi : 0 ≤ i ∧ i < (n : Int)) (hn : n < 2147483648) (hdg : decode cc pc = .ok (.iaload, 1)) (kk : W p l e R s m args below meth c H locs cells slots Q (F0 m (pc + 1) ls (iv (f i) :: rest))) : W p l e R s m args below meth c H locs cells slots Q (F0 m (pc) ls (iv i :: .ref a :: rest)) := va_iald hexec hb hK hP q0 t0 ha ht (iI_in hi hn) hdg (by rw [iI_cl hi.1 (by omega)]; exact kk)
theorem n_zald (hexec : p.tables.exec = Jvm.exec) (hb : c.code = cc) (hK : va_K D cl tys s) (hP : va_P D cl ws H) (q0 t0 : Nat) {cA : ClassId} {n : Nat} {f : Int → Int} (ha : ws[q0]? = some (a, ia cA n f)) (ht : tys[t0]? = some (cA, .boolean)) {i : Int} (hi : 0 ≤ i ∧ i < (n : Int)) (hn : n < 2147483648) (hdg : decode cc pc = .ok (.baload, 1)) (kk : W p l e R s m args below meth c H locs cells slots Q (F0 m (pc + 1) ls (iv (f i) :: rest))) : W p l e R s m args below meth c H locs cells slots Q (F0 m (pc) ls (iv i :: .ref a :: rest)) := va_zald hexec hb hK hP q0 t0 ha ht (iI_in hi hn) hdg (by rw [iI_cl hi.1 (by omega)]; exact kk)
theorem n_cald (hexec : p.tables.exec = Jvm.exec) (hb : c.code = cc) (hK : va_K D cl tys s) (hP : va_P D cl ws H) (q0 t0 : Nat) {cA : ClassId} {n : Nat} {f : Int → Int} (ha : ws[q0]? = some (a, ia cA n f)) (ht : tys[t0]? = some (cA, .char)) {i : Int} (hi : 0 ≤ i ∧ i < (n : Int)) (hn : n < 2147483648) (hdg : decode cc pc = .ok (.caload, 1)) (kk : W p l e R s m args below meth c H locs cells slots Q (F0 m (pc + 1) ls (iv (f i) :: rest))) : W p l e R s m args below meth c H locs cells slots Q (F0 m (pc) ls (iv i :: .ref a :: rest)) := va_cald hexec hb hK hP q0 t0 ha ht (iI_in hi hn) hdg (by rw [iI_cl hi.1 (by omega)]; exact kk)
theorem n_bald (hexec : p.tables.exec = Jvm.exec) (hb : c.code = cc) (hK : va_K D cl tys s) (hP : va_P D cl ws H) (q0 t0 : Nat) {cA : ClassId} {n : Nat} {f : Int → Int} (ha : ws[q0]? = some (a, ia cA n f)) (ht : tys[t0]? = some (cA, .byte)) {i : Int} (hi : 0 ≤ i ∧ i < (n : Int)) (hn : n < 2147483648) (hdg : decode cc pc = .ok (.baload, 1)) (kk : W p l e R s m args below meth c H locs cells slots Q (F0 m (pc + 1) ls (iv (f i) :: rest))) : W p l e R s m args below meth c H locs cells slots Q (F0 m (pc) ls (iv i :: .ref a :: rest)) := va_bald hexec hb hK hP q0 t0 ha ht (iI_in hi hn) hdg (by rw [iI_cl hi.1 (by omega)]; exact kk)
theorem n_iast (hexec : p.tables.exec = Jvm.exec) (hb : c.code = cc) (hK : va_K D cl tys s) (hP : va_P D cl ws H) (hD : va_D A ws) (hS : va_S A H0 H locs) (q0 t0 : Nat) {cA : ClassId} {n : Nat} {f : Int → Int} (ha : ws[q0]? = some (a, ia cA n f)) (ht : tys[t0]? = some (cA, .int)) {i v : Int} (hi : 0 ≤ i ∧ i < (n : Int)) (hn : n < 2147483648) (hdg : decode cc pc = .ok (.iastore, 1)) {ws2 : va_W} (hw : ws.set q0 (a, ia cA n (ui f i v)) = ws2) (kk : ∀ (H1 : Heap) (locs1 : List Loc), va_P D cl ws2 H1 → va_D A ws2 → va_S A H0 H1 locs1 → W p l e R s m args below meth c H1 locs1 cells slots Q (F0 m (pc + 1) ls (rest))) : W p l e R s m args below meth c H locs cells slots Q (F0 m (pc) ls (iv v :: iv i :: .ref a :: rest)) := by
  subst hw
  refine va_iast hexec hb hK hP hD hS q0 t0 ha ht (iI_in hi hn) hdg (fun H1 locs1 h1 h2 h3 => ?_)
  rw [ia_upd hi.1 (by omega)] at h1 h2
  exact kk H1 locs1 h1 h2 h3
theorem n_zast (hexec : p.tables.exec = Jvm.exec) (hb : c.code = cc) (hK : va_K D cl tys s) (hP : va_P D cl ws H) (hD : va_D A ws) (hS : va_S A H0 H locs) (q0 t0 : Nat) {cA : ClassId} {n : Nat} {f : Int → Int} (ha : ws[q0]? = some (a, ia cA n f)) (ht : tys[t0]? = some (cA, .boolean)) {i v : Int} (hi : 0 ≤ i ∧ i < (n : Int)) (hn : n < 2147483648) (hv : 0 ≤ v ∧ v ≤ 1) (hdg : decode cc pc = .ok (.bastore, 1)) {ws2 : va_W} (hw : ws.set q0 (a, ia cA n (ui f i v)) = ws2) (kk : ∀ (H1 : Heap) (locs1 : List Loc), va_P D cl ws2 H1 → va_D A ws2 → va_S A H0 H1 locs1 → W p l e R s m args below meth c H1 locs1 cells slots Q (F0 m (pc + 1) ls (rest))) : W p l e R s m args below meth c H locs cells slots Q (F0 m (pc) ls (iv v :: iv i :: .ref a :: rest)) := by
  subst hw
  refine va_zast hexec hb hK hP hD hS q0 t0 ha ht (iI_in hi hn) hdg (fun H1 locs1 h1 h2 h3 => ?_)
  rw [vn_b hv, ia_upd hi.1 (by omega)] at h1 h2
  exact kk H1 locs1 h1 h2 h3
theorem n_cast (hexec : p.tables.exec = Jvm.exec) (hb : c.code = cc) (hK : va_K D cl tys s) (hP : va_P D cl ws H) (hD : va_D A ws) (hS : va_S A H0 H locs) (q0 t0 : Nat) {cA : ClassId} {n : Nat} {f : Int → Int} (ha : ws[q0]? = some (a, ia cA n f)) (ht : tys[t0]? = some (cA, .char)) {i v : Int} (hi : 0 ≤ i ∧ i < (n : Int)) (hn : n < 2147483648) (hv : 0 ≤ v ∧ v < 65536) (hdg : decode cc pc = .ok (.castore, 1)) {ws2 : va_W} (hw : ws.set q0 (a, ia cA n (ui f i v)) = ws2) (kk : ∀ (H1 : Heap) (locs1 : List Loc), va_P D cl ws2 H1 → va_D A ws2 → va_S A H0 H1 locs1 → W p l e R s m args below meth c H1 locs1 cells slots Q (F0 m (pc + 1) ls (rest))) : W p l e R s m args below meth c H locs cells slots Q (F0 m (pc) ls (iv v :: iv i :: .ref a :: rest)) := by
  subst hw
  refine va_cast hexec hb hK hP hD hS q0 t0 ha ht (iI_in hi hn) hdg (fun H1 locs1 h1 h2 h3 => ?_)
  rw [vn_c hv, ia_upd hi.1 (by omega)] at h1 h2
  exact kk H1 locs1 h1 h2 h3
end NROWS
