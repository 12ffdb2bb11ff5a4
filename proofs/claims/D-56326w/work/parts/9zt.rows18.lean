/-! ===== rows, 18: the law's own arrays of one long, one double; its script; comparisons ===== -/
abbrev loA (cA : ClassId) (f : Nat → Int64) : va_E := .inl (cA, 1, .inr (.inl f))
abbrev doA (cA : ClassId) (f : Nat → UInt64) : va_E := .inl (cA, 1, .inr (.inr (.inr (.inl f))))
def lcm (x y : Int64) : Int := if x > y then 1 else if x = y then 0 else -1
theorem lcm_eq (x : Int64) : lcm x x = 0 := by
  unfold lcm
  rw [if_neg (Int64.lt_irrefl), if_pos rfl]
def dcm (op : CmpOp) (x y : UInt64) : Int := (Op.cmpValue (FP.dcmp x y) op).toInt
theorem iv_of (x : Int32) : (.int x : Value) = iv x.toInt := congrArg Value.int (Int32.ofInt_toInt x).symm
section NROWS18
variable {p : Program} {l : Launch} {e : Env} {R : Room} {s : State} {m : MethodId} {args : Array Value} {below : List Frame} {meth : Method} {c : Code} {H : Heap} {locs : List Loc} {cells slots : Nat} {Q : State → Prop}
variable {pc : Nat} {ls : Array Slot} {rest : List Value} {ws : va_W} {A : Nat → Prop} {H0 : Heap} {E : EE} {cc : ByteArray} {a : Nat}
theorem n_lald1 (hexec : p.tables.exec = Jvm.exec) (hb : c.code = cc) (hK : va_K E.1 CL (TY E) s) (hP : va_P E.1 CL ws H) (q0 : Nat) {f : Nat → Int64} (ha : ws[q0]? = some (a, loA (E.2 5) f)) (hdg : decode cc pc = .ok (.laload, 1)) (kk : W p l e R s m args below meth c H locs cells slots Q (F0 m (pc + 1) ls (.long (f 0) :: rest))) : W p l e R s m args below meth c H locs cells slots Q (F0 m pc ls (iv 0 :: .ref a :: rest)) :=
  va_lald hexec hb hK hP q0 5 ha rfl (i := iI 0) (iI_in (n := 1) (by decide) (by decide)) hdg kk
theorem n_dald1 (hexec : p.tables.exec = Jvm.exec) (hb : c.code = cc) (hK : va_K E.1 CL (TY E) s) (hP : va_P E.1 CL ws H) (q0 : Nat) {f : Nat → UInt64} (ha : ws[q0]? = some (a, doA (E.2 6) f)) (hdg : decode cc pc = .ok (.daload, 1)) (kk : W p l e R s m args below meth c H locs cells slots Q (F0 m (pc + 1) ls (.double (f 0) :: rest))) : W p l e R s m args below meth c H locs cells slots Q (F0 m pc ls (iv 0 :: .ref a :: rest)) :=
  va_dald hexec hb hK hP q0 6 ha rfl (i := iI 0) (iI_in (n := 1) (by decide) (by decide)) hdg kk
theorem n_last1 (hexec : p.tables.exec = Jvm.exec) (hb : c.code = cc) (hK : va_K E.1 CL (TY E) s) (hP : va_P E.1 CL ws H) (hD : va_D A ws) (hS : va_S A H0 H locs) (q0 : Nat) {f : Nat → Int64} (ha : ws[q0]? = some (a, loA (E.2 5) f)) {x : Int64} (hdg : decode cc pc = .ok (.lastore, 1)) {ws2 : va_W} (hw : ws.set q0 (a, loA (E.2 5) (vp_updL f 0 x)) = ws2)
    (kk : ∀ (H1 : Heap) (locs1 : List Loc), va_P E.1 CL ws2 H1 → va_D A ws2 → va_S A H0 H1 locs1 → W p l e R s m args below meth c H1 locs1 cells slots Q (F0 m (pc + 1) ls rest)) : W p l e R s m args below meth c H locs cells slots Q (F0 m pc ls (.long x :: iv 0 :: .ref a :: rest)) := by
  subst hw
  exact va_last hexec hb hK hP hD hS q0 5 ha rfl (i := iI 0) (iI_in (n := 1) (by decide) (by decide)) hdg kk
theorem n_dast1 (hexec : p.tables.exec = Jvm.exec) (hb : c.code = cc) (hK : va_K E.1 CL (TY E) s) (hP : va_P E.1 CL ws H) (hD : va_D A ws) (hS : va_S A H0 H locs) (q0 : Nat) {f : Nat → UInt64} (ha : ws[q0]? = some (a, doA (E.2 6) f)) {x : UInt64} (hdg : decode cc pc = .ok (.dastore, 1)) {ws2 : va_W} (hw : ws.set q0 (a, doA (E.2 6) (vf_upd f 0 x)) = ws2)
    (kk : ∀ (H1 : Heap) (locs1 : List Loc), va_P E.1 CL ws2 H1 → va_D A ws2 → va_S A H0 H1 locs1 → W p l e R s m args below meth c H1 locs1 cells slots Q (F0 m (pc + 1) ls rest)) : W p l e R s m args below meth c H locs cells slots Q (F0 m pc ls (.double x :: iv 0 :: .ref a :: rest)) := by
  subst hw
  exact va_dast hexec hb hK hP hD hS q0 6 ha rfl (i := iI 0) (iI_in (n := 1) (by decide) (by decide)) hdg kk
theorem n_lcmp (hexec : p.tables.exec = Jvm.exec) (hb : c.code = cc) {x y : Int64} (hdg : decode cc pc = .ok (.lcmp, 1)) (k : W p l e R s m args below meth c H locs cells slots Q (F0 m (pc + 1) ls (iv (lcm x y) :: rest))) : W p l e R s m args below meth c H locs cells slots Q (F0 m pc ls (.long y :: .long x :: rest)) := by
  intro T hT X
  obtain ⟨t, a, b⟩ := k T hT X
  refine ⟨t, ?_, b⟩
  unfold lcm at a
  by_cases h1 : x > y
  · rw [if_pos h1] at a
    jvm_step X.here [X.here.top, hexec, hb, hdg, Op.lcmp.sem, h1]
    exact a
  · rw [if_neg h1] at a
    by_cases h2 : x = y
    · rw [if_pos h2] at a
      jvm_step X.here [X.here.top, hexec, hb, hdg, Op.lcmp.sem, h1, h2]
      exact a
    · rw [if_neg h2] at a
      jvm_step X.here [X.here.top, hexec, hb, hdg, Op.lcmp.sem, h1, h2]
      exact a
theorem n_dcmp (hexec : p.tables.exec = Jvm.exec) (hb : c.code = cc) {x y : UInt64} {op : CmpOp} (hdg : decode cc pc = .ok (.dcmp op, 1)) (k : W p l e R s m args below meth c H locs cells slots Q (F0 m (pc + 1) ls (iv (dcm op x y) :: rest))) : W p l e R s m args below meth c H locs cells slots Q (F0 m pc ls (.double y :: .double x :: rest)) :=
  lv_dcmp hexec hb hdg (by rw [iv_of]; exact k)
theorem n_sld (hexec : p.tables.exec = Jvm.exec) (hb : c.code = cc) {b L : Nat} {xs : Nat → Int32} (hX : va_X b L xs s H0) (hbl : b < H0.size) (hbA : ¬ A b) (hS : va_S A H0 H locs) {i : Int} (hi : 0 ≤ i ∧ i < (L : Int)) (hL : L < 2147483648) (hdg : decode cc pc = .ok (.iaload, 1))
    (kk : W p l e R s m args below meth c H locs cells slots Q (F0 m (pc + 1) ls (iv (xs i.toNat).toInt :: rest))) : W p l e R s m args below meth c H locs cells slots Q (F0 m pc ls (iv i :: .ref b :: rest)) := by
  refine va_sld hexec hb hX hbl hbA hS (iI_in hi hL) hdg ?_
  rw [iv_of, show (iI i).toNatClampNeg = i.toNat by rw [← Int32.toNat_toInt, iI_toInt (by omega)]]
  exact kk
theorem n_slen (hexec : p.tables.exec = Jvm.exec) (hb : c.code = cc) {b L : Nat} {xs : Nat → Int32} (hX : va_X b L xs s H0) (hbl : b < H0.size) (hbA : ¬ A b) (hS : va_S A H0 H locs) (hdg : decode cc pc = .ok (.arraylength, 1))
    (kk : W p l e R s m args below meth c H locs cells slots Q (F0 m (pc + 1) ls (iv (L : Int) :: rest))) : W p l e R s m args below meth c H locs cells slots Q (F0 m pc ls (.ref b :: rest)) :=
  va_slen hexec hb hX hbl hbA hS hdg (by rw [show (.int (Int32.ofNat L) : Value) = iv (L : Int) from congrArg Value.int (iI_ofNat L).symm]; exact kk)
theorem n_newA (hexec : p.tables.exec = Jvm.exec) (hb : c.code = cc) {atype : ArrayType} {ty : FieldType} (hty : newarray.typeOf atype = ty) (harr : (Cond.arrayClass ty).before args s = true) (t0 : Nat) {cA : ClassId} (ht0 : (TY E)[t0]? = some (cA, ty)) {a0 : vp_A} (ha0 : ∀ cA : ClassId, vp_cell cA a0 = arrV cA 1 (fun _ => defaultValue ty)) (hK : KE E s) (hP : va_P E.1 CL ws H) (hD : va_D A ws) (hS : va_S A H0 H locs) (hA : ∀ q, H0.size ≤ q → A q)
    (hbytes : 1 * componentBytes ty ≤ 536870912) (hcells : cells + 1 ≤ R.cells) (hslots : slots + 1 ≤ R.slots) (hdg : decode cc pc = .ok (.newarray atype, 2))
    (kk : ∀ (q : Nat) (H1 : Heap), va_P E.1 CL (ws ++ [(q, .inl (cA, a0))]) H1 → va_D A (ws ++ [(q, .inl (cA, a0))]) → va_S A H0 H1 locs → W p l e R s m args below meth c H1 locs (cells + 1) (slots + 1) Q (F0 m (pc + 2) ls (.ref q :: rest))) : W p l e R s m args below meth c H locs cells slots Q (F0 m pc ls (iv 1 :: rest)) := by
  refine va_newa hexec hb (by rw [hty]; exact harr) hty hK.1 hP hD hS hA (a0 := a0) (N' := 1) ha0 (fun h => by rw [← iI_0, iI_lt (by omega) (by omega)] at h; omega) (by rw [iI_cln (by omega) (by omega)]; omega) hbytes hcells hslots hdg (fun q cB H1 k1 h1 h2 h3 => ?_)
  have e1 := hK.1.2 t0 _ ht0
  have e2 := k1.2 (TY E).length (cB, ty) (by rw [List.getElem?_append_right (Nat.le_refl _), Nat.sub_self]; rfl)
  have e3 : cB = cA := by
    subst hty
    cases atype <;> exact Option.some.inj (Eq.trans (Eq.symm e2.2) e1.2)
  subst e3
  exact kk q H1 h1 h2 h3
theorem n_newLo (hexec : p.tables.exec = Jvm.exec) (hb : c.code = cc) (harr : (Cond.arrayClass .long).before args s = true) (hK : KE E s) (hP : va_P E.1 CL ws H) (hD : va_D A ws) (hS : va_S A H0 H locs) (hA : ∀ q, H0.size ≤ q → A q) (hcells : cells + 1 ≤ R.cells) (hslots : slots + 1 ≤ R.slots) (hdg : decode cc pc = .ok (.newarray .long, 2))
    (kk : ∀ (q : Nat) (H1 : Heap), va_P E.1 CL (ws ++ [(q, loA (E.2 5) (fun _ => 0))]) H1 → va_D A (ws ++ [(q, loA (E.2 5) (fun _ => 0))]) → va_S A H0 H1 locs → W p l e R s m args below meth c H1 locs (cells + 1) (slots + 1) Q (F0 m (pc + 2) ls (.ref q :: rest))) : W p l e R s m args below meth c H locs cells slots Q (F0 m pc ls (iv 1 :: rest)) :=
  n_newA hexec hb (ty := .long) rfl harr 5 rfl (a0 := (1, .inr (.inl (fun _ : Nat => (0 : Int64))))) (fun cA => rfl) hK hP hD hS hA (by decide) hcells hslots hdg kk
theorem n_newDo (hexec : p.tables.exec = Jvm.exec) (hb : c.code = cc) (harr : (Cond.arrayClass .double).before args s = true) (hK : KE E s) (hP : va_P E.1 CL ws H) (hD : va_D A ws) (hS : va_S A H0 H locs) (hA : ∀ q, H0.size ≤ q → A q) (hcells : cells + 1 ≤ R.cells) (hslots : slots + 1 ≤ R.slots) (hdg : decode cc pc = .ok (.newarray .double, 2))
    (kk : ∀ (q : Nat) (H1 : Heap), va_P E.1 CL (ws ++ [(q, doA (E.2 6) (fun _ => 0))]) H1 → va_D A (ws ++ [(q, doA (E.2 6) (fun _ => 0))]) → va_S A H0 H1 locs → W p l e R s m args below meth c H1 locs (cells + 1) (slots + 1) Q (F0 m (pc + 2) ls (.ref q :: rest))) : W p l e R s m args below meth c H locs cells slots Q (F0 m pc ls (iv 1 :: rest)) :=
  n_newA hexec hb (ty := .double) rfl harr 6 rfl (a0 := (1, .inr (.inr (.inr (.inl (fun _ : Nat => (0 : UInt64))))))) (fun cA => rfl) hK hP hD hS hA (by decide) hcells hslots hdg kk
end NROWS18
