/-! ===== rows, 2: copies, maxima, new arrays ===== -/
def cp0 (f g : Int → Int) (n : Int) : Int → Int := fun x => if 0 ≤ x ∧ x < n then f x else g x
theorem cp0_in {f g : Int → Int} {n x : Int} (h : 0 ≤ x ∧ x < n) : cp0 f g n x = f x := if_pos h
theorem cp0_cpy (f g : Int → Int) {n : Int} (hn : 0 ≤ n) : va_cpy (fun k : Nat => iI (f (k : Int))) (fun k : Nat => iI (g (k : Int))) 0 0 n.toNat = fun k : Nat => iI (cp0 f g n (k : Int)) := by
  funext k
  unfold va_cpy cp0
  by_cases hk : k < n.toNat
  · rw [if_pos ⟨Nat.zero_le k, by omega⟩, if_pos (by omega)]
    congr 2
    omega
  · rw [if_neg (by omega), if_neg (by omega)]
section NROWS2
variable {p : Program} {l : Launch} {e : Env} {R : Room} {s : State} {m : MethodId} {args : Array Value} {below : List Frame} {meth : Method} {c : Code} {H : Heap} {locs : List Loc} {cells slots : Nat} {Q : State → Prop}
variable {cc : ByteArray} {pc : Nat} {ls : Array Slot} {rest : List Value} {D : va_G} {cl : List vw_C} {ws : va_W} {tys : List (ClassId × FieldType)} {a : Nat} {A : Nat → Prop} {H0 : Heap}
/-- System.arraycopy(f, 0, g, 0, n) -/
theorem n_cp0 (hexec : p.tables.exec = Jvm.exec) (hb : c.code = cc) (hml : c.maxLocals = ls.size) {own : String} {index : Nat} (hown : s.vm.findClass own = some m.cls) (hlink : (Cond.methodLink own index arraycopyName).before args s = true) (hnat : (Cond.native arraycopyName).before args s = true) (hstat : (Cond.static arraycopyName).before args s = true) (hini : (Cond.initialized "java/lang/System").before args s = true)
    (hK : va_K D cl tys s) (hP : va_P D cl ws H) (hD : va_D A ws) (hS : va_S A H0 H locs) (q0 q1 t0 : Nat) {a0 : Nat} {c0 : ClassId} {n0 n1 : Nat} {f g : Int → Int} {ty : FieldType} (ha0 : ws[q0]? = some (a0, ia c0 n0 f)) (ha1 : ws[q1]? = some (a, ia c0 n1 g)) (ht0 : tys[t0]? = some (c0, ty)) (hprim : refKind ty = false)
    {n : Int} (h3 : 0 ≤ n ∧ n < 2147483648) (h4 : n ≤ n0) (h5 : n ≤ n1) (hfit : ∀ x, 0 ≤ x → x < n → fits ty (iv (f x)) = true)
    (hframes : 1 ≤ R.frames) (hlocals : (rest.map fun v => v.category).sum + 18 ≤ R.locals) (hdg : decode cc pc = .ok (.invokestatic index, 3)) {w2 : va_W} (hw : ws.set q1 (a, ia c0 n1 (cp0 f g n)) = w2)
    (kk : ∀ (H1 : Heap) (locs1 : List Loc), va_P D cl w2 H1 → va_D A w2 → va_S A H0 H1 locs1 → W p l e R s m args below meth c H1 locs1 cells slots Q (F0 m (pc + 3) ls rest)) : W p l e R s m args below meth c H locs cells slots Q (F0 m pc ls (iv n :: iv 0 :: .ref a :: iv 0 :: .ref a0 :: rest)) := by
  subst hw
  have hz : (iI 0).toNatClampNeg = 0 := by rw [iI_cln (by decide) (by decide)]; rfl
  have hn : (iI n).toNatClampNeg = n.toNat := iI_cln h3.1 h3.2
  have hp : ∀ z : Int, 0 ≤ z ∧ z < 2147483648 → ¬ iI z < 0 := fun z h hlt => by
    rw [← iI_0, iI_lt (by omega) (by omega)] at hlt
    omega
  refine va_copyi hexec hb hml hown hlink hnat hstat hini hK hP hD hS q0 q1 t0 t0 ha0 ha1 ht0 ht0 hprim (hp 0 (by decide)) (hp 0 (by decide)) (hp n h3) (by rw [hz, hn]; omega) (by rw [hz, hn]; omega) (fun i hi => ?_) hframes hlocals hdg (fun H1 locs1 h1 h2 h6 => ?_)
  · rw [hn] at hi
    rw [hz]
    have := hfit (i : Int) (by omega) (by omega)
    simpa using this
  · rw [hz, hn, cp0_cpy f g h3.1] at h1 h2
    exact kk H1 locs1 h1 h2 h6
theorem n_mmax (hexec : p.tables.exec = Jvm.exec) (hb : c.code = cc) (hml : c.maxLocals = ls.size) {own : String} {index : Nat} (hown : s.vm.findClass own = some m.cls) (hlink : (Cond.methodLink own index Lib.Math.max.name).before args s = true) (hstat : (Cond.static Lib.Math.max.name).before args s = true) (hini : (Cond.initialized "java/lang/Math").before args s = true) (hcode : (Cond.code Lib.Math.max.name Lib.Math.max.code 2 (some .int)).before args s = true)
    (hframes : 1 ≤ R.frames) (hlocals : (rest.map fun v => v.category).sum + 13 ≤ R.locals) (hc : cells ≤ R.cells) (hs : slots ≤ R.slots) {x y : Int} (hx : -2147483648 ≤ x ∧ x < 2147483648) (hy : -2147483648 ≤ y ∧ y < 2147483648) (hdg : decode cc pc = .ok (.invokestatic index, 3))
    (kk : W p l e R s m args below meth c H locs cells slots Q (F0 m (pc + 3) ls (iv (max x y) :: rest))) : W p l e R s m args below meth c H locs cells slots Q (F0 m pc ls (iv y :: iv x :: rest)) := by
  refine va_mmax hexec hb hml hown hlink hstat hini hcode hframes hlocals hc hs hdg ?_
  have h : (if iI x < iI y then iI y else iI x) = iI (max x y) := by
    by_cases h : x < y
    · rw [show max x y = y by omega, if_pos ((iI_lt hx hy).mpr h)]
    · rw [show max x y = x by omega, if_neg (fun q => h ((iI_lt hx hy).mp q))]
  rw [h]
  exact kk
theorem n_mmin (hexec : p.tables.exec = Jvm.exec) (hb : c.code = cc) (hml : c.maxLocals = ls.size) {own : String} {index : Nat} (hown : s.vm.findClass own = some m.cls) (hlink : (Cond.methodLink own index Lib.Math.min.name).before args s = true) (hstat : (Cond.static Lib.Math.min.name).before args s = true) (hini : (Cond.initialized "java/lang/Math").before args s = true) (hcode : (Cond.code Lib.Math.min.name Lib.Math.min.code 2 (some .int)).before args s = true)
    (hframes : 1 ≤ R.frames) (hlocals : (rest.map fun v => v.category).sum + 13 ≤ R.locals) (hc : cells ≤ R.cells) (hs : slots ≤ R.slots) {x y : Int} (hx : -2147483648 ≤ x ∧ x < 2147483648) (hy : -2147483648 ≤ y ∧ y < 2147483648) (hdg : decode cc pc = .ok (.invokestatic index, 3))
    (kk : W p l e R s m args below meth c H locs cells slots Q (F0 m (pc + 3) ls (iv (min x y) :: rest))) : W p l e R s m args below meth c H locs cells slots Q (F0 m pc ls (iv y :: iv x :: rest)) := by
  refine va_mmin hexec hb hml hown hlink hstat hini hcode hframes hlocals hc hs hdg ?_
  have h : (if iI y < iI x then iI y else iI x) = iI (min x y) := by
    by_cases h : y < x
    · rw [show min x y = y by omega, if_pos ((iI_lt hy hx).mpr h)]
    · rw [show min x y = x by omega, if_neg (fun q => h ((iI_lt hy hx).mp q))]
  rw [h]
  exact kk
/-- a new array of ints, chars or booleans -/
theorem n_newa {E : EE} (hexec : p.tables.exec = Jvm.exec) (hb : c.code = cc) {atype : ArrayType} {ty : FieldType} (hty : newarray.typeOf atype = ty) (harr : (Cond.arrayClass ty).before args s = true) (t0 : Nat) {cA : ClassId} (ht0 : (TY E)[t0]? = some (cA, ty)) (hv : defaultValue ty = iv 0) (hK : KE E s) (hP : va_P E.1 CL ws H) (hD : va_D A ws) (hS : va_S A H0 H locs) (hA : ∀ q, H0.size ≤ q → A q)
    {n : Int} {N' : Nat} (hn : n = (N' : Int)) (hlt : N' < 2147483648) (hbytes : N' * componentBytes ty ≤ 536870912) (hcells : cells + 1 ≤ R.cells) (hslots : slots + N' ≤ R.slots) (hdg : decode cc pc = .ok (.newarray atype, 2))
    (kk : ∀ (q : Nat) (H1 : Heap), va_P E.1 CL (ws ++ [(q, ia cA N' (fun _ => 0))]) H1 → va_D A (ws ++ [(q, ia cA N' (fun _ => 0))]) → va_S A H0 H1 locs → W p l e R s m args below meth c H1 locs (cells + 1) (slots + N') Q (F0 m (pc + 2) ls (.ref q :: rest))) : W p l e R s m args below meth c H locs cells slots Q (F0 m pc ls (iv n :: rest)) := by
  subst hn
  refine va_newa hexec hb (by rw [hty]; exact harr) hty hK.1 hP hD hS hA (a0 := (N', .inl (fun k : Nat => iI ((fun _ => 0 : Int → Int) (k : Int))))) (fun cA => by rw [hv]; rfl) (fun h => by rw [← iI_0, iI_lt (by omega) (by omega)] at h; omega) (by rw [iI_cln (by omega) (by omega)]; omega) hbytes hcells hslots hdg (fun q cB H1 k1 h1 h2 h3 => ?_)
  have e1 := hK.1.2 t0 _ ht0
  have e2 := k1.2 (TY E).length (cB, ty) (by rw [List.getElem?_append_right (Nat.le_refl _), Nat.sub_self]; rfl)
  have e3 : cB = cA := by
    subst hty
    cases atype <;> exact Option.some.inj (Eq.trans (Eq.symm e2.2) e1.2)
  subst e3
  exact kk q H1 h1 h2 h3
end NROWS2
