/-! ===== rows, 14: bytes; a constant's signs copied behind a text ===== -/
theorem i2b_dec : ∀ k : Fin 128, (Int32.ofInt (k.val : Int)).toInt8.toInt32 = Int32.ofInt (k.val : Int) := by decide +kernel
theorem i2b_id {x : Int} (h : 0 ≤ x ∧ x < 128) : (iI x).toInt8.toInt32 = iI x := by
  have := i2b_dec ⟨x.toNat, by omega⟩
  simp only [Int.toNat_of_nonneg h.1] at this
  exact this
theorem vn_y {x : Int} (h : 0 ≤ x ∧ x < 128) : vp_nar .byte (iI x) = iI x := by rw [vp_nar_byte]; exact i2b_id h
/-- signs laid behind a text (texts are kept last sign first) -/
def apT : List Int → List Int → List Int
  | [], L => L
  | v :: T, L => apT T (v :: L)
def cpD (T : List Int) (d : Int) (g : Int → Int) : Int → Int := fun x => if d ≤ x ∧ x < d + (T.length : Int) then T.getD (x - d).toNat 0 else g x
theorem wR_cp : ∀ (T L : List Int) (f : Int → Int), wR (apT T L) f = cpD T (lenI L) (wR L f)
  | [], L, f => by
    funext x
    unfold cpD apT
    rw [if_neg (by simp only [List.length_nil]; omega)]
  | v :: T, L, f => by
    have hL := lenI_0 L
    show wR (apT T (v :: L)) f = _
    rw [wR_cp T (v :: L) f]
    funext x
    unfold cpD
    show (if lenI L + 1 ≤ x ∧ x < lenI L + 1 + (T.length : Int) then T.getD (x - (lenI L + 1)).toNat 0 else ui (wR L f) (lenI L) v x) = _
    by_cases h : lenI L + 1 ≤ x ∧ x < lenI L + 1 + (T.length : Int)
    · rw [if_pos h, if_pos (by simp only [List.length_cons]; omega), show (x - lenI L).toNat = (x - (lenI L + 1)).toNat + 1 by omega]
      rfl
    · rw [if_neg h]
      by_cases hx : x = lenI L
      · subst hx
        rw [if_pos (by simp only [List.length_cons]; omega), show (lenI L - lenI L).toNat = 0 by omega]
        unfold ui
        rw [if_pos rfl]
        rfl
      · rw [if_neg (by simp only [List.length_cons]; omega)]
        unfold ui
        rw [if_neg hx]
theorem lenI_apT : ∀ (T L : List Int), lenI (apT T L) = lenI L + (T.length : Int)
  | [], L => by show lenI L = lenI L + 0; omega
  | v :: T, L => by
    show lenI (apT T (v :: L)) = _
    rw [lenI_apT T (v :: L)]
    show lenI L + 1 + (T.length : Int) = lenI L + ((T.length + 1 : Nat) : Int)
    omega
theorem cpD_cpy (T : List Int) {d : Int} (g : Int → Int) (hd : 0 ≤ d) : va_cpy (fun k : Nat => iI (T.getD k 0)) (fun k : Nat => iI (g (k : Int))) 0 d.toNat T.length = fun k : Nat => iI (cpD T d g (k : Int)) := by
  funext k
  unfold va_cpy cpD
  by_cases hk : d.toNat ≤ k ∧ k < d.toNat + T.length
  · rw [if_pos hk, if_pos (by omega)]
    congr 2
    omega
  · rw [if_neg hk, if_neg (by omega)]
section NROWS14
variable {p : Program} {l : Launch} {e : Env} {R : Room} {s : State} {m : MethodId} {args : Array Value} {below : List Frame} {meth : Method} {c : Code} {H : Heap} {locs : List Loc} {cells slots : Nat} {Q : State → Prop}
variable {cc : ByteArray} {pc : Nat} {ls : Array Slot} {rest : List Value} {D : va_G} {cl : List vw_C} {ws : va_W} {tys : List (ClassId × FieldType)} {a : Nat} {A : Nat → Prop} {H0 : Heap}
theorem n_i2b (hexec : p.tables.exec = Jvm.exec) (hb : c.code = cc) {x : Int} (h : 0 ≤ x ∧ x < 128) (hdg : decode cc pc = .ok (.i2b, 1)) (k : W p l e R s m args below meth c H locs cells slots Q (F0 m (pc + 1) ls (iv x :: rest))) : W p l e R s m args below meth c H locs cells slots Q (F0 m pc ls (iv x :: rest)) := lv_i2b hexec hb hdg (i2b_id h) k
theorem n_bast (hexec : p.tables.exec = Jvm.exec) (hb : c.code = cc) (hK : va_K D cl tys s) (hP : va_P D cl ws H) (hD : va_D A ws) (hS : va_S A H0 H locs) (q0 t0 : Nat) {cA : ClassId} {n : Nat} {f : Int → Int} (ha : ws[q0]? = some (a, ia cA n f)) (ht : tys[t0]? = some (cA, .byte)) {i v : Int} (hi : 0 ≤ i ∧ i < (n : Int)) (hn : n < 2147483648) (hv : 0 ≤ v ∧ v < 128) (hdg : decode cc pc = .ok (.bastore, 1)) {ws2 : va_W} (hw : ws.set q0 (a, ia cA n (ui f i v)) = ws2) (kk : ∀ (H1 : Heap) (locs1 : List Loc), va_P D cl ws2 H1 → va_D A ws2 → va_S A H0 H1 locs1 → W p l e R s m args below meth c H1 locs1 cells slots Q (F0 m (pc + 1) ls rest)) : W p l e R s m args below meth c H locs cells slots Q (F0 m pc ls (iv v :: iv i :: .ref a :: rest)) := by
  subst hw
  refine va_bast hexec hb hK hP hD hS q0 t0 ha ht (iI_in hi hn) hdg (fun H1 locs1 h1 h2 h3 => ?_)
  rw [vn_y hv, ia_upd hi.1 (by omega)] at h1 h2
  exact kk H1 locs1 h1 h2 h3
/-- System.arraycopy(constant's signs, 0, g, d, all) -/
theorem n_cpS (hexec : p.tables.exec = Jvm.exec) (hb : c.code = cc) (hml : c.maxLocals = ls.size) {own : String} {index : Nat} (hown : s.vm.findClass own = some m.cls) (hlink : (Cond.methodLink own index arraycopyName).before args s = true) (hnat : (Cond.native arraycopyName).before args s = true) (hstat : (Cond.static arraycopyName).before args s = true) (hini : (Cond.initialized "java/lang/System").before args s = true)
    (hK : va_K D cl tys s) (hP : va_P D cl ws H) (hD : va_D A ws) (hS : va_S A s.heap H locs) {b0 : Nat} {T : List Int} (hX : va_T .byte b0 T.length (fun j => iv (T.getD j 0)) A s s.heap) (q1 t1 : Nat) {c1 : ClassId} {n1 : Nat} {g : Int → Int} (ha1 : ws[q1]? = some (a, ia c1 n1 g)) (ht1 : tys[t1]? = some (c1, .byte))
    {d : Int} (hd : 0 ≤ d ∧ d < 2147483648) (hT : (T.length : Int) < 2147483648) (h5 : d + (T.length : Int) ≤ (n1 : Int)) (hfit : ∀ j : Nat, fits .byte (iv (T.getD j 0)) = true)
    (hframes : 1 ≤ R.frames) (hlocals : (rest.map fun v => v.category).sum + 18 ≤ R.locals) (hdg : decode cc pc = .ok (.invokestatic index, 3)) {w2 : va_W} (hw : ws.set q1 (a, ia c1 n1 (cpD T d g)) = w2)
    (kk : ∀ (H1 : Heap) (locs1 : List Loc), va_P D cl w2 H1 → va_D A w2 → va_S A s.heap H1 locs1 → W p l e R s m args below meth c H1 locs1 cells slots Q (F0 m (pc + 3) ls rest)) : W p l e R s m args below meth c H locs cells slots Q (F0 m pc ls (iv (T.length : Int) :: iv d :: .ref a :: iv 0 :: .ref b0 :: rest)) := by
  subst hw
  have hz : (iI 0).toNatClampNeg = 0 := by rw [iI_cln (by decide) (by decide)]; rfl
  have hn : (iI (T.length : Int)).toNatClampNeg = T.length := by rw [iI_cln (by omega) hT]; exact Int.toNat_natCast _
  have hd2 : (iI d).toNatClampNeg = d.toNat := iI_cln hd.1 hd.2
  have hp : ∀ z : Int, 0 ≤ z ∧ z < 2147483648 → ¬ iI z < 0 := fun z h hlt => by
    rw [← iI_0, iI_lt (by omega) (by omega)] at hlt
    omega
  refine vk_copyt hexec hb hml hown hlink hnat hstat hini hK hP hD hS hX q1 t1 ha1 ht1 (hp 0 (by decide)) (hp d hd) (hp _ ⟨by omega, hT⟩) (by rw [hz, hn]; omega) (by rw [hd2, hn]; omega) (fun i _ => ?_) hframes hlocals hdg (fun H1 locs1 h1 h2 h6 => ?_)
  · rw [hz]
    exact hfit (0 + i)
  · rw [hz, hn, hd2, cpD_cpy T g hd.1] at h1 h2
    exact kk H1 locs1 h1 h2 h6
theorem n_ishl0 (hexec : p.tables.exec = Jvm.exec) (hb : c.code = cc) {x : Int} (hdg : decode cc pc = .ok (.ishl, 1)) (k : W p l e R s m args below meth c H locs cells slots Q (F0 m (pc + 1) ls (iv x :: rest))) : W p l e R s m args below meth c H locs cells slots Q (F0 m pc ls (iv 0 :: iv x :: rest)) := lv_ishl hexec hb hdg (by rw [show (iI x) <<< (iI 0 &&& 31) = iI x from sb_shl0 _]; exact k)
theorem n_ldci (hexec : p.tables.exec = Jvm.exec) (hb : c.code = cc) {own : String} {index : Nat} {v : Int32} {x : Int} (hown : s.vm.findClass own = some m.cls) (hconst : (Jvm.Cond.constant own index v).before args s = true) (hv : v = iI x) (hdg : decode cc pc = .ok (.ldc index, 2)) (k : W p l e R s m args below meth c H locs cells slots Q (F0 m (pc + 2) ls (iv x :: rest))) : W p l e R s m args below meth c H locs cells slots Q (F0 m pc ls rest) := by
  subst hv
  exact lv_ldc hexec hb hown hconst hdg k
end NROWS14
/-! the superclass's methods: super.m(..), and private or inherited ones on an object of the subclass -/
theorem lw_SU {own : String} {idx : Nat} {y : MethodName} {b : ByteArray} {L : Nat} {r : Option FieldType} (h1 : Cond.methodLink own idx y ∈ lw_all) (h2 : Cond.sameMethod y.cls y.cls y.name y.desc ∈ lw_all) (h3 : Cond.superclass own y.cls ∈ lw_all) (h4 : Cond.instanceMethod y ∈ lw_all) (h5 : Cond.initialized y.cls ∈ lw_all) (h6 : Cond.code y b L r ∈ lw_all) : GoodIn lw_all (va_wsSU own idx y (ws_ y b L r)) := by
  refine lw_app ?_ (lw_meth h6)
  intro w hw
  simp only [List.mem_cons, List.not_mem_nil, or_false] at hw
  rcases hw with e | e | e | e | e
  · rw [e]; exact h1
  · rw [e]; exact h2
  · rw [e]; exact h3
  · rw [e]; exact h4
  · rw [e]; exact h5
theorem sel_priv {C : String} {y z : MethodName} {args : Array Value} {s : State} (hsame : (Cond.sameMethod y.cls y.cls y.name y.desc).before args s = true) (hpr : (Cond.privateMethod y).before args s = true) (hin : (Cond.instanceMethod y).before args s = true) (hz : (Cond.selects C z z).before args s = true) (hc : z.cls = y.cls) : (Cond.selects C y y).before args s = true := by
  obtain ⟨cn, ck, r1, hcn, hck, hni, hf, hn1⟩ := Cond.sameMethod_found hsame
  obtain ⟨mk, methM, hnamed, hmethM, -, -⟩ := Cond.instanceMethod_spec hin
  obtain ⟨c2, r2, m2, q1, q2, q3, q4, kP, hkP, hkPi⟩ := Cond.selects_spec hz
  have hn : s.methodNamed? y = some r1 := hn1
  cases hn.symm.trans hnamed
  have e1 := findClass_of_methodNamed q3
  have e2 := findClass_of_methodNamed hn
  rw [hc] at e1
  have e3 : r1.cls = m2.cls := Option.some.inj (e2.symm.trans e1)
  have hp := Cond.privateMethod_at hpr _ _ hn hmethM
  have hs := selectMethod_private (p := {}) (c := c2) hmethM hp
  simp [Cond.before, Cond.holds, Cond.value, q1, hf, hn, hs, e3, hkP, hkPi]
theorem KE.pv {E : EE} {U : State} (h : KE E U) {y : MethodName} (hw : Cond.privateMethod y ∈ lw_tbl) {A : Array Value} : (Cond.privateMethod y).before A U = true := h.nw hw
section NROWS14B
variable {R : Room} {s : State} {args : Array Value}
theorem n_cwP {own C : String} {index maxL mc ms : Nat} {y : MethodName} {bytes : ByteArray} {ret : Option FieldType} {rm : Room} (n : Nat) (ht : ∀ w ∈ lw_all, w.before args s = true) (h1 : Cond.methodLink own index y ∈ lw_all) (h2 : Cond.sameMethod y.cls y.cls y.name y.desc ∈ lw_all) (h3 : Cond.instanceMethod y ∈ lw_all) (h4 : Cond.initialized y.cls ∈ lw_all) (h5 : Cond.code y bytes maxL ret ∈ lw_all) (hsel : (Cond.selects C y y).before args s = true) (hrc : rm.cells = mc) (hrs : rm.slots = ms)
    (hd : y.cls ≠ "java/lang/invoke/MethodHandle" ∧ y.cls ≠ "java/lang/invoke/VarHandle" ∧ (parseMethodDescriptor y.desc).map (fun d => d.parameters.length) = some n) (hR : rm.frames + 1 ≤ R.frames ∧ 8 + (maxL + 11) + rm.locals ≤ R.locals) : va_CU R s args own C y.cls index y y bytes maxL ret (ws_ y bytes maxL ret) rm mc ms n := by
  have hG : GoodIn lw_all (ws_ y bytes maxL ret) := lw_meth h5
  have hc : Cond.code y bytes maxL ret ∈ ws_ y bytes maxL ret := List.mem_cons_self
  refine ⟨⟨hrc, hrs, hR.1, hR.2, pay_in ht hG, hc⟩, ht _ h5, ht _ h4, ⟨hd.1, hd.2.1⟩, fun sig h => ?_, ht _ h1, ht _ h2, va_Decl.of (ht _ h3) (ht _ h5), hsel, ht _ h3⟩
  have h2' := hd.2.2
  rw [h] at h2'
  exact (Option.some.inj h2').symm
end NROWS14B
/-- the decimal figures' tables -/
theorem dg_1 (j : Nat) : (fun j : Nat => iv (48 + (j : Int) % 10)) j = iv (48 + (j : Int) % 10) := rfl
theorem fty_dec : ∀ k : Fin 128, fits .byte (.int (Int32.ofInt (k.val : Int))) = true := by decide +kernel
theorem ft_y {x : Int} (h : 0 ≤ x ∧ x < 128) : fits .byte (iv x) = true := by
  have := fty_dec ⟨x.toNat, by omega⟩
  simp only [Int.toNat_of_nonneg h.1] at this
  exact this
/-- a number's figures, written from the place i downwards -/
def dgn (v : Int) : Int := if v < 10 then 1 else 2
theorem dgn_r (v : Int) : 1 ≤ dgn v ∧ dgn v ≤ 2 := by unfold dgn; split <;> omega
theorem dgn_1 {v : Int} (h : v < 10) : dgn v = 1 := if_pos h
theorem dgn_2 {v : Int} (h : ¬ v < 10) : dgn v = 2 := if_neg h
def dgF (v i : Int) (f : Int → Int) : Int → Int := if 9 < v then ui (ui f (i + (-1)) (48 + v % 10)) (i + (-1) + (-1)) (48 + v / 10) else ui f (i + (-1)) (48 + v % 10)
theorem dgF_w {v : Int} (L : List Int) (f : Int → Int) (h : 0 ≤ v ∧ v < 100) : dgF v (lenI L + dgn v) (wR L f) = wR (dgR v L) f := by
  have hL := lenI_0 L
  unfold dgF
  by_cases h9 : 9 < v
  · rw [if_pos h9, dgR_p h9, dgn_2 (by omega), show lenI L + 2 + (-1) = lenI L + 1 by omega, show lenI L + 1 + (-1) = lenI L by omega, show v / 10 % 10 = v / 10 by omega]
    funext x
    unfold ui
    by_cases h1 : x = lenI L
    · rw [if_pos h1, if_neg (by omega), if_pos h1]
    · rw [if_neg h1]
      by_cases h2 : x = lenI L + 1
      · rw [if_pos h2, if_pos h2]
      · rw [if_neg h2, if_neg h2, if_neg h1]
  · rw [if_neg h9, dgn_1 (by omega), show dgR v L = (48 + v % 10) :: L from if_neg h9, show lenI L + 1 + (-1) = lenI L by omega]
    rfl
theorem dgn_w {v : Int} (L : List Int) (h : 0 ≤ v) : lenI L + dgn v = lenI (dgR v L) := by
  by_cases h9 : 9 < v
  · rw [dgn_2 (by omega), show dgR v L = (48 + v % 10) :: (48 + v / 10 % 10) :: L from if_pos h9]
    show lenI L + 2 = lenI L + 1 + 1
    omega
  · rw [dgn_1 (by omega), show dgR v L = (48 + v % 10) :: L from if_neg h9]
    rfl
