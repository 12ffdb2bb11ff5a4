/-! ===== rows, 7: references ===== -/
/-- an array of references -/
def qa (cA : ClassId) (n : Nat) (f : Int → Option Nat) : va_E := .inl (cA, n, .inr (.inr (.inr (.inr (fun k : Nat => f (k : Int))))))
def uq (f : Int → Option Nat) (i : Int) (v : Option Nat) : Int → Option Nat := fun x => if x = i then v else f x
theorem uq_s {f : Int → Option Nat} {i : Int} {v : Option Nat} : uq f i v i = v := if_pos rfl
theorem uq_n {f : Int → Option Nat} {i x : Int} {v : Option Nat} (h : x ≠ i) : uq f i v x = f x := if_neg h
/-- the boxed number t (-128 .. 127) -/
def BX (E : EE) (t : Int) : Nat := EX E (1000 + (t + 128).toNat)
def NPr (a : Nat) : Array Value → State → Outcome → State → Prop := fun _ st oc t => oc = .returned (some (.ref a)) ∧ t.heap = st.heap
def NPq (a : Option Nat) : Array Value → State → Outcome → State → Prop := fun _ st oc t => oc = .returned (some (va_rf a)) ∧ t.heap = st.heap
def UQxr (E : EE) {σ : Type} (C : σ → Prop) (x : σ → Nat) (w1 : σ → va_W) (A : Nat → Prop) : Array Value → State → Outcome → State → Prop := fun _ st oc t => (∃ u, oc = .returned (some (.ref (x u))) ∧ C u ∧ va_P E.1 CL (w1 u) t.heap ∧ va_D A (w1 u)) ∧ va_F A st t
theorem va_upq {f : Int → Option Nat} {i : Int} {v : Option Nat} (h : 0 ≤ i) : va_up (fun k : Nat => f (k : Int)) i.toNat v = fun k : Nat => uq f i v (k : Int) := by
  funext k
  unfold va_up uq
  by_cases hk : k = i.toNat
  · rw [if_pos hk, if_pos (by omega)]
  · rw [if_neg hk, if_neg (by omega)]
section NROWS7
variable {p : Program} {l : Launch} {e : Env} {R : Room} {s : State} {m : MethodId} {args : Array Value} {below : List Frame} {meth : Method} {c : Code} {H : Heap} {locs : List Loc} {cells slots : Nat} {Q : State → Prop}
variable {pc : Nat} {ls : Array Slot} {rest st0 : List Value} {ws wc : va_W} {A : Nat → Prop} {H0 : Heap} {E : EE} {mc ms : Nat} {a : Array Value} {cc : ByteArray}
theorem n_csr {x : Nat} (hr : va_Run p l e R s m args below meth c H locs cells slots 0 0 (F0 m pc ls st0) rest (NPr x a) (fun _ => False)) (kk : W p l e R s m args below meth c H locs cells slots Q (F0 m (pc + 3) ls (.ref x :: rest))) : W p l e R s m args below meth c H locs cells slots Q (F0 m pc ls st0) := by
  intro T hT X
  obtain ⟨v, st₀, t, T', L, h0, X', hL, e1, _, ⟨hv, hh⟩, st⟩ := hr T hT X
  cases hv
  obtain ⟨t2, a1, b1⟩ := kk T' (by rw [e1, hh, h0]) (Stand.forget X' (fun q h => (hL q h).elim))
  exact ⟨t2, st t2 a1, b1⟩
theorem n_csq {x : Option Nat} (hr : va_Run p l e R s m args below meth c H locs cells slots 0 0 (F0 m pc ls st0) rest (NPq x a) (fun _ => False)) (kk : W p l e R s m args below meth c H locs cells slots Q (F0 m (pc + 3) ls (va_rf x :: rest))) : W p l e R s m args below meth c H locs cells slots Q (F0 m pc ls st0) := by
  intro T hT X
  obtain ⟨v, st₀, t, T', L, h0, X', hL, e1, _, ⟨hv, hh⟩, st⟩ := hr T hT X
  cases hv
  obtain ⟨t2, a1, b1⟩ := kk T' (by rw [e1, hh, h0]) (Stand.forget X' (fun q h => (hL q h).elim))
  exact ⟨t2, st t2 a1, b1⟩
theorem n_cuxrS {σ : Type} {C : σ → Prop} {x : σ → Nat} {w1 w2 : σ → va_W} (hr : va_Run p l e R s m args below meth c H locs cells slots mc ms (F0 m pc ls st0) rest (UQxr E C x w1 (va_A wc H.size) a) (va_A wc H.size)) (hP : va_P E.1 CL ws H) (hD : va_D A ws) (hS : va_S A H0 H locs) (hA : ∀ q : Nat, H0.size ≤ q → A q) (isC isR pm : List Nat) (hC : isC.map (fun i => ws[i]?) = wc.map some) (hR : isR.all (fun i => (ws[i]?).isSome) = true) (hn : va_nd isR = true) (hdis : isR.all (fun i => !isC.contains i) = true) (hpn : va_nd pm = true) (hpm : ∀ u, pm.map (fun i => (isR.filterMap (fun i => ws[i]?) ++ w1 u)[i]?) = (w2 u).map some) (kk : ∀ (u : σ) (H1 : Heap) (locs1 : List Loc), C u → va_P E.1 CL (w2 u) H1 → va_D A (w2 u) → va_S A H0 H1 locs1 → W p l e R s m args below meth c H1 locs1 (cells + mc) (slots + ms) Q (F0 m (pc + 3) ls (.ref (x u) :: rest))) : W p l e R s m args below meth c H locs cells slots Q (F0 m pc ls st0) := by
  have hF := va_sub_free hD hS hA isC hC
  intro T hT X
  obtain ⟨v, st₀, t, T', L, h0, X', hL, e1, _, ⟨⟨u, hv, hcu, hp, hd⟩, hFr⟩, st⟩ := hr T hT X
  cases hv
  obtain ⟨k1, k2, k3⟩ := vx_keep h0 e1 hS (fun q _ h => hF q h) hF hL hFr
  have hk9 : ∀ q : Nat, q < H.size → ¬ va_A wc H.size q → T'.heap[q]? = H[q]? := k2
  obtain ⟨a1, a2⟩ := n_back hP hD hF isC isR pm hC hR hn hdis hpn (hpm u) hk9 (by rw [e1]; exact hp) hd
  obtain ⟨t2, b1, b2⟩ := kk u T'.heap (locs ++ L) hcu a1 a2 k3 T' rfl X'
  exact ⟨t2, st t2 b1, b2⟩
/-- aaload -/
theorem n_qald (hexec : p.tables.exec = Jvm.exec) (hb : c.code = cc) (hK : KE E s) (hP : va_P E.1 CL ws H) (q0 t0 : Nat) {ad : Nat} {cA : ClassId} {C : String} {n : Nat} {f : Int → Option Nat} (ha : ws[q0]? = some (ad, qa cA n f)) (ht : (TY E)[t0]? = some (cA, .object C)) {i : Int} (hi : 0 ≤ i ∧ i < n) (hn : n < 2147483648) (hdg : decode cc pc = .ok (.aaload, 1))
    (kk : W p l e R s m args below meth c H locs cells slots Q (F0 m (pc + 1) ls (va_rf (f i) :: rest))) : W p l e R s m args below meth c H locs cells slots Q (F0 m pc ls (iv i :: .ref ad :: rest)) := by
  refine va_aldq hexec hb hK.1 hP q0 t0 ha ht (iI_in (by omega) (by omega)) hdg ?_
  rw [iI_cln (by omega) (by omega)]
  show W p l e R s m args below meth c H locs cells slots Q (F0 m (pc + 1) ls (va_rf (f (i.toNat : Int)) :: rest))
  rw [show ((i.toNat : Nat) : Int) = i by omega]
  exact kk
/-- aastore of null -/
theorem n_qastN (hexec : p.tables.exec = Jvm.exec) (hb : c.code = cc) (hK : KE E s) (hP : va_P E.1 CL ws H) (hD : va_D A ws) (hS : va_S A H0 H locs) (q0 t0 : Nat) {ad : Nat} {cA : ClassId} {C : String} {n : Nat} {f : Int → Option Nat} (ha : ws[q0]? = some (ad, qa cA n f)) (ht : (TY E)[t0]? = some (cA, .object C)) {i : Int} (hi : 0 ≤ i ∧ i < n) (hn : n < 2147483648) (hdg : decode cc pc = .ok (.aastore, 1)) {w2 : va_W} (hw : ws.set q0 (ad, qa cA n (uq f i none)) = w2)
    (kk : ∀ (H1 : Heap) (locs1 : List Loc), va_P E.1 CL w2 H1 → va_D A w2 → va_S A H0 H1 locs1 → W p l e R s m args below meth c H1 locs1 cells slots Q (F0 m (pc + 1) ls rest)) : W p l e R s m args below meth c H locs cells slots Q (F0 m pc ls (.null :: iv i :: .ref ad :: rest)) := by
  subst hw
  refine va_astqN hexec hb hK.1 hP hD hS q0 t0 ha ht (iI_in (by omega) (by omega)) hdg (fun H1 locs1 h1 h2 h3 => ?_)
  rw [iI_cln (by omega) (by omega), va_upq hi.1] at h1 h2
  exact kk H1 locs1 h1 h2 h3
/-- aastore of an object of the class C -/
theorem n_qast (hexec : p.tables.exec = Jvm.exec) (hb : c.code = cc) (hK : KE E s) (hP : va_P E.1 CL ws H) (hD : va_D A ws) (hS : va_S A H0 H locs) (q0 t0 : Nat) {ad v : Nat} {cA : ClassId} {B C : String} {n : Nat} {f : Int → Option Nat} (ha : ws[q0]? = some (ad, qa cA n f)) (ht : (TY E)[t0]? = some (cA, .object B)) (hca : va_Nw (.castable C B) s) (hr : ∃ cellV : Cell, H[v]? = some cellV ∧ cellV.vm.isStatics = false ∧ s.vm.findClass C = some cellV.cls) {i : Int} (hi : 0 ≤ i ∧ i < n) (hn : n < 2147483648) (hdg : decode cc pc = .ok (.aastore, 1)) {w2 : va_W} (hw : ws.set q0 (ad, qa cA n (uq f i (some v))) = w2)
    (kk : ∀ (H1 : Heap) (locs1 : List Loc), va_P E.1 CL w2 H1 → va_D A w2 → va_S A H0 H1 locs1 → W p l e R s m args below meth c H1 locs1 cells slots Q (F0 m (pc + 1) ls rest)) : W p l e R s m args below meth c H locs cells slots Q (F0 m pc ls (.ref v :: iv i :: .ref ad :: rest)) := by
  subst hw
  refine vb_astq hexec hb hK.1 hP hD hS q0 t0 ha ht hr (vb_asgC hca) (iI_in (by omega) (by omega)) hdg (fun H1 locs1 h1 h2 h3 => ?_)
  rw [iI_cln (by omega) (by omega), va_upq hi.1] at h1 h2
  exact kk H1 locs1 h1 h2 h3
/-- a new Object[] -/
theorem n_newqa (hexec : p.tables.exec = Jvm.exec) (hb : c.code = cc) {own : String} {index : Nat} (hown : s.vm.findClass own = some m.cls) (hclink : (Cond.classLink own index "java/lang/Object").before args s = true) (hK : KE E s) (hP : va_P E.1 CL ws H) (hD : va_D A ws) (hS : va_S A H0 H locs) (hA : ∀ q, H0.size ≤ q → A q)
    {n : Int} {N' : Nat} (hn : n = (N' : Int)) (hlt : N' < 100000) (hcells : cells + 1 ≤ R.cells) (hslots : slots + N' ≤ R.slots) (hdg : decode cc pc = .ok (.anewarray index, 3))
    (kk : ∀ (q : Nat) (H1 : Heap), va_P E.1 CL (ws ++ [(q, qa (E.2 4) N' (fun _ => none))]) H1 → va_D A (ws ++ [(q, qa (E.2 4) N' (fun _ => none))]) → va_S A H0 H1 locs → W p l e R s m args below meth c H1 locs (cells + 1) (slots + N') Q (F0 m (pc + 3) ls (.ref q :: rest))) : W p l e R s m args below meth c H locs cells slots Q (F0 m pc ls (iv n :: rest)) := by
  subst hn
  refine va_newq hexec hb hown hclink hK.2.2.1 hK.1 hP hD hS hA (fun h => by rw [← iI_0, iI_lt (by omega) (by omega)] at h; omega) (by rw [iI_cln (by omega) (by omega)]; omega) (by omega) hcells hslots hdg (fun q cB H1 k1 h1 h2 h3 => ?_)
  have e1 := hK.1.2 4 _ (show (TY E)[4]? = some (E.2 4, .object "java/lang/Object") from rfl)
  have e2 := k1.2 (TY E).length (cB, .object "java/lang/Object") (by rw [List.getElem?_append_right (Nat.le_refl _), Nat.sub_self]; rfl)
  obtain ⟨_, _, _, _, _, f1⟩ := e1.2
  obtain ⟨_, _, _, _, _, f2⟩ := e2.2
  have hcc : cB = E.2 4 := Option.some.inj (f2.symm.trans f1)
  subst hcc
  exact kk q H1 h1 h2 h3
/-! boxed numbers -/
theorem bx_c {v : Int} (h : -128 ≤ v ∧ v ≤ 127) : vb_c (v + 128).toNat = iI v := by
  unfold vb_c
  rw [show Int32.ofNat (v + 128).toNat = iI (v + 128) from (Int32.ofInt_eq_ofNat).symm.trans (congrArg iI (show (((v + 128).toNat : Nat) : Int) = v + 128 by omega)), show (128 : Int32) = iI 128 from rfl, iI_sub]
  congr 1
  omega
theorem bx_recv (hE : HE E A s s.heap) (hS : va_S A s.heap H locs) {t : Int} (ht : -128 ≤ t ∧ t ≤ 127) : ∃ cell : Cell, H[BX E t]? = some cell ∧ cell.vm.isStatics = false ∧ s.vm.findClass "java/lang/Integer" = some cell.cls := by
  obtain ⟨cell, h1, h2, h3, -⟩ := (hE.ib.1 (t + 128).toNat (by omega)).kept hS.2.1
  exact ⟨cell, h1, h2, h3⟩
end NROWS7
