/-! ===== rows, 3: calls over a part of the world; calls that may throw ===== -/
/-- the words of a throw -/
def xl (own : String) (ik ic : Nat) (cls : String) (names : List String) : List Cond := Cond.classLink own ik cls :: Cond.initialized cls :: vx_at0 own ic cls names
def xk (w : Cond) : Bool := decide (w ∈ lw_tbl) && ((goodWord w || isN w) && vx_ot w)
theorem xl_use {E : EE} {s : State} {args : Array Value} (hK : KE E s) (hts : ∀ w ∈ lw_all, w.before args s = true) {L : List Cond} (h : L.all xk = true) : ∀ w ∈ L, w.before args s = true ∧ vx_ot w = true := by
  intro w hw
  have h1 := List.all_eq_true.mp h w hw
  unfold xk at h1
  rw [Bool.and_eq_true, Bool.and_eq_true, Bool.or_eq_true] at h1
  have hm := of_decide_eq_true h1.1
  exact ⟨h1.2.1.elim (fun g => hts w (lw_g hm g)) (fun n => hK.nw hm n), h1.2.2⟩
theorem x_IAE : (xl "ClockworkTailor" 68 70 "java/lang/IllegalArgumentException" ["java/lang/RuntimeException", "java/lang/Exception"]).all xk = true := by decide +kernel
theorem x_NSE : (xl "ClockworkTailor" 71 73 "java/util/NoSuchElementException" ["java/lang/RuntimeException", "java/lang/Exception"]).all xk = true := by decide +kernel
theorem x_ISE : (xl "ClockworkTailor" 74 76 "java/lang/IllegalStateException" ["java/lang/RuntimeException", "java/lang/Exception"]).all xk = true := by decide +kernel
theorem x_IOB : (xl "ClockworkTailor" 77 79 "java/lang/IndexOutOfBoundsException" ["java/lang/RuntimeException", "java/lang/Exception"]).all xk = true := by decide +kernel
theorem x_ARI : (xl "ClockworkTailor" 84 86 "java/lang/ArithmeticException" ["java/lang/RuntimeException", "java/lang/Exception"]).all xk = true := by decide +kernel
section NROWS3
variable {p : Program} {l : Launch} {e : Env} {R : Room} {s : State} {m : MethodId} {args : Array Value} {below : List Frame} {meth : Method} {c : Code} {H : Heap} {locs : List Loc} {cells slots : Nat} {Q : State → Prop}
variable {pc : Nat} {ls : Array Slot} {rest st0 : List Value} {ws wc : va_W} {A : Nat → Prop} {H0 : Heap} {E : EE} {mc ms : Nat} {a : Array Value} {cc : ByteArray}
theorem n_cuxS {σ : Type} {C : σ → Prop} {x : σ → Int} {w1 w2 : σ → va_W} (hr : va_Run p l e R s m args below meth c H locs cells slots mc ms (F0 m pc ls st0) rest (UQx E C x w1 (va_A wc H.size) a) (va_A wc H.size)) (hP : va_P E.1 CL ws H) (hD : va_D A ws) (hS : va_S A H0 H locs) (hA : ∀ q : Nat, H0.size ≤ q → A q) (isC isR pm : List Nat) (hC : isC.map (fun i => ws[i]?) = wc.map some) (hR : isR.all (fun i => (ws[i]?).isSome) = true) (hn : va_nd isR = true) (hdis : isR.all (fun i => !isC.contains i) = true) (hpn : va_nd pm = true) (hpm : ∀ u, pm.map (fun i => (isR.filterMap (fun i => ws[i]?) ++ w1 u)[i]?) = (w2 u).map some) (kk : ∀ (u : σ) (H1 : Heap) (locs1 : List Loc), C u → va_P E.1 CL (w2 u) H1 → va_D A (w2 u) → va_S A H0 H1 locs1 → W p l e R s m args below meth c H1 locs1 (cells + mc) (slots + ms) Q (F0 m (pc + 3) ls (iv (x u) :: rest))) : W p l e R s m args below meth c H locs cells slots Q (F0 m pc ls st0) := by
  have hF := va_sub_free hD hS hA isC hC
  refine va_calli hr hS (fun q _ h => hF q h) hF (fun r u t H1 locs1 ht hvm h1 hB hz hk hS1 => ?_)
  obtain ⟨h0, h1⟩ := h1
  subst h1
  subst ht
  obtain ⟨a1, a2⟩ := n_back hP hD hF isC isR pm hC hR hn hdis hpn (hpm u) hk hB.1 hB.2
  exact kk u t.heap locs1 h0 a1 a2 hS1
theorem n_cuxvS {σ : Type} {C : σ → Prop} {w1 w2 : σ → va_W} (hr : va_Run p l e R s m args below meth c H locs cells slots mc ms (F0 m pc ls st0) rest (UQxv E C w1 (va_A wc H.size) a) (va_A wc H.size)) (hP : va_P E.1 CL ws H) (hD : va_D A ws) (hS : va_S A H0 H locs) (hA : ∀ q : Nat, H0.size ≤ q → A q) (isC isR pm : List Nat) (hC : isC.map (fun i => ws[i]?) = wc.map some) (hR : isR.all (fun i => (ws[i]?).isSome) = true) (hn : va_nd isR = true) (hdis : isR.all (fun i => !isC.contains i) = true) (hpn : va_nd pm = true) (hpm : ∀ u, pm.map (fun i => (isR.filterMap (fun i => ws[i]?) ++ w1 u)[i]?) = (w2 u).map some) (kk : ∀ (u : σ) (H1 : Heap) (locs1 : List Loc), C u → va_P E.1 CL (w2 u) H1 → va_D A (w2 u) → va_S A H0 H1 locs1 → W p l e R s m args below meth c H1 locs1 (cells + mc) (slots + ms) Q (F0 m (pc + 3) ls rest)) : W p l e R s m args below meth c H locs cells slots Q (F0 m pc ls st0) := by
  have hF := va_sub_free hD hS hA isC hC
  refine va_callv hr hS (fun q _ h => hF q h) hF (fun u t H1 locs1 ht hvm h1 hB hz hk hS1 => ?_)
  subst ht
  obtain ⟨a1, a2⟩ := n_back hP hD hF isC isR pm hC hR hn hdis hpn (hpm u) hk hB.1 hB.2
  exact kk u t.heap locs1 h1 a1 a2 hS1
/-- what the object at q, thrown, holds behind the six fields of a Throwable -/
def XF (E : EE) (q : Nat) (z : Option (Nat × List Value)) (H : Heap) : Prop := ∀ y, z = some y → ∃ pre : List Value, pre.length = 6 ∧ va_P E.1 CL [(q, .inr (y.1, pre ++ y.2))] H
/-- the end by an exception: of the class En, with Cx En u; the world wx u; what the thrown object holds -/
def UXx (E : EE) {σ : Type} (Cx : String → σ → Prop) (wx : σ → va_W) (rx : σ → Option (Nat × List Value)) (A : Nat → Prop) : String → Addr → State → State → Prop := fun En q st t => ∃ u, Cx En u ∧ va_P E.1 CL (wx u) t.heap ∧ va_D A (wx u) ∧ XF E q (rx u) t.heap ∧ st.heap.size ≤ q ∧ va_F A st t
/-- behind a call that threw: the frame with q over it -/
abbrev NX (p : Program) (l : Launch) (e : Env) (R : Room) (s : State) (m : MethodId) (args : Array Value) (below : List Frame) (meth : Method) (c : Code) (H : Heap) (cells slots : Nat) (Q : State → Prop) (E : EE) (A : Nat → Prop) (H0 : Heap) (g : JFrame) {σ : Type} (Cx : String → σ → Prop) (wx : σ → va_W) (rx : σ → Option (Nat × List Value)) : Prop :=
  ∀ (En : String) (ce : Cell) (q9 : Addr) (u : σ) (H1 : Heap) (locs1 : List Loc), Cx En u → va_P E.1 CL (wx u) H1 → va_D A (wx u) → va_S A H0 H1 locs1 → XF E q9 (rx u) H1 → H.size ≤ q9 → H1[q9]? = some ce → ce.vm = .none → s.vm.findClass En = some ce.cls → vx_W p l e R s m args below meth c H1 locs1 cells slots Q g q9
theorem n_txS {σ τ : Type} {C : σ → Prop} {x : σ → Int} {w1 w2 : σ → va_W} {Cx : String → τ → Prop} {wx w3 : τ → va_W} {rx : τ → Option (Nat × List Value)} (hr : vx_Run p l e R s m args below meth c H locs cells slots mc ms (F0 m pc ls st0) rest (UQx E C x w1 (va_A wc H.size) a) (UXx E Cx wx rx (va_A wc H.size)) (va_A wc H.size)) (hP : va_P E.1 CL ws H) (hD : va_D A ws) (hS : va_S A H0 H locs) (hA : ∀ q : Nat, H0.size ≤ q → A q) (isC isR pm pmx : List Nat) (hC : isC.map (fun i => ws[i]?) = wc.map some) (hR : isR.all (fun i => (ws[i]?).isSome) = true) (hn : va_nd isR = true) (hdis : isR.all (fun i => !isC.contains i) = true) (hpn : va_nd pm = true) (hpm : ∀ u, pm.map (fun i => (isR.filterMap (fun i => ws[i]?) ++ w1 u)[i]?) = (w2 u).map some) (hpn3 : va_nd pmx = true) (hpm3 : ∀ u, pmx.map (fun i => (isR.filterMap (fun i => ws[i]?) ++ wx u)[i]?) = (w3 u).map some)
    (kx : NX p l e R s m args below meth c H (cells + mc) (slots + ms) Q E A H0 (F0 m pc ls rest) Cx w3 rx)
    (kk : ∀ (u : σ) (H1 : Heap) (locs1 : List Loc), C u → va_P E.1 CL (w2 u) H1 → va_D A (w2 u) → va_S A H0 H1 locs1 → W p l e R s m args below meth c H1 locs1 (cells + mc) (slots + ms) Q (F0 m (pc + 3) ls (iv (x u) :: rest))) : W p l e R s m args below meth c H locs cells slots Q (F0 m pc ls st0) := by
  have hF := va_sub_free hD hS hA isC hC
  intro T hT X
  rcases hr T hT X with ⟨v, st₀, t, T', L, h0, X', hL, e1, e2, ⟨⟨r, u, hv, hp, hb⟩, hFr⟩, st⟩ | ⟨q, st₀, t, T', L, En, ce, h0, X', hL, e1, e2, ⟨u, hcx, hpx, hdx, hxf, hq, hFx⟩, hce, hcv, hcl, st⟩
  · cases hv
    obtain ⟨k1, k2, k3⟩ := vx_keep h0 e1 hS (fun q _ h => hF q h) hF hL hFr
    obtain ⟨h9, h8⟩ := hp
    subst h8
    rw [← h0] at hb
    have hk9 : ∀ q : Nat, q < H.size → ¬ va_A wc H.size q → T'.heap[q]? = H[q]? := k2
    obtain ⟨a1, a2⟩ := n_back hP hD hF isC isR pm hC hR hn hdis hpn (hpm u) hk9 (by rw [e1]; exact hb.1) (by rw [← h0]; exact hb.2)
    obtain ⟨t2, b1, b2⟩ := kk u T'.heap (locs ++ L) h9 a1 a2 k3 T' rfl X'
    exact ⟨t2, st t2 b1, b2⟩
  · obtain ⟨k1, k2, k3⟩ := vx_keep h0 e1 hS (fun q _ h => hF q h) hF hL hFx
    have hk9 : ∀ q : Nat, q < H.size → ¬ va_A wc H.size q → T'.heap[q]? = H[q]? := k2
    obtain ⟨a1, a2⟩ := n_back hP hD hF isC isR pmx hC hR hn hdis hpn3 (hpm3 u) hk9 (by rw [e1]; exact hpx) hdx
    obtain ⟨t2, b1, b2⟩ := kx En ce q u T'.heap (locs ++ L) hcx a1 a2 k3 (by rw [e1]; exact hxf) (by rw [← h0]; exact hq) (by rw [e1]; exact hce) hcv hcl T' rfl X'
    exact ⟨t2, st.trans b1, b2⟩
theorem n_txvS {σ τ : Type} {C : σ → Prop} {w1 w2 : σ → va_W} {Cx : String → τ → Prop} {wx w3 : τ → va_W} {rx : τ → Option (Nat × List Value)} (hr : vx_Run p l e R s m args below meth c H locs cells slots mc ms (F0 m pc ls st0) rest (UQxv E C w1 (va_A wc H.size) a) (UXx E Cx wx rx (va_A wc H.size)) (va_A wc H.size)) (hP : va_P E.1 CL ws H) (hD : va_D A ws) (hS : va_S A H0 H locs) (hA : ∀ q : Nat, H0.size ≤ q → A q) (isC isR pm pmx : List Nat) (hC : isC.map (fun i => ws[i]?) = wc.map some) (hR : isR.all (fun i => (ws[i]?).isSome) = true) (hn : va_nd isR = true) (hdis : isR.all (fun i => !isC.contains i) = true) (hpn : va_nd pm = true) (hpm : ∀ u, pm.map (fun i => (isR.filterMap (fun i => ws[i]?) ++ w1 u)[i]?) = (w2 u).map some) (hpn3 : va_nd pmx = true) (hpm3 : ∀ u, pmx.map (fun i => (isR.filterMap (fun i => ws[i]?) ++ wx u)[i]?) = (w3 u).map some)
    (kx : NX p l e R s m args below meth c H (cells + mc) (slots + ms) Q E A H0 (F0 m pc ls rest) Cx w3 rx)
    (kk : ∀ (u : σ) (H1 : Heap) (locs1 : List Loc), C u → va_P E.1 CL (w2 u) H1 → va_D A (w2 u) → va_S A H0 H1 locs1 → W p l e R s m args below meth c H1 locs1 (cells + mc) (slots + ms) Q (F0 m (pc + 3) ls rest)) : W p l e R s m args below meth c H locs cells slots Q (F0 m pc ls st0) := by
  have hF := va_sub_free hD hS hA isC hC
  intro T hT X
  rcases hr T hT X with ⟨v, st₀, t, T', L, h0, X', hL, e1, e2, ⟨⟨u, hv, hp, hb⟩, hFr⟩, st⟩ | ⟨q, st₀, t, T', L, En, ce, h0, X', hL, e1, e2, ⟨u, hcx, hpx, hdx, hxf, hq, hFx⟩, hce, hcv, hcl, st⟩
  · cases hv
    obtain ⟨k1, k2, k3⟩ := vx_keep h0 e1 hS (fun q _ h => hF q h) hF hL hFr
    have hk9 : ∀ q : Nat, q < H.size → ¬ va_A wc H.size q → T'.heap[q]? = H[q]? := k2
    obtain ⟨a1, a2⟩ := n_back hP hD hF isC isR pm hC hR hn hdis hpn (hpm u) hk9 (by rw [e1]; exact hb.1) hb.2
    obtain ⟨t2, b1, b2⟩ := kk u T'.heap (locs ++ L) hp a1 a2 k3 T' rfl X'
    exact ⟨t2, st t2 b1, b2⟩
  · obtain ⟨k1, k2, k3⟩ := vx_keep h0 e1 hS (fun q _ h => hF q h) hF hL hFx
    have hk9 : ∀ q : Nat, q < H.size → ¬ va_A wc H.size q → T'.heap[q]? = H[q]? := k2
    obtain ⟨a1, a2⟩ := n_back hP hD hF isC isR pmx hC hR hn hdis hpn3 (hpm3 u) hk9 (by rw [e1]; exact hpx) hdx
    obtain ⟨t2, b1, b2⟩ := kx En ce q u T'.heap (locs ++ L) hcx a1 a2 k3 (by rw [e1]; exact hxf) (by rw [← h0]; exact hq) (by rw [e1]; exact hce) hcv hcl T' rfl X'
    exact ⟨t2, st.trans b1, b2⟩
/-- not caught here: the exception goes on to the caller -/
theorem n_out {Qc : Array Value → State → Outcome → State → Prop} {τ : Type} {Cx : String → τ → Prop} {wx : τ → va_W} {rx : τ → Option (Nat × List Value)} {En : String} {ce : Cell} {q : Addr} (u : τ) (hC : Cx En u) (hP : va_P E.1 CL (wx u) H) (hD : va_D A (wx u)) (hS : va_S A s.heap H locs) (hxf : XF E q (rx u) H) (hq : s.heap.size ≤ q) (hce : H[q]? = some ce) (hcv : ce.vm = .none) (hcl : s.vm.findClass En = some ce.cls) (hout : ∀ x ∈ c.exceptionTable.toList, covers x pc = false) (hlocks : meth.locks = false) (hc : cells ≤ mc) (hs : slots ≤ ms) :
    vx_W p l e R s m args below meth c H locs cells slots (vx_MQ below Qc (UXx E Cx wx rx A) args s mc ms A) (F0 m pc ls rest) q :=
  vx_out hout hlocks hce hcv hcl (fun t ht _ => ⟨u, hC, by rw [ht]; exact hP, hD, by rw [ht]; exact hxf, hq, hS.F ht⟩) hS.2.2 hc hs
/-- 'throw new E()' of a class of the JDK -/
theorem n_throw0 {Qc : Array Value → State → Outcome → State → Prop} {τ : Type} {Cx : String → τ → Prop} {wx : τ → va_W} {rx : τ → Option (Nat × List Value)} (u : τ) (hexec : p.tables.exec = Jvm.exec) (hb : c.code = cc) (hl : l.stackTraces = false) {own cls : String} (hC : Cx cls u) (hrx : rx u = none) {names : List String} {ik ic : Nat}
    (hP : va_P E.1 CL (wx u) H) (hD : va_D A (wx u)) (hE : HE E A s s.heap) (hA : ∀ q : Nat, s.heap.size ≤ q → A q)
    (hown : s.vm.findClass own = some m.cls) (hcls : Bundle.fit cls = true) (hnames : ∀ n ∈ names, Bundle.fit n = true)
    (hall : ∀ w ∈ xl own ik ic cls names, w.before args s = true ∧ vx_ot w = true)
    (hS : va_S A s.heap H locs) (hsize : ls.size = c.maxLocals)
    (d0 : decode cc pc = .ok (.new ik, 3)) (d3 : decode cc (pc + 3) = .ok (.dup, 1)) (d4 : decode cc (pc + 4) = .ok (.invokespecial ic, 3)) (d7 : decode cc (pc + 7) = .ok (.athrow, 1))
    (hout : ∀ x ∈ c.exceptionTable.toList, covers x (pc + 7) = false)
    (hRframes : names.length + 3 < R.frames) (hRlocals : (rest.map fun v => v.category).sum + (13 * (names.length + 1) + 42) ≤ R.locals) (hRcells : cells + 1 ≤ R.cells) (hRslots : slots + 6 ≤ R.slots) (hlocks : meth.locks = false) (hc : cells + 1 ≤ mc) (hs : slots + 6 ≤ ms) :
    W p l e R s m args below meth c H locs cells slots (vx_MQ below Qc (UXx E Cx wx rx A) args s mc ms A) (F0 m pc ls rest) :=
  vx_throw0 hexec hb hl hown hcls hnames (hall _ List.mem_cons_self).1 (hall _ (List.mem_cons_of_mem _ List.mem_cons_self)).1 (fun w h => (hall w (List.mem_cons_of_mem _ (List.mem_cons_of_mem _ h))).1) (fun w h => (hall w h).2) hE.us hE.ss hS hsize d0 d3 d4 d7 hout hRframes hRlocals hRcells hRslots hlocks
    (fun q9 t hq9 hvm hz hk9 => ⟨u, hC, hP.kept (fun k x hx => hk9 x.1 ((hP k x hx).lt)), hD, (fun y hy => by rw [hrx] at hy; cases hy), Nat.le_trans hS.1 hq9, Nat.le_trans hS.1 hz, fun q h1 h2 => (hk9 q (Nat.lt_of_lt_of_le h1 hS.1)).trans (hS.2.1 q h1 h2)⟩) hS.2.2 hc hs
end NROWS3
