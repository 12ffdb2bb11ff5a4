/-! ===== rows, 4: new objects, constructors ===== -/
section NCX
variable {p : Program} {l : Launch} {e : Env} {R : Room} {s : State} {m₀ : MethodId} {args : Array Value} {below : List Frame} {meth : Method} {c : Code} {W : State} {locs : List Loc} {cells slots : Nat}
/-- the words of a super() of a class of ours right under Exception -/
def sxL (own : String) (ic : Nat) (obj : String) (N : Nat) : List Cond :=
  Bundle.throwableAtoms ++ Bundle.chain0Atoms "java/lang/Exception" [] ++
  [.methodLink own ic (Bundle.init0 "java/lang/Exception"), .instantiable obj N, .selects obj Bundle.tFill0 Bundle.tFill0, .selects obj Bundle.tFill Bundle.tFill,
   .lays obj Bundle.tN "cause" "Ljava/lang/Throwable;", .lays obj Bundle.tN "stackTrace" Bundle.steD, .lays obj Bundle.tN "suppressedExceptions" Bundle.listD, .lays obj Bundle.tN "detailMessage" "Ljava/lang/String;",
   .isRef (.static Bundle.tN "UNASSIGNED_STACK" Bundle.steD), .isRef (.static Bundle.tN "SUPPRESSED_SENTINEL" Bundle.listD),
   .fieldLink Bundle.tN 198 Bundle.tN "backtrace" "Ljava/lang/Object;", .lays Bundle.tN Bundle.tN "backtrace" "Ljava/lang/Object;", .lays obj Bundle.tN "backtrace" "Ljava/lang/Object;"]
set_option maxHeartbeats 1000000 in
theorem n_ctorX (X : Stand p l e R s m₀ args below meth c W locs cells slots) (hexec : p.tables.exec = Jvm.exec) (htr : e.platform.stackTraces = false) {own obj : String} {N ic : Nat}
    (hown : s.vm.findClass own = some m₀.cls)
    (h : ∀ a ∈ sxL own ic obj N, a.before args s = true)
    (hlocs : ∀ x ∈ locs, ∀ cell, s.heap[x.base]? = some cell → cell.vm.isStatics = false)
    {a : Addr} {cX : ClassId} {kX : Class} (hfoundX : s.vm.findClass obj = some cX) (hkX : s.vm.classes[cX]? = some kX) (hcell : W.heap[a]? = some (freshCell cX kX))
    {g : JFrame} (hg : g.method = m₀) (hsize : g.locals.size = c.maxLocals) {rest : List Value} (hstack : g.stack = .ref a :: rest)
    (hd6 : decode c.code g.pc = .ok (.invokespecial ic, 3))
    (hRframes : 3 < R.frames) (hRlocals : 2 * g.monitorRoom + (rest.map fun v => v.category).sum + 54 ≤ R.locals) :
    ∃ (V : State) (ce : Cell) (L : List Loc), Stand p l e R s m₀ args below meth c (V.setCell a ce) (locs ++ L) cells slots ∧ (∀ y ∈ L, y.base = a) ∧ a < V.heap.size ∧ ce.cls = cX ∧ ce.vm = .none ∧ ce.slots.size = (freshCell cX kX).slots.size ∧
      ∀ target, Steps p.tables e below ((V.setCell a ce).setTop { g with stack := rest, pc := g.pc + 3 }) target → Steps p.tables e below (W.setTop g) target := by
  have howns : e.platform.frameOwnsMonitors = true := by rw [X.admits.platform]
  have hfin : e.platform.finalization = false := by rw [X.admits.platform]
  have hpl : e.platform.magicAccessors = ({} : Platform).magicAccessors := by rw [X.admits.platform]
  have a' : ∀ x, x ∈ sxL own ic obj N → x.holds args s none s [] = true := fun x hx => h x hx
  obtain ⟨T, Z, L, LZ, Y⟩ := ThrowableC.of_atoms (args := args) howns hfin hpl (fun x hx => h x (by simp [sxL, hx]))
  obtain ⟨P1, Ps, hlen, L1, hL, hP1m, hlink1, hlink⟩ := Bundle.chain0 (args := args) hpl Y.init0 [] "java/lang/Exception" (by decide +kernel) (fun n hn => absurd hn List.not_mem_nil) (fun x hx => h x (by simp [sxL, hx]))
  have hfound := hfoundX
  obtain ⟨c1, kX', hc1, hk, hord, -, -, hn6⟩ := Cond.instantiable_spec (a' (.instantiable obj N) (by simp [sxL]))
  cases Option.some.inj (hc1.symm.trans hfound)
  cases Option.some.inj (hkX.symm.trans hk)
  have hsel0 : selectMethod e.platform s.vm cX T.fill0 = .method T.fill0 := by
    obtain ⟨c2, r2, m2, q1, q2, q3, q4, -⟩ := Cond.selects_spec (a' (.selects obj Bundle.tFill0 Bundle.tFill0) (by simp [sxL]))
    cases Option.some.inj (q1.symm.trans hfound)
    cases Option.some.inj (q2.symm.trans (State.methodFound?_of_named Y.fill0 (by decide)))
    cases Option.some.inj (q3.symm.trans Y.fill0)
    rw [Launch.admits_selectMethod X.admits]; exact q4
  have hselF : selectMethod e.platform s.vm cX T.fill = .method T.fill := by
    obtain ⟨c2, r2, m2, q1, q2, q3, q4, -⟩ := Cond.selects_spec (a' (.selects obj Bundle.tFill Bundle.tFill) (by simp [sxL]))
    cases Option.some.inj (q1.symm.trans hfound)
    cases Option.some.inj (q2.symm.trans (State.methodFound?_of_named Y.fill (by decide)))
    cases Option.some.inj (q3.symm.trans Y.fill)
    rw [Launch.admits_selectMethod X.admits]; exact q4
  obtain ⟨cellS0, hcS0, hiss⟩ := Y.statics
  obtain ⟨u0, hu0⟩ := Cond.staticRefV Y.unassigned L.unassignedStatic L.statics hcS0 hiss (a' (.isRef (.static Bundle.tN "UNASSIGNED_STACK" Bundle.steD)) (by simp [sxL]))
  obtain ⟨sen, hsen⟩ := Cond.staticRefV Y.sentinel L.sentinelStatic L.statics hcS0 hiss (a' (.isRef (.static Bundle.tN "SUPPRESSED_SENTINEL" Bundle.listD)) (by simp [sxL]))
  obtain ⟨ci198, i198, fB, hk198, hg198, ha198, hsB, -, hnB, htB, hffB⟩ := Cond.ownField (t := .object "java/lang/Object") Y.found L.cls (by decide +kernel) (a' (.fieldLink Bundle.tN 198 Bundle.tN "backtrace" "Ljava/lang/Object;") (by simp [sxL])) (a' (.lays Bundle.tN Bundle.tN "backtrace" "Ljava/lang/Object;") (by simp [sxL])) e.platform hpl
  obtain ⟨cellS, hcS', heS, -, hkeep⟩ := X.same.2.2.2.2.2 T.aS cellS0 hcS0
  have hcellS : W.heap[T.aS]? = some cellS := hcS'
  have hout' : ∀ i, (⟨T.aS, i⟩ : Loc) ∉ locs := fun i hmem => by
    have := hlocs _ hmem cellS0 hcS0
    rw [hiss] at this; cases this
  have hknownS : cellS.vm ≠ .unknown := by
    rw [heS]; intro hu
    rw [show cellS0.vm = .unknown from hu] at hiss
    cases hiss
  have hneS : T.aS ≠ a := fun h9 => by
    rw [h9] at hcellS
    have h8 := Option.some.inj (hcellS.symm.trans hcell)
    have h7 := congrArg Cell.vm heS
    rw [h8] at h7
    rw [show cellS0.vm = (freshCell cX kX).vm from h7.symm] at hiss
    cases hiss
  obtain ⟨iM, hffM⟩ := Y.msg
  obtain ⟨tyC, dC, hdC, hdnC⟩ := Cond.laysAt hfound hk Y.cause (a' (.lays obj Bundle.tN "cause" "Ljava/lang/Throwable;") (by simp [sxL]))
  obtain ⟨tyS, dS, hdS, hdnS⟩ := Cond.laysAt hfound hk Y.stack (a' (.lays obj Bundle.tN "stackTrace" Bundle.steD) (by simp [sxL]))
  obtain ⟨tyP, dP, hdP, hdnP⟩ := Cond.laysAt hfound hk Y.supp (a' (.lays obj Bundle.tN "suppressedExceptions" Bundle.listD) (by simp [sxL]))
  obtain ⟨tyM, dM, hdM, hdnM⟩ := Cond.laysAt hfound hk hffM (a' (.lays obj Bundle.tN "detailMessage" "Ljava/lang/String;") (by simp [sxL]))
  obtain ⟨tyB, dB, hdB, hdnB⟩ := Cond.laysAt hfound hk hffB (a' (.lays obj Bundle.tN "backtrace" "Ljava/lang/Object;") (by simp [sxL]))
  have bC := Cond.laysApart hdB hdC hdnB hdnC (by rw [hnB, Y.causeName]; decide)
  have bS := Cond.laysApart hdB hdS hdnB hdnS (by rw [hnB, Y.stackName]; decide)
  have bP := Cond.laysApart hdB hdP hdnB hdnP (by rw [hnB, Y.suppName]; decide)
  have hskip : SkipFacts T e.platform s (fun u => u) u0 ((preparedCellV T.toThrowableT (freshCell cX kX) a u0 sen).withEntry W.cur) :=
    ⟨{ ci198 := ci198, i198 := i198, fBack := fB }, ⟨hk198, hg198, ha198, hsB⟩, by
      have := fresh_default (c := cX) tyB
      rw [htB] at this
      simpa [preparedCellV, Cell.setSlot, Cell.withEntry, Array.getElem?_setIfInBounds, bC, bS, bP, bC.symm, bS.symm, bP.symm, defaultValue] using this, fun _ _ => rfl⟩
  obtain ⟨tm, methC, cdC, kC, vm₁, hnC, -, -, -, -, -, -, -, hW₁, st1⟩ := Steps.initCold (tb := p.tables) (e := e) (below := below) (s := s) (U := W) X.here hexec X.warmed hpl hown (t := Bundle.init0 "java/lang/Exception") rfl rfl (by decide)
    (a' (.methodLink own ic (Bundle.init0 "java/lang/Exception")) (by simp [sxL])) (h (.instanceMethod (Bundle.init0 "java/lang/Exception")) (by simp [sxL, Bundle.chain0Atoms, Bundle.passAtoms])) (bytes := Bundle.five) (maxL := 1) (h (.code (Bundle.init0 "java/lang/Exception") Bundle.five 1 none) (by simp [sxL, Bundle.chain0Atoms, Bundle.passAtoms]))
    (f := g) hg (a := a) (rest := rest) hstack hd6
  cases Option.some.inj (hnC.symm.trans hP1m)
  have X₁ := X.noted hW₁
  obtain ⟨vm₂, X₂, st2⟩ := X₁.ctorPlainOffV hexec (g := { g with stack := rest }) hg hsize T L Z LZ (P1 :: Ps)
    (fun P hP => by rcases List.mem_cons.mp hP with rfl | hP; exact L1; exact hL P hP) ⟨hlink1, hlink⟩ (u0 := u0) (sen := sen) (self := a) (cell := freshCell cX kX) (cellS := cellS)
    hcell (fun _ => by simp) (by simp) rfl rfl hsel0 hselF hcellS hneS hknownS (by rw [hkeep _ (hout' _)]; exact hu0) (by rw [hkeep _ (hout' _)]; exact hsen)
    (Takes.of_laid hk hord tyC (by rw [Y.causeType]; rfl)) (Takes.of_laid hk hord tyS (by rw [Y.stackType]; exact fits_refV_array _ u0)) (Takes.of_laid hk hord tyP (by rw [Y.suppType]; exact fits_refV_object _ sen)) Y.objLocals hskip htr [] hd6
    (by simp only [List.length_cons, hlen]; omega) (by simp only [List.length_cons, hlen]; exact hRlocals)
  have hlt : a < ((W.setVm vm₁).setVm vm₂).heap.size := (Array.getElem?_eq_some_iff.mp hcell).1
  refine ⟨(W.setVm vm₁).setVm vm₂, _, _, X₂, fun y hy => ?_, hlt, rfl, rfl, by simp [preparedCellV, Cell.setSlot], fun target hwalk => st1 _ (fun acts => ?_)⟩
  · simp only [List.mem_cons, List.not_mem_nil, or_false] at hy
    rcases hy with rfl | rfl | rfl | rfl <;> rfl
  · rw [doInvoke_state]
    exact st2 _ hwalk
end NCX
/-- the object at q is as 'new' made it -/
def FRS (E : EE) (ci : Nat) (s : State) (q : Nat) (H : Heap) : Prop := ∃ kC, s.vm.classes[E.1.1 ci]? = some kC ∧ H[q]? = some (freshCell (E.1.1 ci) kC)
theorem FRS.kept {E : EE} {ci : Nat} {s : State} {q : Nat} {H H1 : Heap} (h : FRS E ci s q H) (e : H1[q]? = H[q]?) : FRS E ci s q H1 := by
  obtain ⟨k, a, b⟩ := h
  exact ⟨k, a, by rw [e]; exact b⟩
theorem FRS.moved {E : EE} {ci : Nat} {s U : State} {q : Nat} {H : Heap} (hvm : s.vm.Alike U.vm) (h : FRS E ci s q H) : FRS E ci U q H := by
  obtain ⟨k, a, b⟩ := h
  obtain ⟨k', hk', he⟩ := hvm.2.2 _ _ a
  refine ⟨k', hk', ?_⟩
  rw [b, he]
theorem FRS.lt {E : EE} {ci : Nat} {s : State} {q : Nat} {H : Heap} (h : FRS E ci s q H) : q < H.size := by
  obtain ⟨k, a, b⟩ := h
  exact (Array.getElem?_eq_some_iff.mp b).1
section NROWS4
variable {p : Program} {l : Launch} {e : Env} {R : Room} {s : State} {m : MethodId} {args : Array Value} {below : List Frame} {meth : Method} {c : Code} {H : Heap} {locs : List Loc} {cells slots : Nat} {Q : State → Prop}
variable {pc : Nat} {ls : Array Slot} {rest st0 : List Value} {ws wc : va_W} {A : Nat → Prop} {H0 : Heap} {E : EE} {cc : ByteArray}
theorem n_back9L {T S : State} {R' : Room} {k n : Nat} {L : List Loc} (X : Stand p l e R s m args below meth c T locs cells slots) (Y : Stand p l e R' ((T.setVm s.vm).setFrames (.invoking m args :: below)) m args below meth c T [] 0 0) (Z : Stand p l e R' ((T.setVm s.vm).setFrames (.invoking m args :: below)) m args below meth c S L k n) :
    Stand p l e R s m args below meth c S (locs ++ L) (cells + k) (slots + n) := by
  have hW0 : s.WarmedH ((T.setVm s.vm).setFrames (.invoking m args :: below)).vm := State.WarmedH.refl s
  refine { admits := X.admits, cas := X.cas, clock := X.clock, frames := X.frames, room := X.room, hears := X.hears, method := X.method, code := X.code, here := Z.here, tail := Z.tail, warmed := State.WarmedH.trans hW0 Z.warmed, limits := Z.limits.trans (Y.limits.symm.trans X.limits), bytes := Z.bytes.trans (Y.bytes.symm.trans X.bytes), same := ?_ }
  obtain ⟨e1, e2⟩ := Z.same
  rw [State.setFrames_setFrames] at e1
  have h2 : (T.setVm s.vm).sameButNew (S.setVm s.vm) L k n := ⟨e1, e2⟩
  exact X.same.trans h2
/-- super() of a class of ours right under Exception: the object's fields are some values -/
theorem n_superX (hexec : p.tables.exec = Jvm.exec) (hb : c.code = cc) (hl : l.stackTraces = false) {own obj : String} {T0 : u_T} {ci ic N q : Nat} {fs : List Value} (hown : s.vm.findClass own = some m.cls)
    (hat : ∀ w ∈ (sxL own ic obj N).filter vx_no, w.before args s = true ∧ vx_ot w = true) (hcl : CL[ci]? = some (obj, T0, N)) (hK : KE E s) (hE : HE E A s s.heap)
    (hP : va_P E.1 CL [(q, .inr (ci, fs))] H) (hD : va_D A [(q, .inr (ci, fs))]) (hS : va_S A s.heap H locs) (hF : FRS E ci s q H) (hsize : ls.size = c.maxLocals)
    (hdg : decode cc pc = .ok (.invokespecial ic, 3)) (hRf : 3 < R.frames) (hRl : (rest.map fun v => v.category).sum + 54 ≤ R.locals) (hcr : cells ≤ R.cells ∧ slots ≤ R.slots)
    (kk : ∀ (gs : List Value) (H1 : Heap) (locs1 : List Loc), gs.length = N → va_P E.1 CL [(q, .inr (ci, gs))] H1 → va_D A [(q, .inr (ci, gs))] → va_S A s.heap H1 locs1 → W p l e R s m args below meth c H1 locs1 cells slots Q (F0 m (pc + 3) ls rest)) :
    W p l e R s m args below meth c H locs cells slots Q (F0 m pc ls (.ref q :: rest)) := by
  intro T hT X
  subst hT
  have htr : e.platform.stackTraces = false := (show e.platform.stackTraces = l.stackTraces by rw [X.admits.platform]).trans hl
  have Y := vx_rebase X (R' := { frames := R.frames, locals := R.locals, cells := 0, slots := 0 }) (Nat.le_refl _) (Nat.le_refl _) hcr.1 hcr.2
  obtain ⟨s', hA'⟩ : ∃ z, z = (T.setVm s.vm).setFrames (.invoking m args :: below) := ⟨_, rfl⟩
  rw [← hA'] at Y
  have hvm : s'.vm = s.vm := by rw [hA']; rfl
  have hhp : s'.heap = T.heap := by rw [hA']; rfl
  have hW0 : s.WarmedH s'.vm := by rw [hvm]; exact State.WarmedH.refl s
  have hU' : vx_Zq Bundle.tN "UNASSIGNED_STACK" Bundle.steD A s' s'.heap := by rw [hhp]; exact vx_Zq.moved hW0.alike (hE.us.kept hS.2.1)
  have hN' : vx_Zq Bundle.tN "SUPPRESSED_SENTINEL" Bundle.listD A s' s'.heap := by rw [hhp]; exact vx_Zq.moved hW0.alike (hE.ss.kept hS.2.1)
  have h : ∀ w ∈ sxL own ic obj N, w.before args s' = true := vx_own (fun w hw => vx_ot_at hW0 hvm.symm (hat w hw).2 (hat w hw).1) (vx_isRefq hU'.1) (vx_isRefq hN'.1) hU'.2.word hN'.2.word
  have hKn := hK.1.1 ci _ hcl
  obtain ⟨kC, hkC, hq⟩ := hF
  obtain ⟨V, ce, L, Z, hL, hlt, hcl9, hvm9, hsz9, st⟩ := n_ctorX Y hexec htr (own := own) (obj := obj) (N := N) (ic := ic) (by rw [hvm]; exact hown) h (fun x hx => nomatch hx) (by rw [hvm]; exact hKn.2.1) (by rw [hvm]; exact hkC) hq
    (g := F0 m pc ls (.ref q :: rest)) rfl hsize (rest := rest) rfl (by rw [hb]; exact hdg) hRf (by show 2 * 0 + _ + 54 ≤ R.locals; omega)
  obtain ⟨f1, f2⟩ := vx_frame Z.same
  rw [hhp] at f1 f2
  have hh : (V.setCell q ce).heap[q]? = some ce := heapAt_setCell_self (s := V) ce hlt
  subst hA'
  have X5 := n_back9L X Y Z
  have hkq : ∀ x : Nat, x < T.heap.size → x ≠ q → (V.setCell q ce).heap[x]? = T.heap[x]? := fun x h1 h2 => f2 x h1 (fun z hz h9 => h2 (by rw [← h9]; exact hL z hz))
  have hAq : A q := hD.2 0 _ rfl
  obtain ⟨r, hr, cell, c1, c2, c3, c4⟩ := hP 0 _ rfl
  have hrr : r = (obj, T0, N) := Option.some.inj (hr.symm.trans hcl)
  have hcc : cell = freshCell (E.1.1 ci) kC := Option.some.inj (c1.symm.trans hq)
  have hVal : ∀ k, k < N → ∃ v, ce.slots[E.1.2 ci k]? = some v := fun k hk => by
    have h1 := c4 k (by rw [hrr]; exact hk)
    have h2 := (Array.getElem?_eq_some_iff.mp h1).1
    rw [hcc, ← hsz9] at h2
    exact ⟨_, Array.getElem?_eq_getElem h2⟩
  let gs : List Value := (List.range N).map (fun k => (ce.slots[E.1.2 ci k]?).getD .null)
  have hgs : gs.length = N := by simp [gs]
  have hat2 : va_P E.1 CL [(q, .inr (ci, gs))] (V.setCell q ce).heap := by
    intro k x hx
    have hz : k < 1 := (List.getElem?_eq_some_iff.mp hx).1
    rw [show k = 0 by omega] at hx
    cases hx
    refine ⟨_, hcl, ce, hh, hcl9, hvm9, fun k hk => ?_⟩
    obtain ⟨v, hv⟩ := hVal k hk
    have e1 : vp_V gs k = v := by
      show gs.getD k .null = v
      simp [gs, List.getD, hk, hv]
    rw [hv, e1]
  have hD2 : va_D A [(q, .inr (ci, gs))] := by
    refine ⟨fun i j x y hx hy _ => ?_, fun k x hx => ?_⟩
    · have h1 : i < 1 := (List.getElem?_eq_some_iff.mp hx).1
      have h2 : j < 1 := (List.getElem?_eq_some_iff.mp hy).1
      omega
    · have h1 : k < 1 := (List.getElem?_eq_some_iff.mp hx).1
      rw [show k = 0 by omega] at hx
      cases hx
      exact hAq
  obtain ⟨t, a1, b1⟩ := kk gs (V.setCell q ce).heap (locs ++ L) hgs hat2 hD2 ⟨Nat.le_trans hS.1 f1, fun x h1 h2 => (hkq x (Nat.lt_of_lt_of_le h1 hS.1) (fun h9 => h2 (by rw [h9]; exact hAq))).trans (hS.2.1 x h1 h2), fun z hz => (List.mem_append.mp hz).elim (fun h => hS.2.2 z h) (fun h => by rw [hL z h]; exact hAq)⟩ _ rfl X5
  exact ⟨t, st _ a1, b1⟩
/-- 'new' of a class of CL, with the note that the object is fresh -/
theorem n_newK {c0 : Code} (hexec : p.tables.exec = Jvm.exec) (hb : c0.code = cc) {own C : String} {T : u_T} {N ci index : Nat} {Ts : List Cond} (hts : ∀ w ∈ Ts, w.before args s = true) (hin : ∀ w ∈ u_ws C T N, w ∈ Ts) (ty : Nat → FieldType) (hty : ∀ k, k < N → parseFieldDescriptor (T k).2.2.1 = some (ty k)) (hown : s.vm.findClass own = some m.cls) (hcl : (Cond.classLink own index C).before args s = true) (hinst : (Cond.instantiable C N).before args s = true) (hini : (Cond.initialized C).before args s = true)
    (hK : KE E s) (hP : va_P E.1 CL ws H) (hD : va_D A ws) (hS : va_S A H0 H locs) (hA : ∀ q, H0.size ≤ q → A q) (hc : CL[ci]? = some (C, T, N)) {fs : List Value} (hfs : ∀ j, j < N → defaultValue (ty j) = vp_V fs j) (hcells : cells + 1 ≤ R.cells) (hslots : slots + N ≤ R.slots) (hdg : decode cc pc = .ok (.new index, 3))
    (kk : ∀ (q : Nat) (H1 : Heap), FRS E ci s q H1 → (∀ x : Nat, x < H.size → H1[x]? = H[x]?) → H.size ≤ q → va_P E.1 CL (ws ++ [(q, .inr (ci, fs))]) H1 → va_D A (ws ++ [(q, .inr (ci, fs))]) → va_S A H0 H1 locs →
      W p l e R s m args below meth c0 H1 locs (cells + 1) (slots + N) Q (F0 m (pc + 3) ls (.ref q :: rest))) : W p l e R s m args below meth c0 H locs cells slots Q (F0 m pc ls rest) := by
  have hKn := hK.1.1 ci _ hc
  refine W.newcK hexec hb hown hcl hinst hini rfl hdg hcells hslots hKn.2.1 rfl fun H1 kC hkC e1 z1 o1 => ?_
  have hk : ∀ (k : Nat) (x : Nat × va_E), ws[k]? = some x → H1[x.1]? = H[x.1]? := fun k x hx => o1 x.1 ((hP k x hx).lt)
  refine kk H.size H1 ⟨kC, hkC, e1⟩ o1 (Nat.le_refl _) ((hP.kept hk).app (fun k x hx => ?_)) (hD.push hP rfl (hA _ hS.1)) ⟨Nat.le_trans hS.1 (by omega), fun x h1 h2 => (o1 x (Nat.lt_of_lt_of_le h1 hS.1)).trans (hS.2.1 x h1 h2), hS.2.2⟩
  have hz : k < 1 := (List.getElem?_eq_some_iff.mp hx).1
  rw [show k = 0 by omega] at hx
  cases hx
  exact ⟨_, hc, (u_born ty hts hin hKn hkC e1 hty).to hfs⟩
/-- what a call of a constructor asks -/
theorem n_cwI {own : String} {index maxL mc ms : Nat} {y : MethodName} {bytes : ByteArray} {rm : Room} (n : Nat) (ht : ∀ w ∈ lw_all, w.before args s = true) (h1 : Cond.methodLink own index y ∈ lw_all) (h2 : Cond.instanceMethod y ∈ lw_all) (h3 : Cond.initialized y.cls ∈ lw_all) (h4 : Cond.code y bytes maxL none ∈ lw_all) (hrc : rm.cells = mc) (hrs : rm.slots = ms) (hy : y.name = "<init>")
    (hd : y.cls ≠ "java/lang/invoke/MethodHandle" ∧ y.cls ≠ "java/lang/invoke/VarHandle" ∧ (parseMethodDescriptor y.desc).map (fun d => d.parameters.length) = some n) (hR : rm.frames + 1 ≤ R.frames ∧ 8 + (maxL + 11) + rm.locals ≤ R.locals) :
    CallB R s args own index y bytes maxL none (ws_ y bytes maxL none) rm mc ms n ∧ y.name = "<init>" ∧ (Cond.instanceMethod y).before args s = true :=
  ⟨callB_of n ht (lw_meth h4) rfl hrc hrs (ht _ h3) (ht _ h1) hd hR, hy, ht _ h2⟩
/-- the entry of a constructor on a fresh object -/
def UF (E : EE) (ci : Nat) (q : Nat) (ws : va_W) (sz : Nat) (U : State) : Prop := U.heap.size = sz ∧ va_P E.1 CL ws U.heap ∧ KE E U ∧ va_D (fun _ => True) ws ∧ HE E (va_A ws sz) U U.heap ∧ FRS E ci U q U.heap
theorem UF_S {ci q : Nat} {As : List Value} {A1 : Nat → Prop} (hP : va_P E.1 CL ws H) (hK : KE E s) (hD : va_D A1 ws) (hE : HE E A s s.heap) (hS : va_S A s.heap H locs) (hF : ∀ q, va_A ws H.size q → A q) (hfr : FRS E ci s q H) : PreS s H (va_Pc As (UF E ci q ws H.size)) As := by
  obtain ⟨hbl, hp⟩ := UX_S (As := As) hP hK hD hE hS hF
  refine ⟨fun a U g mk h => ?_, fun U hU hW => ?_⟩
  · obtain ⟨h0, h1, h2, h3, h4, h5, h6⟩ := h
    have := UX_blind (E := E) (ws := ws) (sz := H.size) (av := As) a U g mk ⟨h0, h1, h2, h3, h4, h5⟩
    exact ⟨this.1, this.2.1, this.2.2.1, this.2.2.2.1, this.2.2.2.2.1, this.2.2.2.2.2, h6⟩
  · have := hp U hU hW
    exact ⟨this.1, this.2.1, this.2.2.1, this.2.2.2.1, this.2.2.2.2.1, this.2.2.2.2.2, (by rw [hU]; exact hfr.moved hW.alike)⟩
end NROWS4
