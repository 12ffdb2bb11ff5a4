/-! ===== lambdas, 4: the sites; invokedynamic; a call of a made object ===== -/
theorem no_some {α : Type} {x : α} (h : none = some x) : False := by cases h
theorem lsh_site {cf : ClassFile} {index : Nat} {σ : Lambda.Shape} (h : Lambda.shapeOf? cf index = some σ) : ∃ b nt name desc sig, cf.constantPool[index]? = some (.invokeDynamic b nt) ∧ cf.constantPool.nameAndType? nt = some (name, desc) ∧ parseMethodDescriptor desc = some sig ∧ sig.parameters = σ.captured := by
  unfold Lambda.shapeOf? at h
  split at h
  · rename_i b nt h1
    obtain ⟨entries, -, h⟩ := Option.bind_eq_some_iff.mp h
    obtain ⟨bm, -, h⟩ := Option.bind_eq_some_iff.mp h
    split at h
    · obtain ⟨u1, -, h⟩ := Option.bind_eq_some_iff.mp h
      obtain ⟨L, hL⟩ : ∃ L : List Nat, bm.bootstrapArguments = L.toArray := ⟨bm.bootstrapArguments.toList, by simp⟩
      rw [hL] at h
      rcases L with _ | ⟨a0, _ | ⟨a1, _ | ⟨a2, _ | ⟨a3, L⟩⟩⟩⟩
      · exact (no_some h).elim
      · exact (no_some h).elim
      · exact (no_some h).elim
      · replace h : (match cf.constantPool[a0]? with
          | some (.methodType d0) => (match cf.constantPool[a1]? with
            | some (.methodHandle kind r1) => (match cf.constantPool[a2]? with
              | some (.methodType d2) => (cf.constantPool.nameAndType? nt).bind fun nd => (parseMethodDescriptor nd.2).bind fun site => (match site.returnType with
                | some (.object iface) => (Lambda.memberOf? cf.constantPool r1).bind fun im => ((cf.constantPool.string? d0).bind fun s0 => (parseMethodDescriptor s0).bind fun sam => (parseMethodDescriptor im.2.2.1).bind fun implDesc => (cf.constantPool.string? d2).bind fun s2 => (parseMethodDescriptor s2).bind fun inst => some ({ iface := iface, name := nd.1, sam := sam, captured := site.parameters, kind := kind, implClass := im.1, implName := im.2.1, implDesc := implDesc, implItf := im.2.2.2, inst := inst } : Lambda.Shape))
                | _ => none)
              | _ => none)
            | _ => none)
          | _ => none) = some σ := h
        split at h
        · split at h
          · split at h
            · simp only [Option.bind_eq_some_iff] at h
              obtain ⟨nd, hnd, site, hsite, h⟩ := h
              split at h
              · simp only [Option.bind_eq_some_iff, Option.some.injEq] at h
                obtain ⟨q1, -, q2, -, q3, -, q4, -, q5, -, q6, -, h⟩ := h
                subst h
                exact ⟨b, nt, nd.1, nd.2, site, h1, hnd, hsite, rfl⟩
              · exact (no_some h).elim
            · exact (no_some h).elim
          · exact (no_some h).elim
        · exact (no_some h).elim
      · exact (no_some h).elim
    · exact (no_some h).elim
  · exact (no_some h).elim
/-- a site that makes objects of the class cK -/
def LSite (x : MethodName) (pc index : Nat) (σ : Lambda.Shape) (cK : ClassId) (U : State) : Prop := ∃ (m : MethodId) (k : Class) (cf : ClassFile) (i0 p0 : Nat), U.methodNamed? x = some m ∧ U.vm.classes[m.cls]? = some k ∧ k.name = x.cls ∧ k.cf = some cf ∧ Lambda.shapeOf? cf index = some σ ∧ (k.callSites.find? fun y => y.1 == m.idx && y.2.1 == pc) = some (i0, p0, .makes cK) ∧ Lambda.isMade { classPath := fun _ => none } U.vm m.cls σ cK = true ∧ U.lambdaCallable σ cK = true
/-- a site with one object, at a -/
def LCon (x : MethodName) (pc index : Nat) (σ : Lambda.Shape) (cK : ClassId) (a : Addr) (U : State) : Prop := ∃ (m : MethodId) (k : Class) (cf : ClassFile) (i0 p0 : Nat), U.methodNamed? x = some m ∧ U.vm.classes[m.cls]? = some k ∧ k.name = x.cls ∧ k.cf = some cf ∧ Lambda.shapeOf? cf index = some σ ∧ (k.callSites.find? fun y => y.1 == m.idx && y.2.1 == pc) = some (i0, p0, .constant a) ∧ Lambda.isMade { classPath := fun _ => none } U.vm m.cls σ cK = true ∧ U.lambdaCallable σ cK = true
theorem lcall_warm {s U : State} (hW : s.WarmedH U.vm) {σ : Lambda.Shape} {c : ClassId} (h : s.lambdaCallable σ c = true) : U.lambdaCallable σ c = true := by
  have hA := hW.alike
  simp only [State.lambdaCallable, hA.findClass, hA.assignable, hA.superclasses, hA.declaredIn] at h ⊢
  exact h
theorem LSite.warm {x : MethodName} {pc index : Nat} {σ : Lambda.Shape} {cK : ClassId} {s U : State} (hW : s.WarmedH U.vm) (h : LSite x pc index σ cK s) : LSite x pc index σ cK U := by
  obtain ⟨m, k, cf, i0, p0, h1, h2, h3, h4, h5, h6, h7, h8⟩ := h
  obtain ⟨k', hk', he⟩ := hW.alike.2.2 _ _ h2
  have hm' : U.methodNamed? x = some m := by
    have := State.methodNamed?_setVm (s := s) hW.alike x
    rw [h1] at this
    exact this
  exact ⟨m, k', cf, i0, p0, hm', hk', by rw [he]; exact h3, by rw [he]; exact h4, h5, by rw [he]; exact h6, Lambda.isMade_warmer hW h7, lcall_warm hW h8⟩
theorem LCon.warm {x : MethodName} {pc index : Nat} {σ : Lambda.Shape} {cK : ClassId} {a : Addr} {s U : State} (hW : s.WarmedH U.vm) (h : LCon x pc index σ cK a s) : LCon x pc index σ cK a U := by
  obtain ⟨m, k, cf, i0, p0, h1, h2, h3, h4, h5, h6, h7, h8⟩ := h
  obtain ⟨k', hk', he⟩ := hW.alike.2.2 _ _ h2
  have hm' : U.methodNamed? x = some m := by
    have := State.methodNamed?_setVm (s := s) hW.alike x
    rw [h1] at this
    exact this
  exact ⟨m, k', cf, i0, p0, hm', hk', by rw [he]; exact h3, by rw [he]; exact h4, h5, by rw [he]; exact h6, Lambda.isMade_warmer hW h7, lcall_warm hW h8⟩
theorem LSite.of {x : MethodName} {pc index : Nat} {σ : Lambda.Shape} {s : State} {c : ClassId} {one : Option Addr} (hc : σ.captured ≠ []) (h : s.lambdaAt? x pc index σ = some (c, one)) : LSite x pc index σ c s := by
  obtain ⟨m, k, cf, i0, p0, lk, hm, hk, hcf, hsh, -, hfind, hmade, hcall, hl⟩ := State.lambdaAt?_spec h
  obtain ⟨k', hk', hn⟩ := className_of_methodNamed hm
  cases hk.symm.trans hk'
  rcases hl with ⟨a, cell, -, -, h0, -⟩ | ⟨rfl, -, -⟩
  · exact absurd h0 hc
  · exact ⟨m, k, cf, i0, p0, hm, hk, hn, hcf, hsh, hfind, hmade, hcall⟩
theorem LCon.of {x : MethodName} {pc index : Nat} {σ : Lambda.Shape} {s : State} {c : ClassId} {one : Option Addr} (hc : σ.captured = []) (h : s.lambdaAt? x pc index σ = some (c, one)) : ∃ a cell, one = some a ∧ LCon x pc index σ c a s ∧ s.heap[a]? = some cell ∧ cell.cls = c ∧ cell.vm = .none ∧ cell.slots = #[] := by
  obtain ⟨m, k, cf, i0, p0, lk, hm, hk, hcf, hsh, -, hfind, hmade, hcall, hl⟩ := State.lambdaAt?_spec h
  obtain ⟨k', hk', hn⟩ := className_of_methodNamed hm
  cases hk.symm.trans hk'
  rcases hl with ⟨a, cell, rfl, rfl, -, h1, h2, h3, h4⟩ | ⟨-, -, h0⟩
  · exact ⟨a, cell, rfl, ⟨m, k, cf, i0, p0, hm, hk, hn, hcf, hsh, hfind, hmade, hcall⟩, h1, h2, h3, h4⟩
  · exact absurd hc h0
section LAM4
variable {p : Program} {l : Launch} {e : Env} {R : Room} {s : State} {m : MethodId} {args : Array Value} {below : List Frame} {meth : Method} {c : Code} {H : Heap} {locs : List Loc} {cells slots : Nat} {Q : State → Prop}
variable {cc : ByteArray} {pc : Nat} {ls : Array Slot} {rest : List Value} {D : va_G} {cl : List vw_C} {ws : va_W} {A : Nat → Prop} {H0 : Heap}
variable {x : MethodName} {index : Nat} {σ : Lambda.Shape} {cK : ClassId}
/-- invokedynamic at a site that makes objects -/
theorem n_indyM (hexec : p.tables.exec = Jvm.exec) (hb : c.code = cc) (hsz : ls.size = c.maxLocals) (hm : s.methodNamed? x = some m) (hS : LSite x pc index σ cK s) {bytes : List UInt8} {maxL : Nat} {ret : FieldType} {tys : List FieldType} (hL : LMade s cK bytes maxL ret tys) {vals : List Value} {a0 : vp_A} (hce : vp_cell cK a0 = { cls := cK, slots := vals.toArray, vm := .none }) (hlen : vals.length = σ.captured.length) (hlt : vals.length = tys.length) (hnar : ((tys.zip vals).map fun (t, v) => narrow t v) = vals) (hfit : ∀ (i : Nat) (v : Value) (t : FieldType), vals[i]? = some v → tys[i]? = some t → fits t v = true)
    (hP : va_P D cl ws H) (hD : va_D A ws) (hSs : va_S A H0 H locs) (hA : ∀ q : Nat, H0.size ≤ q → A q) {st : List Value} (hst : st = vals.reverse ++ rest)
    (hwords : (st.map fun v => v.category).sum + 3072 ≤ R.locals) (hcells : cells + 1 ≤ R.cells) (hslots : slots + vals.length ≤ R.slots) (hdg : decode cc pc = .ok (.invokedynamic index, 5))
    (kk : ∀ (q : Nat) (H1 : Heap), va_P D cl (ws ++ [(q, .inl (cK, a0))]) H1 → va_D A (ws ++ [(q, .inl (cK, a0))]) → va_S A H0 H1 locs → W p l e R s m args below meth c H1 locs (cells + 1) (slots + vals.length) Q (F0 m (pc + 5) ls (.ref q :: rest))) : W p l e R s m args below meth c H locs cells slots Q (F0 m pc ls st) := by
  obtain ⟨m', k, cf, i0, p0, h1, h2, -, h4, h5, h6, -, -⟩ := hS
  cases hm.symm.trans h1
  obtain ⟨b, nt, name, desc, sig, e1, e2, e3, e4⟩ := lsh_site h5
  obtain ⟨kc, methk, ck, l1, l2, l3, -⟩ := hL
  intro T hT X
  have hz : ((kc.instanceTypes.toList.zip vals).map fun (t, v) => narrow t v) = vals := by rw [l3]; exact hnar
  have hdg' : decode c.code pc = .ok (.invokedynamic index, 5) := by rw [hb]; exact hdg
  obtain ⟨X1, st1⟩ := X.lambdaMakes hexec (g := F0 m pc ls st) rfl hsz hdg' (vals := vals) (rest := rest) h2 h6 h4 e1 e2 (parseLong_of_parse e3) (by rw [e4]; exact hlen) hst l1 (by rw [X.admits.platform]; show 2 * 0 + (st.map fun v => v.category).sum + 3072 ≤ R.locals; omega) hcells (by rw [hz]; exact hslots) (fun i v hv => by
    rw [hz] at hv
    have hv' : vals[i]? = some v := by simpa using hv
    have hi : i < tys.length := by rw [← hlt]; exact (List.getElem?_eq_some_iff.mp hv').1
    have ht : kc.instanceTypes[i]? = some tys[i] := by
      rw [← Array.getElem?_toList, l3]
      exact List.getElem?_eq_getElem hi
    have := hfit i v tys[i] hv' (List.getElem?_eq_getElem hi)
    simp [State.fitsSlot, State.slotType?, l1, l2, ht, this])
  rw [hz] at X1 st1
  have hnew : (T.pushCell { cls := cK, slots := vals.toArray, vm := .none }).heap[T.heap.size]? = some { cls := cK, slots := vals.toArray, vm := .none } := State.heap_pushCell_size _ _
  have hold : ∀ z : Nat, z < H.size → (T.pushCell { cls := cK, slots := vals.toArray, vm := .none }).heap[z]? = H[z]? := fun z hz => by
    rw [← hT] at hz ⊢
    exact State.heap_pushCell_of_lt _ _ hz
  have hsize : (T.pushCell { cls := cK, slots := vals.toArray, vm := .none }).heap.size = T.heap.size + 1 := by
    show (T.heap.push _).size = _
    simp
  rw [hT] at hnew hsize
  obtain ⟨t, a1, b1⟩ := kk H.size (T.pushCell { cls := cK, slots := vals.toArray, vm := .none }).heap ((hP.kept (fun k x hx => hold x.1 ((hP k x hx).lt))).app (fun k x hx => by
      have hz : k < 1 := (List.getElem?_eq_some_iff.mp hx).1
      rw [show k = 0 by omega] at hx
      cases hx
      show _ = some (vp_cell _ _)
      rw [hce]
      exact hnew)) (hD.push hP rfl (hA _ hSs.1)) ⟨Nat.le_trans hSs.1 (by rw [hsize]; omega), fun q h1 h2 => (hold q (Nat.lt_of_lt_of_le h1 hSs.1)).trans (hSs.2.1 q h1 h2), hSs.2.2⟩ _ rfl (by simpa using X1)
  refine ⟨t, st1 _ ?_, b1⟩
  rw [hT]
  exact a1
/-- invokedynamic at a site with one object -/
theorem n_indyC (hexec : p.tables.exec = Jvm.exec) (hb : c.code = cc) (hsz : ls.size = c.maxLocals) (hm : s.methodNamed? x = some m) {a : Addr} (hS : LCon x pc index σ cK a s) {st : List Value} (hwords : (st.map fun v => v.category).sum + 3072 ≤ R.locals) (hdg : decode cc pc = .ok (.invokedynamic index, 5))
    (kk : W p l e R s m args below meth c H locs cells slots Q (F0 m (pc + 5) ls (.ref a :: st))) : W p l e R s m args below meth c H locs cells slots Q (F0 m pc ls st) := by
  obtain ⟨m', k, cf, i0, p0, h1, h2, -, h4, h5, h6, -, -⟩ := hS
  cases hm.symm.trans h1
  intro T hT X
  obtain ⟨t, a1, b1⟩ := kk T hT X
  have hdg' : decode c.code pc = .ok (.invokedynamic index, 5) := by rw [hb]; exact hdg
  exact ⟨t, X.lambdaConstant hexec (g := F0 m pc ls st) rfl hsz hdg' h2 h6 (by rw [X.admits.platform]; show 2 * 0 + (st.map fun v => v.category).sum + 3072 ≤ R.locals; omega) a1, b1⟩
/-- invokeinterface on a made object: its forwarder runs -/
theorem n_lrunF (hexec : p.tables.exec = Jvm.exec) (hb : c.code = cc) {own : String} {xm : MethodName} {n count : Nat} (hown : s.vm.findClass own = some m.cls) (hlink : (Cond.methodLink own index xm).before args s = true) (hdecl : (Cond.declares xm).before args s = true) (hface : (Cond.interfaceMethod xm.cls xm.cls xm.name xm.desc).before args s = true) (hx : xm.cls ≠ "java/lang/invoke/MethodHandle" ∧ xm.cls ≠ "java/lang/invoke/VarHandle")
    {d : ClassId} (hσ : σ.iface = xm.cls ∧ σ.name = xm.name ∧ σ.sam.toString = xm.desc) (hmade : Lambda.isMade { classPath := fun _ => none } s.vm d σ cK = true) (hcan : s.lambdaCallable σ cK = true) {bytes : List UInt8} {maxL : Nat} {ret : FieldType} {tys : List FieldType} (hL : LMade s cK bytes maxL ret tys)
    {b : Addr} {ce : Cell} (hce : H[b]? = some ce) (hcls : ce.cls = cK) (hcv : ce.vm = .none) {As : List Value} {g : JFrame} (hg : g.method = m) (hlen : ∀ sig, parseMethodDescriptor xm.desc = some sig → As.length = sig.parameters.length) (hsize : g.locals.size = c.maxLocals) (hstack : g.stack = As.reverse ++ .ref b :: rest) (hdg : decode cc g.pc = .ok (.invokeinterface index count, 5))
    {R' : Room} (hframes : R'.frames + 1 ≤ R.frames) (hlocals : 2 * g.monitorRoom + (rest.map fun v => v.category).sum + (maxL + 11) + R'.locals ≤ R.locals) (hcells : cells + R'.cells ≤ R.cells) (hslots : slots + R'.slots ≤ R.slots)
    {Qc : Array Value → State → Outcome → State → Prop} {XC : String → Addr → State → State → Prop} {mc ms : Nat} {free : Addr → Prop}
    (body : ∀ (T : State) (g' : JFrame) (methk : Method) (ck : Code), T.heap = H → s.WarmedH T.vm → LMade T cK bytes maxL ret tys → ck.code = ⟨bytes.toArray⟩ → ck.maxLocals = maxL → ck.exceptionTable = #[] → methk.locks = false → methk.sig.returnType = some ret →
      W p l e R' (T.calling g' ⟨cK, 1⟩ (Value.ref b :: As).toArray) ⟨cK, 1⟩ (Value.ref b :: As).toArray (.java g' :: below) methk ck H [] 0 0 (vx_MQ (.java g' :: below) Qc XC (Value.ref b :: As).toArray (T.calling g' ⟨cK, 1⟩ (Value.ref b :: As).toArray) mc ms free) (entryFrame ⟨cK, 1⟩ (Value.ref b :: As).toArray maxL)) :
    vx_Run5 p l e R s m args below meth c H locs cells slots mc ms g rest (Qc (Value.ref b :: As).toArray) XC free := by
  obtain ⟨r0, r, hn, hrm, hstR, hsigR⟩ := Cond.declares_spec hdecl
  obtain ⟨cL, kL, r1, hcL, hkL, hiL, hfoundL, hn1⟩ := Cond.interfaceMethod_spec hface
  cases hn.symm.trans hn1
  have hr0cls : r0.cls = cL := Option.some.inj ((findClass_of_methodNamed hn).symm.trans hcL)
  obtain ⟨hnameR, hdescR⟩ := name_of_methodNamed hn hrm
  obtain ⟨dk, kK, ok, tk, file, cfK, object, iface', t, lay, methods, tgt, found, -, hkK, -, -, -, hi', -, -, -, -, -, -, hfound', -, -, -, -, -, -, -, -, -, -, hsel⟩ := Lambda.isMade_spec hmade
  rw [hσ.1] at hi'
  cases hcL.symm.trans hi'
  have hfr : found = r0 := by
    have h1 : s.methodFound? xm.cls xm.name xm.desc = some r0 := hfoundL
    simp only [State.methodFound?, hcL, hkL, hiL, Option.bind_eq_bind, Option.bind_some] at h1
    rw [hσ.2.1, hσ.2.2] at hfound'
    rw [hfound'] at h1
    exact Option.some.inj h1
  subst hfr
  obtain ⟨i2, hi2, hasg, hway⟩ := State.lambdaCallable_spec hcan
  rw [hσ.1] at hi2
  cases hcL.symm.trans hi2
  rw [hσ.2.1, hσ.2.2] at hway
  obtain ⟨k1, methk, ck, m1, m2, m3, m4, m5, m6, m7, m8, m9, m10, m11, m12⟩ := id hL
  subst hcls
  intro T hT X
  have hdg' : decode c.code g.pc = .ok (.invokeinterface index count, 5) := by rw [hb]; exact hdg
  have hselP : selectMethod e.platform s.vm ce.cls found = .method ⟨ce.cls, 1⟩ := by rw [Launch.admits_selectMethod X.admits]; exact hsel
  obtain ⟨vm₁, X₁, hstep₁⟩ := X.invokeinterface hexec hown hlink hn hrm hstR (by rw [hr0cls]; exact hkL) hiL hx (a := b) (cell := ce) (kcell := kK) (by rw [hT]; exact hce)
    (fun z h => by rw [hcv] at h; cases h) hkK (by rw [hr0cls]; exact hasg) hselP m4 (by rw [hnameR, hdescR]; exact hway) (by rw [m10]; decide) (by simp [Method.isAbstract, m10, hasFlag, Acc.abstract]) (g := g) hg (argsL := As) (rest := rest) (hlen _ hsigR) hstack hdg'
  have hW1 : s.WarmedH vm₁ := X₁.warmed
  have hal := X₁.warmed.alike
  obtain ⟨k1', hk1', he1⟩ := hal.2.2 _ _ m1
  have hm4 : (T.setVm vm₁).vm.method? ⟨ce.cls, 1⟩ = some methk := by
    have : k1'.methods = k1.methods := by rw [he1]
    simp only [Vm.method?, m1, hk1', this, Option.bind_eq_bind, Option.bind_some] at m4 ⊢
    exact m4
  have hpl : (T.setVm vm₁).plainMethod ⟨ce.cls, 1⟩ := fun k2 hk2 => by
    cases hk1'.symm.trans hk2
    exact plain_congr (by rw [he1]) (by rw [he1]) (m12 k1 m1)
  have hL1 : LMade (T.setVm vm₁) ce.cls bytes maxL ret tys := ⟨k1', methk, ck, hk1', by rw [he1]; exact m2, by rw [he1]; exact m3, hm4, m5, m6, m7, m8, m9, m10, m11, hpl⟩
  have hbody := body (T.setVm vm₁) { g with stack := rest } methk ck hT hW1 hL1 m6 m7 m8 m9 m11
  rw [← m7] at hbody
  rcases enterM X₁ (g := { g with stack := rest }) hg hsize hdg' (Value.ref b :: As).toArray hm4 m5 m9 hpl hframes (by rw [m7]; exact hlocals) hcells hslots (by rw [show (T.setVm vm₁).heap = H from hT]; exact hbody) with ⟨v, t9, T', L, X', hL9, e1, e2, hq, hst⟩ | ⟨q, t9, T', L, En, ce9, X', hL9, e1, e2, hq, hce9, hcv9, hcl9, hst⟩
  · exact Or.inl ⟨v, (T.setVm vm₁).calling { g with stack := rest } ⟨ce.cls, 1⟩ (Value.ref b :: As).toArray, t9, T', L, hT, X', hL9, e1, e2, hq, fun target h => hstep₁ _ fun acts => by rw [doInvoke_state]; exact hst.trans h⟩
  · exact Or.inr ⟨q, (T.setVm vm₁).calling { g with stack := rest } ⟨ce.cls, 1⟩ (Value.ref b :: As).toArray, t9, T', L, En, ce9, hT, X', hL9, e1, e2, hq, hce9, hcv9, by rw [← hal.findClass]; exact hcl9, hstep₁ _ fun acts => by rw [doInvoke_state]; exact hst⟩
end LAM4
