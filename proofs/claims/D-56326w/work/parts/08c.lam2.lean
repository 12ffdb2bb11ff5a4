/-! ===== lambdas, 2: what a made class holds ===== -/
/-- what the writer makes of a shape: the forwarder's bytes, the fields' types, the pool's entries of the fields and of the target -/
def LKok (σ : Lambda.Shape) (host : String) (bytes : List UInt8) (maxL : Nat) (ret : FieldType) (tys : List FieldType) (fl : List (Nat × Nat × Nat × String × String)) (mi ci u nt : Nat) : Bool :=
  match σ.file host with
  | none => false
  | some D => decide (((layoutMethods D).bind (·[1]?)).map (fun f => (f.code.map fun c => (c.code.data.toList, c.maxLocals), f.accessFlags, f.sig.returnType)) = some (some (bytes, maxL), 1, some ret)) &&
      (decide (((layoutFields D 0).map fun q => (q.1.toList.map (fun f => (f.isStatic, f.slot)), q.2.1.toList)) = some ((List.range tys.length).map (fun i => (false, i)), tys)) &&
      (decide (D.constantPool[mi]? = some (.methodref ci nt) ∧ D.constantPool[ci]? = some (.class_ u) ∧ D.constantPool.string? u = some σ.implClass ∧ ci ≠ D.thisClass ∧ D.constantPool.nameAndType? nt = some (σ.implName, σ.implDesc.toString)) &&
      fl.zipIdx.all (fun q => decide (D.constantPool[q.1.1]? = some (.fieldref q.1.2.1 q.1.2.2.1) ∧ D.constantPool.nameAndType? q.1.2.2.1 = some (q.1.2.2.2.1, q.1.2.2.2.2) ∧ ((layoutFields D 0).bind fun z => z.1.findIdx? (·.name == q.1.2.2.2.1)) = some q.2))))
/-- a made class: its forwarder -/
def LMade (U : State) (cK : ClassId) (bytes : List UInt8) (maxL : Nat) (ret : FieldType) (tys : List FieldType) : Prop := ∃ (k : Class) (methk : Method) (ck : Code), U.vm.classes[cK]? = some k ∧ k.kind = .ordinary ∧ k.instanceTypes.toList = tys ∧ U.vm.method? ⟨cK, 1⟩ = some methk ∧ methk.code = some ck ∧ ck.code = ⟨bytes.toArray⟩ ∧ ck.maxLocals = maxL ∧ ck.exceptionTable = #[] ∧ methk.locks = false ∧ methk.accessFlags = 1 ∧ methk.sig.returnType = some ret ∧ U.plainMethod ⟨cK, 1⟩
section LAM3
variable {σ : Lambda.Shape} {host : String} {bytes : List UInt8} {maxL : Nat} {ret : FieldType} {tys : List FieldType} {fl : List (Nat × Nat × Nat × String × String)} {mi ci u nt : Nat}
theorem LKok_spec (h : LKok σ host bytes maxL ret tys fl mi ci u nt = true) : ∃ D, σ.file host = some D ∧ ((layoutMethods D).bind (·[1]?)).map (fun f => (f.code.map fun c => (c.code.data.toList, c.maxLocals), f.accessFlags, f.sig.returnType)) = some (some (bytes, maxL), 1, some ret) ∧ ((layoutFields D 0).map fun q => (q.1.toList.map (fun f => (f.isStatic, f.slot)), q.2.1.toList)) = some ((List.range tys.length).map (fun i => (false, i)), tys) ∧ (D.constantPool[mi]? = some (.methodref ci nt) ∧ D.constantPool[ci]? = some (.class_ u) ∧ D.constantPool.string? u = some σ.implClass ∧ ci ≠ D.thisClass ∧ D.constantPool.nameAndType? nt = some (σ.implName, σ.implDesc.toString)) ∧ ∀ i q, fl[i]? = some q → D.constantPool[q.1]? = some (.fieldref q.2.1 q.2.2.1) ∧ D.constantPool.nameAndType? q.2.2.1 = some (q.2.2.2.1, q.2.2.2.2) ∧ ((layoutFields D 0).bind fun z => z.1.findIdx? (·.name == q.2.2.2.1)) = some i := by
  unfold LKok at h
  cases hf : σ.file host with
  | none => rw [hf] at h; cases h
  | some D =>
    rw [hf] at h
    simp only [Bool.and_eq_true, decide_eq_true_eq] at h
    refine ⟨D, rfl, h.1, h.2.1, h.2.2.1, fun i q hq => ?_⟩
    have := List.all_eq_true.mp h.2.2.2 (q, i) (by rw [List.mem_zipIdx_iff_getElem?]; simpa using hq)
    simpa using this
theorem LMade_of (hk : LKok σ host bytes maxL ret tys fl mi ci u nt = true) {s : State} {d cK : ClassId} {dk : Class} (hd : s.vm.classes[d]? = some dk) (hn : dk.name = host) (hpl : plainName (host ++ "$$Lambda") = true) (h : Lambda.isMade { classPath := fun _ => none } s.vm d σ cK = true) (hO : ∀ o ok, s.vm.findClass "java/lang/Object" = some o → s.vm.classes[o]? = some ok → ok.instanceTypes.size = 0) :
    LMade s cK bytes maxL ret tys ∧ (∀ i q, fl[i]? = some q → ∃ f, s.vm.fieldReady cK q.1 cK f ∧ f.isStatic = false ∧ f.slot = i) ∧
    ∃ (k tk : Class) (file : ClassFile) (D : ClassFile) (t : ClassId) (target : MethodId), s.vm.classes[cK]? = some k ∧ k.cf = some file ∧ file.constantPool = D.constantPool ∧ D.constantPool[mi]? = some (.methodref ci nt) ∧ D.constantPool.nameAndType? nt = some (σ.implName, σ.implDesc.toString) ∧ s.vm.findClass σ.implClass = some t ∧ s.vm.classes[t]? = some tk ∧ ((methodIn t σ.implName σ.implDesc.toString tk.isInterface none).ask { classPath := fun _ => none } s.vm).1 = .ok target ∧ tk.isInterface = σ.implItf ∧ (tk.isInterface = false → s.vm.methodReady cK mi target) ∧ s.vm.classReady cK ci t := by
  obtain ⟨D, hfile, hm1, hl1, ⟨eM, eC, eU, eT, eN⟩, hfl⟩ := LKok_spec hk
  obtain ⟨dk', k, ok, tk, file, cf, object, iface, t, lay, methods, target, found, hd', hk, hkf, hcf, hobj, -, hok, hlay, hms, ht, htk, hg, -, hrec, -, -, -, hitf, hpool, hmeth, hfields, hty, hres, -⟩ := Lambda.isMade_spec h
  cases hd.symm.trans hd'
  rw [hn, hfile] at hcf
  cases hcf
  rw [hO object ok hobj hok] at hlay
  rw [hlay] at hl1
  simp only [Option.map_some, Option.some.injEq, Prod.mk.injEq] at hl1
  rw [hms] at hm1
  simp only [Option.bind_some] at hm1
  obtain ⟨fw, hfw, hp⟩ := Option.map_eq_some_iff.mp hm1
  simp only [Prod.mk.injEq] at hp
  obtain ⟨b, hb, hsame⟩ := hmeth 1 fw hfw
  obtain ⟨-, -, hsig, hflg, x, y, hx, hy, -, hml, hcode, hex⟩ := Lambda.sameMethod_spec hsame
  rw [hx] at hp
  simp only [Option.map_some, Option.some.injEq, Prod.mk.injEq] at hp
  have ok0 : ok.instanceTypes = #[] := Array.eq_empty_of_size_eq_zero (hO object ok hobj hok)
  refine ⟨⟨k, b, y, hk, hrec.2.1, ?_, by simp [Vm.method?, hk, hb], hy, ?_, by rw [hml]; exact hp.1.2, hex, ?_, by rw [hflg]; exact hp.2.1, by rw [hsig]; exact hp.2.2, State.plainMethod.of_name fun q hq => ?_⟩, fun i q hq => ?_, k, tk, file, D, t, target, hk, hkf, hpool.2.1, eM, eN, ht, htk, hg, hitf, fun hi => ⟨k, hk, hres mi _ (Lambda.resolvedOf_method eM (by simp [ConstantPool.className?, eC, eU]) ht htk eN hg)⟩, ⟨k, hk, hres ci _ (Lambda.resolvedOf_class eC eT eU ht)⟩⟩
  · rw [hty.1, ok0]
    simpa using hl1.2
  · rw [hcode]
    apply ByteArray.ext
    rw [← hp.1.1]
  · simp [Method.locks, Method.isSynchronized, hflg, hp.2.1, hasFlag, Acc.synchronized]
  · cases hk.symm.trans hq
    rw [hrec.1, hn]
    exact hpl
  · obtain ⟨e1, e2, e3⟩ := hfl i q hq
    rw [hlay] at e3
    simp only [Option.bind_some] at e3
    have hi : i < lay.1.size := by
      obtain ⟨hlt, -⟩ := Array.findIdx?_eq_some_iff_getElem.mp e3
      exact hlt
    have hz := congrArg (fun z => z[i]?) hl1.1
    simp only [List.getElem?_map, Array.getElem?_toList, Array.getElem?_eq_getElem hi, Option.map_some] at hz
    have hz2 : (List.range tys.length)[i]? = some i := by
      cases hr : (List.range tys.length)[i]? with
      | none => rw [hr] at hz; cases hz
      | some w => rw [List.getElem?_eq_some_iff] at hr; obtain ⟨hw, hr⟩ := hr; rw [List.getElem_range] at hr; rw [hr]
    rw [hz2] at hz
    simp only [Option.map_some, Option.some.injEq, Prod.mk.injEq] at hz
    exact ⟨lay.1[i], ⟨k, i, k, hk, hres q.1 _ (Lambda.resolvedOf_field e1 e2 e3), hk, hfields i _ (Array.getElem?_eq_getElem hi)⟩, hz.1, hz.2⟩
theorem LStat_of {e : Env} {U : State} {cK : ClassId} {k tk : Class} {file D : ClassFile} {t : ClassId} {target : MethodId} {y : MethodName} {by_ : ByteArray} {mL n : Nat} {rt : Option FieldType} {sig : MethodDescriptor} (h1 : U.vm.classes[cK]? = some k) (h2 : k.cf = some file) (h3 : file.constantPool = D.constantPool) (h4 : D.constantPool[mi]? = some (.methodref ci nt)) (h5 : D.constantPool.nameAndType? nt = some (y.name, y.desc)) (h6 : U.vm.findClass y.cls = some t) (h7 : U.vm.classes[t]? = some tk) (h8 : ((methodIn t y.name y.desc tk.isInterface none).ask { classPath := fun _ => none } U.vm).1 = .ok target) (h9 : U.vm.methodReady cK mi target) (h10 : U.vm.classReady cK ci t)
    (hy : y.cls ≠ "java/lang/invoke/MethodHandle" ∧ y.cls ≠ "java/lang/invoke/VarHandle") (hcode : (Cond.code y by_ mL rt).before #[] U = true) (hst : (Cond.static y).before #[] U = true) (hini : (Cond.initialized y.cls).before #[] U = true) (hsig : parseMethodDescriptor y.desc = some sig) (hn : n = sig.parameters.length) : LStat e U cK mi y n := by
  cases hnB : U.methodNamed? y with
  | none => simp [Cond.before, Cond.holds, Cond.value, hnB] at hcode
  | some mB =>
  obtain ⟨methB, cB, hmB, -, -, -, -, -, -, hsigB⟩ := Cond.code_spec hnB hcode
  have hstaticB : methB.isStatic = true := Cond.static_spec hnB hmB hst
  have hfT : U.vm.findClass y.cls = some mB.cls := findClass_of_methodNamed hnB
  cases h6.symm.trans hfT
  have hinitK : tk.init = .initialized := Cond.initialized_spec hfT h7 hini
  obtain ⟨kT', hkT', hnameT⟩ := className_of_methodNamed hnB
  cases h7.symm.trans hkT'
  have htB : target = mB := by
    have h1 : U.methodFound? y.cls y.name y.desc = some mB := State.methodFound?_of_named hnB hy
    simp only [State.methodFound?, hfT, h7, Option.bind_eq_bind, Option.bind_some] at h1
    rw [h8] at h1
    exact Option.some.inj h1
  subst htB
  have hsp : ∀ z : Method, signaturePolymorphic tk z = false := fun z => by simp [signaturePolymorphic, hnameT, hy.1, hy.2]
  obtain ⟨b, hmem⟩ := memberRef_ask' (e := e) (vm := U.vm) (d := cK) (index := mi) h1 h2 (Or.inl (by rw [h3]; exact h4)) (by rw [h3]; exact h5)
  exact ⟨target, tk, methB, ⟨ci, _, _, b, target.cls, tk, hmem, h10, h7, by simp [hsp]⟩, h9, h7, hmB, hsp _, hstaticB, hinitK, by rw [hn, ← Option.some.inj (hsig.symm.trans hsigB)], hnB⟩
theorem LVirt_of {e : Env} {U : State} {cK : ClassId} {k tk : Class} {file D : ClassFile} {t : ClassId} {target : MethodId} {y : MethodName} {by_ : ByteArray} {mL n : Nat} {rt : Option FieldType} {sig : MethodDescriptor} (h1 : U.vm.classes[cK]? = some k) (h2 : k.cf = some file) (h3 : file.constantPool = D.constantPool) (h4 : D.constantPool[mi]? = some (.methodref ci nt)) (h6 : U.vm.findClass y.cls = some t) (h7 : U.vm.classes[t]? = some tk) (hitf : tk.isInterface = false) (h8 : ((methodIn t y.name y.desc tk.isInterface none).ask { classPath := fun _ => none } U.vm).1 = .ok target) (h9 : U.vm.methodReady cK mi target) (h10 : U.vm.classReady cK ci t)
    (hy : y.cls ≠ "java/lang/invoke/MethodHandle" ∧ y.cls ≠ "java/lang/invoke/VarHandle") (hcode : (Cond.code y by_ mL rt).before #[] U = true) (hst : (Cond.instanceMethod y).before #[] U = true) (hsel : ∀ r, U.methodNamed? y = some r → selectMethod e.platform U.vm t r = .method r) (hsig : parseMethodDescriptor y.desc = some sig) (hn : n = sig.parameters.length) : LVirt e U cK mi y n t := by
  obtain ⟨mB, methB, hnB, hmB, hstB, habB⟩ := Cond.instanceMethod_spec hst
  obtain ⟨methB', cB, hmB', -, -, -, -, -, -, hsigB⟩ := Cond.code_spec hnB hcode
  cases hmB.symm.trans hmB'
  have hfT : U.vm.findClass y.cls = some mB.cls := findClass_of_methodNamed hnB
  cases h6.symm.trans hfT
  obtain ⟨kT', hkT', hnameT⟩ := className_of_methodNamed hnB
  cases h7.symm.trans hkT'
  have htB : target = mB := by
    have h1 : U.methodFound? y.cls y.name y.desc = some mB := State.methodFound?_of_named hnB hy
    simp only [State.methodFound?, hfT, h7, Option.bind_eq_bind, Option.bind_some] at h1
    rw [h8] at h1
    exact Option.some.inj h1
  subst htB
  have hsp : ∀ z : Method, signaturePolymorphic tk z = false := fun z => by simp [signaturePolymorphic, hnameT, hy.1, hy.2]
  exact ⟨target, tk, methB, ⟨k, file, ci, nt, target.cls, tk, h1, h2, by rw [h3]; exact h4, h10, h7, hitf⟩, h9, h7, hmB, hsp _, hstB, habB, hitf, by rw [hn, ← Option.some.inj (hsig.symm.trans hsigB)], hnB, hsel _ hnB⟩
end LAM3
