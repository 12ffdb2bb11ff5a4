/-! ===== lambdas, 1: the body of a made method, entered from its caller's frame ===== -/
section LAM1
variable {p : Program} {l : Launch} {e : Env} {R : Room} {s : State} {m : MethodId} {args : Array Value} {below : List Frame} {meth : Method} {c : Code} {T : State} {locs : List Loc} {cells slots : Nat}
theorem enterM (X : Stand p l e R s m args below meth c T locs cells slots) {g : JFrame} (hg : g.method = m) (hsize : g.locals.size = c.maxLocals) {ig : Instr} {len : Nat} (hdg : decode c.code g.pc = .ok (ig, len)) {mk : MethodId} {methk : Method} {ck : Code} (a : Array Value) {R' : Room} (hmk : T.vm.method? mk = some methk) (hck : methk.code = some ck) (hlk : methk.locks = false) (hpk : T.plainMethod mk)
    (hframes : R'.frames + 1 ≤ R.frames) (hlocals : 2 * g.monitorRoom + (g.stack.map fun v => v.category).sum + (ck.maxLocals + 11) + R'.locals ≤ R.locals) (hcells : cells + R'.cells ≤ R.cells) (hslots : slots + R'.slots ≤ R.slots)
    {Qc : Array Value → State → Outcome → State → Prop} {XC : String → Addr → State → State → Prop} {mc ms : Nat} {free : Addr → Prop}
    (body : W p l e R' (T.calling g mk a) mk a (.java g :: below) methk ck T.heap [] 0 0 (vx_MQ (.java g :: below) Qc XC a (T.calling g mk a) mc ms free) (entryFrame mk a ck.maxLocals)) :
    (∃ (v : Option Value) (t T' : State) (L : List Loc), Stand p l e R s m args below meth c T' (locs ++ L) (cells + mc) (slots + ms) ∧ (∀ q ∈ L, free q.base) ∧ T'.heap = t.heap ∧ T'.vm = t.vm ∧ Qc a (T.calling g mk a) (.returned v) t ∧ Steps p.tables e below (doInvoke e (T.setTop g) [] mk a).1 (T'.setTop { g with pc := g.pc + len, stack := v.toList ++ g.stack })) ∨
    (∃ (q : Addr) (t T' : State) (L : List Loc) (En : String) (ce : Cell), Stand p l e R s m args below meth c T' (locs ++ L) (cells + mc) (slots + ms) ∧ (∀ z ∈ L, free z.base) ∧ T'.heap = t.heap ∧ T'.vm = t.vm ∧ XC En q (T.calling g mk a) t ∧ t.heap[q]? = some ce ∧ ce.vm = .none ∧ T.vm.findClass En = some ce.cls ∧ Steps p.tables e below (doInvoke e (T.setTop g) [] mk a).1 ((T'.setTop g).pushFrame (.throwing q))) := by
  obtain ⟨Y₀, hin⟩ := X.into hg hsize hdg a hmk hck hlk hpk hframes hlocals hcells hslots
  obtain ⟨t, st, o, hrun, hend, hq⟩ := body ((T.setTop g).pushFrame (.java (entryFrame mk a ck.maxLocals))) rfl Y₀
  have st' : Steps p.tables e below (doInvoke e (T.setTop g) [] mk a).1 t := by
    rw [hin []]
    exact Steps.weaken (mid := [.java g]) st
  rcases hq with ⟨hqc, L, hfe, hL⟩ | ⟨q, rfl, En, ce, L, hx, hce, hcv, hcl, hW₂, hsm, hL⟩
  · obtain ⟨⟨v, rfl⟩, hW₂, hsm⟩ := id hfe
    obtain ⟨T', X', hW', -, ht⟩ := X.outOf hg hdg hend hW₂ hsm
    refine Or.inl ⟨v, t, T', L, X', hL, by rw [ht]; rfl, by rw [ht]; rfl, hqc, ?_⟩
    rw [← ht]
    exact st'
  · obtain ⟨e2, q2, q3, q4, q5, q6⟩ := id hsm
    have htop := X.here.top
    obtain ⟨g₀, hr⟩ := X.frames_eq
    have e3 : t = ({ (T.calling g mk a).setFrames t.frames with heap := t.heap, slotsUsed := t.slotsUsed } : State).setVm t.vm := by
      have : t = ({ t with vm := (T.calling g mk a).vm } : State).setVm t.vm := rfl
      rw [e2] at this
      exact this
    have hf₂ : t.frames = .throwing q :: .java g :: below := hend
    have hW' : T.WarmedH t.vm := hW₂
    have hr' : (({ T with heap := t.heap, slotsUsed := t.slotsUsed } : State).setVm t.vm).frames = .java g₀ :: below := hr
    have hs₂ : t = ((({ T with heap := t.heap, slotsUsed := t.slotsUsed } : State).setVm t.vm).setTop g).pushFrame (.throwing q) := by
      refine e3.trans ?_
      rw [hf₂, State.calling_eq htop, State.setFrames_setFrames, State.pushFrame, State.frames_setTop _ hr', State.setTop_of_frames _ hr', State.setFrames_setFrames]
      rfl
    have hsame : T.sameButNew ({ T with heap := t.heap, slotsUsed := t.slotsUsed } : State) L mc ms := by
      refine ⟨?_, q2, q3, q4, q5, q6⟩
      obtain ⟨th, hth, -⟩ := State.frames_cons hr
      show ({ T with heap := t.heap, slotsUsed := t.slotsUsed } : State) = { T.setFrames T.frames with heap := t.heap, slotsUsed := t.slotsUsed }
      rw [State.setFrames_self hth]
    refine Or.inr ⟨q, t, ({ T with heap := t.heap, slotsUsed := t.slotsUsed } : State).setVm t.vm, L, En, ce,
      ⟨X.admits, X.cas, X.clock, X.frames, X.room, X.hears, X.method, X.code, (X.here.setHeapUsed t.heap t.slotsUsed).setVm hW'.alike, X.tail, State.WarmedH.trans X.warmed hW', X.limits, X.bytes, X.same.trans (hsame.setVm s.vm)⟩, hL, rfl, rfl, hx, hce, hcv, hcl, ?_⟩
    rw [← hs₂]
    exact st'
end LAM1
section LAM2
variable {p : Program} {l : Launch} {e : Env} {R : Room} {s : State} {m : MethodId} {args : Array Value} {below : List Frame} {meth : Method} {c : Code} {H : Heap} {locs : List Loc} {cells slots : Nat} {Q : State → Prop}
variable {cc : ByteArray} {pc : Nat} {ls : Array Slot} {rest : List Value}
/-- a made object's own field -/
theorem n_lget (hexec : p.tables.exec = Jvm.exec) (hb : c.code = cc) {index k a : Nat} {f : Field} {ce : Cell} {v : Value} (hf : ∀ U : State, s.WarmedH U.vm → U.vm.fieldReady m.cls index k f) (hst : f.isStatic = false) (hce : H[a]? = some ce) (hkn : ce.vm ≠ .unknown) (hv : ce.slots[f.slot]? = some v) (hdg : decode cc pc = .ok (.getfield index, 3))
    (kk : W p l e R s m args below meth c H locs cells slots Q (F0 m (pc + 3) ls (v :: rest))) : W p l e R s m args below meth c H locs cells slots Q (F0 m pc ls (.ref a :: rest)) := by
  intro T hT X
  obtain ⟨t, a1, b1⟩ := kk T hT X
  refine ⟨t, ?_, b1⟩
  have hdg' : decode c.code pc = .ok (.getfield index, 3) := by rw [hb]; exact hdg
  have hr := hf T X.warmed
  jvm_step X.here [hexec, hdg', getfield.wp_ready (e := e) (s := T) (c := k) (field := f) (a := a) (rest := rest) (cell := ce) (v := v) (f := F0 m pc ls (.ref a :: rest)) X.here.top hr hst rfl (by rw [hT]; exact hce) hkn hv]
  exact a1
/-- the made class's entry mi names the static method y, and is resolved -/
def LStat (e : Env) (U : State) (cK mi : Nat) (y : MethodName) (n : Nat) : Prop := ∃ (t : MethodId) (kt : Class) (metht : Method), plainRef U e cK mi ∧ U.vm.methodReady cK mi t ∧ U.vm.classes[t.cls]? = some kt ∧ U.vm.method? t = some metht ∧ signaturePolymorphic kt metht = false ∧ metht.isStatic = true ∧ kt.init = .initialized ∧ n = metht.sig.parameters.length ∧ U.methodNamed? y = some t
/-- .. the instance method y, that is selected for the class C -/
def LVirt (e : Env) (U : State) (cK mi : Nat) (y : MethodName) (n : Nat) (C : ClassId) : Prop := ∃ (t : MethodId) (kt : Class) (metht : Method), namesAClass U cK mi ∧ U.vm.methodReady cK mi t ∧ U.vm.classes[t.cls]? = some kt ∧ U.vm.method? t = some metht ∧ signaturePolymorphic kt metht = false ∧ metht.isStatic = false ∧ metht.isAbstract = false ∧ kt.isInterface = false ∧ n = metht.sig.parameters.length ∧ U.methodNamed? y = some t ∧ selectMethod e.platform U.vm C t = .method t
variable {n index mc ms : Nat} {y : MethodName} {Pc : Array Value → State → Prop} {Qc : Array Value → State → Outcome → State → Prop} {XC : String → Addr → State → State → Prop} {free : Addr → Prop} {As : List Value} {g : JFrame}
theorem n_lrunS (hexec : p.tables.exec = Jvm.exec) (hb : c.code = cc) (hK : vx_Back l R p e below s args y 3 8 (PreOf R mc ms Pc) (PostOf Qc mc ms free) (vx_Post XC mc ms free)) (hS : ∀ U : State, s.WarmedH U.vm → LStat e U m.cls index y As.length) (hp : PreS s H Pc As)
    (hg : g.method = m) (hsize : g.locals.size = c.maxLocals) (hstack : g.stack = As.reverse ++ rest) (hW : 2 * g.monitorRoom + (rest.map fun v => v.category).sum ≤ 8) (hdg : decode cc g.pc = .ok (.invokestatic index, 3)) (hf : cells + mc ≤ R.cells ∧ slots + ms ≤ R.slots) :
    vx_Run p l e R s m args below meth c H locs cells slots mc ms g rest (Qc As.toArray) XC free := by
  intro T hT X
  obtain ⟨t, kt, metht, q1, q2, q3, q4, q5, q6, q7, q8, q9⟩ := hS T X.warmed
  subst hg
  have hdg' : decode c.code g.pc = .ok (.invokestatic index, 3) := by rw [hb]; exact hdg
  have st1 : ∀ target, Steps p.tables e below (doInvoke e (T.setTop { g with stack := rest }) [] t As.toArray).1 target → Steps p.tables e below (T.setTop g) target := fun target h => by
    jvm_step X.here [hexec, hdg', invokestatic.wp_ready (e := e) (s := T) (m := t) (k := kt) (meth := metht) (args := As) (rest := rest) (f := g) X.here.top q1 q2 q3 q4 q5 q6 q7 q8 hstack]
    intro acts
    rw [doInvoke_state]
    exact h
  rcases hK g.method meth c ⟨T, locs, cells, slots⟩ { g with stack := rest } (.invokestatic index) t As.toArray X rfl hsize hdg' hW q9 ⟨hf.1, hf.2, hp.2 T hT X.warmed⟩ with ⟨v, ⟨U', l2, c2, s2⟩, X', ⟨g', mk, t9, L, e1, e2, hq, h1, hL, h2, h3⟩, st⟩ | ⟨q, ⟨U', l2, c2, s2⟩, X', ⟨g', mk, t9, L, En, ce, e1, e2, hq, hce, hcv, hcl, h1, hL, h2, h3⟩, st⟩
  · dsimp only [Pt.U, Pt.locs, Pt.cells, Pt.slots] at X' e1 e2 h1 h2 h3 st
    subst h1; subst h2; subst h3
    exact Or.inl ⟨v, T.calling g' mk As.toArray, t9, U', L, hT, X', hL, e1, e2, hq, fun target h => st1 _ (st.trans h)⟩
  · dsimp only [Pt.U, Pt.locs, Pt.cells, Pt.slots] at X' e1 e2 h1 h2 h3 st hcl
    subst h1; subst h2; subst h3
    exact Or.inr ⟨q, T.calling g' mk As.toArray, t9, U', L, En, ce, hT, X', hL, e1, e2, hq, hce, hcv, by rw [← X.warmed.alike.findClass]; exact hcl, st1 _ st⟩
theorem n_lrunV (hexec : p.tables.exec = Jvm.exec) (hb : c.code = cc) {C : String} {cC : ClassId} {b : Addr} (hK : vx_Back l R p e below s args y 3 8 (PreOf R mc ms Pc) (PostOf Qc mc ms free) (vx_Post XC mc ms free)) (hcC : s.vm.findClass C = some cC) (hS : ∀ U : State, s.WarmedH U.vm → LVirt e U m.cls index y As.length cC) (hp : PreV s H C b Pc As)
    (hg : g.method = m) (hsize : g.locals.size = c.maxLocals) (hstack : g.stack = As.reverse ++ .ref b :: rest) (hW : 2 * g.monitorRoom + (rest.map fun v => v.category).sum ≤ 8) (hdg : decode cc g.pc = .ok (.invokevirtual index, 3)) (hf : cells + mc ≤ R.cells ∧ slots + ms ≤ R.slots) :
    vx_Run p l e R s m args below meth c H locs cells slots mc ms g rest (Qc (Value.ref b :: As).toArray) XC free := by
  intro T hT X
  obtain ⟨t, kt, metht, q1, q2, q3, q4, q5, q6, q6b, q7, q8, q9, q10⟩ := hS T X.warmed
  obtain ⟨-, ⟨cellB, hcB, hoB, hclB⟩, hPc⟩ := hp
  cases hcC.symm.trans hclB
  subst hg
  have hdg' : decode c.code g.pc = .ok (.invokevirtual index, 3) := by rw [hb]; exact hdg
  have st1 : ∀ target, Steps p.tables e below (doInvoke e (T.setTop { g with stack := rest }) [] t (Value.ref b :: As).toArray).1 target → Steps p.tables e below (T.setTop g) target := fun target h => by
    jvm_step X.here [hexec, hdg', invokevirtual.wp_ready (e := e) (s := T) (r := t) (m := t) (k := kt) (mk := kt) (rmeth := metht) (meth := metht) (a := b) (args := As) (rest := rest) (cell := cellB) (f := g) X.here.top q1 q2 q3 q4 q5 q6 q8 hstack (by rw [hT]; exact hcB) (fun z h9 => by rw [h9] at hoB; cases hoB) q10 q4 q6b q3 q7]
    intro acts
    rw [doInvoke_state]
    exact h
  rcases hK g.method meth c ⟨T, locs, cells, slots⟩ { g with stack := rest } (.invokevirtual index) t (Value.ref b :: As).toArray X rfl hsize hdg' hW q9 ⟨hf.1, hf.2, hPc T hT X.warmed⟩ with ⟨v, ⟨U', l2, c2, s2⟩, X', ⟨g', mk, t9, L, e1, e2, hq, h1, hL, h2, h3⟩, st⟩ | ⟨q, ⟨U', l2, c2, s2⟩, X', ⟨g', mk, t9, L, En, ce, e1, e2, hq, hce, hcv, hcl, h1, hL, h2, h3⟩, st⟩
  · dsimp only [Pt.U, Pt.locs, Pt.cells, Pt.slots] at X' e1 e2 h1 h2 h3 st
    subst h1; subst h2; subst h3
    exact Or.inl ⟨v, T.calling g' mk (Value.ref b :: As).toArray, t9, U', L, hT, X', hL, e1, e2, hq, fun target h => st1 _ (st.trans h)⟩
  · dsimp only [Pt.U, Pt.locs, Pt.cells, Pt.slots] at X' e1 e2 h1 h2 h3 st hcl
    subst h1; subst h2; subst h3
    exact Or.inr ⟨q, T.calling g' mk (Value.ref b :: As).toArray, t9, U', L, En, ce, hT, X', hL, e1, e2, hq, hce, hcv, by rw [← X.warmed.alike.findClass]; exact hcl, st1 _ st⟩
end LAM2
