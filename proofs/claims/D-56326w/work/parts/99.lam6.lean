/-! ===== lambdas, 6: what stands of the made classes; the forwarders' ends ===== -/
theorem lam_obj {U : State} (hw : ∀ w ∈ lw_all, w.before #[] U = true) : ∀ o ok, U.vm.findClass "java/lang/Object" = some o → U.vm.classes[o]? = some ok → ok.instanceTypes.size = 0 := by
  intro o ok h1 h2
  obtain ⟨c1, k1, hc1, hk1, -, -, -, hn⟩ := Cond.instantiable_spec (show (Cond.instantiable "java/lang/Object" 0).holds #[] U none U [] = true from hw _ q2584)
  cases h1.symm.trans hc1
  cases h2.symm.trans hk1
  exact hn
theorem lam_words {args : Array Value} {s U : State} (hts : ∀ w ∈ lw_all, w.before args s = true) (hW : s.WarmedH U.vm) : ∀ w ∈ lw_all, w.before #[] U = true := fun w hw => pay_in hts lw_self w hw #[] U hW
section LAM6
variable {E : EE} {U : State} {k pc0 idx0 : Nat} {x : MethodName} {σ : Lambda.Shape} {host : String} {bytes : List UInt8} {maxL : Nat} {ret : FieldType} {tys : List FieldType} {fl : List (Nat × Nat × Nat × String × String)} {mi ci u nt : Nat}
theorem lam_fact (hK : KE E U) (hw : ∀ w ∈ lw_all, w.before #[] U = true) (hm : (k, Cond.lambdaSite x pc0 idx0 σ) ∈ LSS) (hx : x.cls = host) (hpl : plainName (host ++ "$$Lambda") = true) (hk : LKok σ host bytes maxL ret tys fl mi ci u nt = true) :
    ∃ d, Lambda.isMade { classPath := fun _ => none } U.vm d σ (E.2 (3000 + k)) = true ∧ U.lambdaCallable σ (E.2 (3000 + k)) = true ∧ LMade U (E.2 (3000 + k)) bytes maxL ret tys ∧ (∀ i q, fl[i]? = some q → ∃ f, U.vm.fieldReady (E.2 (3000 + k)) q.1 (E.2 (3000 + k)) f ∧ f.isStatic = false ∧ f.slot = i) ∧
    ∃ (kc tk : Class) (file : ClassFile) (D : ClassFile) (t : ClassId) (target : MethodId), U.vm.classes[E.2 (3000 + k)]? = some kc ∧ kc.cf = some file ∧ file.constantPool = D.constantPool ∧ D.constantPool[mi]? = some (.methodref ci nt) ∧ D.constantPool.nameAndType? nt = some (σ.implName, σ.implDesc.toString) ∧ U.vm.findClass σ.implClass = some t ∧ U.vm.classes[t]? = some tk ∧ ((methodIn t σ.implName σ.implDesc.toString tk.isInterface none).ask { classPath := fun _ => none } U.vm).1 = .ok target ∧ tk.isInterface = σ.implItf ∧ (tk.isInterface = false → U.vm.methodReady (E.2 (3000 + k)) mi target) ∧ U.vm.classReady (E.2 (3000 + k)) ci t := by
  have hl := hK.kx.1 _ hm
  by_cases hc : σ.captured = []
  · obtain ⟨m0, k0, cf, i0, p0, h1, h2, h3, h4, h5, h6, h7, h8⟩ := hl.2 hc
    obtain ⟨a, b, c⟩ := LMade_of hk h2 (h3.trans hx) hpl h7 (lam_obj hw)
    exact ⟨_, h7, h8, a, b, c⟩
  · obtain ⟨m0, k0, cf, i0, p0, h1, h2, h3, h4, h5, h6, h7, h8⟩ := hl.1 hc
    obtain ⟨a, b, c⟩ := LMade_of hk h2 (h3.trans hx) hpl h7 (lam_obj hw)
    exact ⟨_, h7, h8, a, b, c⟩
variable {e : Env} {l : Launch} {y : MethodName} {by_ : ByteArray} {mL n : Nat} {rt : Option FieldType} {sig : MethodDescriptor}
theorem lam_stat (hK : KE E U) (hw : ∀ w ∈ lw_all, w.before #[] U = true) (hm : (k, Cond.lambdaSite x pc0 idx0 σ) ∈ LSS) (hx : x.cls = host) (hpl : plainName (host ++ "$$Lambda") = true) (hk : LKok σ host bytes maxL ret tys fl mi ci u nt = true)
    (hy : σ.implClass = y.cls ∧ σ.implName = y.name ∧ σ.implDesc.toString = y.desc ∧ σ.implItf = false) (hy2 : y.cls ≠ "java/lang/invoke/MethodHandle" ∧ y.cls ≠ "java/lang/invoke/VarHandle") (hcode : Cond.code y by_ mL rt ∈ lw_all) (hst : Cond.static y ∈ lw_all) (hini : Cond.initialized y.cls ∈ lw_all) (hsig : parseMethodDescriptor y.desc = some sig) (hn : n = sig.parameters.length) : LStat e U (E.2 (3000 + k)) mi y n := by
  obtain ⟨d, -, -, -, -, kc, tk, file, D, t, target, z1, z2, z3, z4, z5, z6, z7, z8, z9, z10, z11⟩ := lam_fact hK hw hm hx hpl hk
  rw [hy.1] at z6
  rw [hy.2.1, hy.2.2.1] at z5 z8
  exact LStat_of z1 z2 z3 z4 z5 z6 z7 z8 (z10 (z9.trans hy.2.2.2)) z11 hy2 (hw _ hcode) (hw _ hst) (hw _ hini) hsig hn
theorem lam_virt (hA : l.admits e) (hK : KE E U) (hw : ∀ w ∈ lw_all, w.before #[] U = true) (hm : (k, Cond.lambdaSite x pc0 idx0 σ) ∈ LSS) (hx : x.cls = host) (hpl : plainName (host ++ "$$Lambda") = true) (hk : LKok σ host bytes maxL ret tys fl mi ci u nt = true)
    (hy : σ.implClass = y.cls ∧ σ.implName = y.name ∧ σ.implDesc.toString = y.desc ∧ σ.implItf = false) (hy2 : y.cls ≠ "java/lang/invoke/MethodHandle" ∧ y.cls ≠ "java/lang/invoke/VarHandle") (hcode : Cond.code y by_ mL rt ∈ lw_all) (hst : Cond.instanceMethod y ∈ lw_all) (hse : Cond.selects y.cls y y ∈ lw_all) (hsig : parseMethodDescriptor y.desc = some sig) (hn : n = sig.parameters.length) {cC : ClassId} (hcC : U.vm.findClass y.cls = some cC) : LVirt e U (E.2 (3000 + k)) mi y n cC := by
  obtain ⟨d, -, -, -, -, kc, tk, file, D, t, target, z1, z2, z3, z4, z5, z6, z7, z8, z9, z10, z11⟩ := lam_fact hK hw hm hx hpl hk
  rw [hy.1] at z6
  rw [hy.2.1, hy.2.2.1] at z8
  cases hcC.symm.trans z6
  refine LVirt_of z1 z2 z3 z4 z6 z7 (z9.trans hy.2.2.2) z8 (z10 (z9.trans hy.2.2.2)) z11 hy2 (hw _ hcode) (hw _ hst) (fun r hr => ?_) hsig hn
  obtain ⟨c2, r2, m2, q1, q2, q3, q4, -⟩ := Cond.selects_spec (show (Cond.selects y.cls y y).holds #[] U none U [] = true from hw _ hse)
  cases q1.symm.trans z6
  cases q3.symm.trans hr
  have q5 := State.methodFound?_of_named hr hy2
  cases q2.symm.trans q5
  rw [Launch.admits_selectMethod hA]
  exact q4
end LAM6
section LAM7
variable {p : Program} {l : Launch} {e : Env} {R : Room} {s : State} {m : MethodId} {args : Array Value} {below : List Frame} {meth : Method} {c : Code} {H : Heap} {locs : List Loc} {cells slots : Nat} {Q : State → Prop}
variable {cc : ByteArray} {pc : Nat} {ls : Array Slot} {rest st0 : List Value} {E : EE} {mc ms : Nat} {a : Array Value} {A : Nat → Prop} {H0 : Heap} {ws wc : va_W}
theorem n_adm {g : JFrame} (k : l.admits e → W p l e R s m args below meth c H locs cells slots Q g) : W p l e R s m args below meth c H locs cells slots Q g := fun T hT X => k X.admits T hT X
theorem n_lget2 (hexec : p.tables.exec = Jvm.exec) (hb : c.code = cc) {index k b : Nat} {ce : Cell} {v : Value} (hf : ∀ U : State, s.WarmedH U.vm → ∃ f, U.vm.fieldReady m.cls index k f ∧ f.isStatic = false ∧ ce.slots[f.slot]? = some v) (hce : H[b]? = some ce) (hkn : ce.vm ≠ .unknown) (hdg : decode cc pc = .ok (.getfield index, 3))
    (kk : W p l e R s m args below meth c H locs cells slots Q (F0 m (pc + 3) ls (v :: rest))) : W p l e R s m args below meth c H locs cells slots Q (F0 m pc ls (.ref b :: rest)) := by
  intro T hT X
  obtain ⟨t, a1, b1⟩ := kk T hT X
  refine ⟨t, ?_, b1⟩
  have hdg' : decode c.code pc = .ok (.getfield index, 3) := by rw [hb]; exact hdg
  obtain ⟨f, hr, hst, hv⟩ := hf T X.warmed
  jvm_step X.here [hexec, hdg', getfield.wp_ready (e := e) (s := T) (c := k) (field := f) (a := b) (rest := rest) (cell := ce) (v := v) (f := F0 m pc ls (.ref b :: rest)) X.here.top hr hst rfl (by rw [hT]; exact hce) hkn hv]
  exact a1
/-- a forwarder's end: its target's answer goes on -/
theorem n_fwEnd {σ τ : Type} {C : σ → Prop} {x : σ → Int} {w1 : σ → va_W} {Cx : String → τ → Prop} {wx : τ → va_W} {rx : τ → Option (Nat × List Value)} (hexec : p.tables.exec = Jvm.exec) (hb : c.code = cc) (hr : meth.sig.returnType = some .int) (hlocks : meth.locks = false) (hex : c.exceptionTable = #[])
    (hrun : vx_Run p l e R s m args below meth c s.heap [] 0 0 mc ms (F0 m pc ls st0) [] (UQx E C x w1 A a) (UXx E Cx wx rx A) A) (hdg : decode cc (pc + 3) = .ok (.ireturn, 1)) :
    W p l e R s m args below meth c s.heap [] 0 0 (vx_MQ below (UQx E C x w1 A) (UXx E Cx wx rx A) args s mc ms A) (F0 m pc ls st0) := by
  intro T hT X
  rcases hrun T hT X with ⟨v, st₀, t, T', L, h0, X', hL, e1, e2, ⟨⟨r, u, hv, hp, hb9⟩, hFr⟩, st⟩ | ⟨q, st₀, t, T', L, En, ce, h0, X', hL, e1, e2, ⟨u, hcx, hpx, hdx, hxf, hq, hFx⟩, hce, hcv, hcl, st⟩
  · cases hv
    obtain ⟨h9, h8⟩ := hp
    subst h8
    have hF2 : ∀ t2 : State, t2.heap = T'.heap → va_F A s t2 := fun t2 h2 => ⟨by rw [h2, e1, ← h0]; exact hFr.1, fun z z1 z2 => by rw [h2, e1, ← h0]; exact hFr.2 z (by rw [h0]; exact z1) z2⟩
    have hend : W p l e R s m args below meth c T'.heap ([] ++ L) (0 + mc) (0 + ms) (vx_MQ below (UQx E C x w1 A) (UXx E Cx wx rx A) args s mc ms A) (F0 m (pc + 3) ls [iv (x u)]) := by
      rw [Nat.zero_add, Nat.zero_add, List.nil_append]
      exact vx_ret (W.iret (v := iI (x u)) hexec hb hr (fun t2 ht2 _ => ⟨⟨iI (x u), u, rfl, ⟨h9, rfl⟩, by rw [ht2, e1]; exact hb9.1, hb9.2⟩, hF2 t2 ht2⟩) (fun z hz => hL z hz) hdg hlocks)
    obtain ⟨t2, b1, b2⟩ := hend T' rfl X'
    exact ⟨t2, st t2 b1, b2⟩
  · have hS : va_S A s.heap T'.heap L := ⟨by rw [e1, ← h0]; exact hFx.1, fun z z1 z2 => by rw [e1, ← h0]; exact hFx.2 z (by rw [h0]; exact z1) z2, hL⟩
    have hend : vx_W p l e R s m args below meth c T'.heap ([] ++ L) (0 + mc) (0 + ms) (vx_MQ below (UQx E C x w1 A) (UXx E Cx wx rx A) args s mc ms A) (F0 m pc ls []) q := by
      rw [Nat.zero_add, Nat.zero_add, List.nil_append]
      exact n_out u hcx (by rw [e1]; exact hpx) hdx hS (by rw [e1]; exact hxf) (by rw [← h0]; exact hq) (by rw [e1]; exact hce) hcv hcl (fun z hz => by rw [hex] at hz; cases hz) hlocks (Nat.le_refl _) (Nat.le_refl _)
    obtain ⟨t2, b1, b2⟩ := hend T' rfl X'
    exact ⟨t2, st.trans b1, b2⟩
/-- .. of one that answers a boolean -/
theorem n_fwEndZ {σ τ : Type} {C : σ → Prop} {x : σ → Bool} {w1 : σ → va_W} {Cx : String → τ → Prop} {wx : τ → va_W} {rx : τ → Option (Nat × List Value)} (hexec : p.tables.exec = Jvm.exec) (hb : c.code = cc) (hr : meth.sig.returnType = some .boolean) (hlocks : meth.locks = false) (hex : c.exceptionTable = #[])
    (hrun : vx_Run p l e R s m args below meth c s.heap [] 0 0 mc ms (F0 m pc ls st0) [] (UQx E C (fun u => b2 (x u)) w1 A a) (UXx E Cx wx rx A) A) (hdg : decode cc (pc + 3) = .ok (.ireturn, 1)) :
    W p l e R s m args below meth c s.heap [] 0 0 (vx_MQ below (UQx E C (fun u => b2 (x u)) w1 A) (UXx E Cx wx rx A) args s mc ms A) (F0 m pc ls st0) := by
  intro T hT X
  rcases hrun T hT X with ⟨v, st₀, t, T', L, h0, X', hL, e1, e2, ⟨⟨r, u, hv, hp, hb9⟩, hFr⟩, st⟩ | ⟨q, st₀, t, T', L, En, ce, h0, X', hL, e1, e2, ⟨u, hcx, hpx, hdx, hxf, hq, hFx⟩, hce, hcv, hcl, st⟩
  · cases hv
    obtain ⟨h9, h8⟩ := hp
    subst h8
    have hF2 : ∀ t2 : State, t2.heap = T'.heap → va_F A s t2 := fun t2 h2 => ⟨by rw [h2, e1, ← h0]; exact hFr.1, fun z z1 z2 => by rw [h2, e1, ← h0]; exact hFr.2 z (by rw [h0]; exact z1) z2⟩
    have hend : W p l e R s m args below meth c T'.heap ([] ++ L) (0 + mc) (0 + ms) (vx_MQ below (UQx E C (fun u => b2 (x u)) w1 A) (UXx E Cx wx rx A) args s mc ms A) (F0 m (pc + 3) ls [iv (b2 (x u))]) := by
      rw [Nat.zero_add, Nat.zero_add, List.nil_append]
      exact vx_ret (W.zret (v := iI (b2 (x u))) hexec hb hr (nr_b (b2_r _)) (fun t2 ht2 _ => ⟨⟨iI (b2 (x u)), u, rfl, ⟨h9, rfl⟩, by rw [ht2, e1]; exact hb9.1, hb9.2⟩, hF2 t2 ht2⟩) (fun z hz => hL z hz) hdg hlocks)
    obtain ⟨t2, b1, b2⟩ := hend T' rfl X'
    exact ⟨t2, st t2 b1, b2⟩
  · have hS : va_S A s.heap T'.heap L := ⟨by rw [e1, ← h0]; exact hFx.1, fun z z1 z2 => by rw [e1, ← h0]; exact hFx.2 z (by rw [h0]; exact z1) z2, hL⟩
    have hend : vx_W p l e R s m args below meth c T'.heap ([] ++ L) (0 + mc) (0 + ms) (vx_MQ below (UQx E C (fun u => b2 (x u)) w1 A) (UXx E Cx wx rx A) args s mc ms A) (F0 m pc ls []) q := by
      rw [Nat.zero_add, Nat.zero_add, List.nil_append]
      exact n_out u hcx (by rw [e1]; exact hpx) hdx hS (by rw [e1]; exact hxf) (by rw [← h0]; exact hq) (by rw [e1]; exact hce) hcv hcl (fun z hz => by rw [hex] at hz; cases hz) hlocks (Nat.le_refl _) (Nat.le_refl _)
    obtain ⟨t2, b1, b2⟩ := hend T' rfl X'
    exact ⟨t2, st.trans b1, b2⟩
/-- behind a call by an interface that may throw -/
theorem n_tx5S {σ τ : Type} {C : σ → Prop} {x : σ → Int} {w1 w2 : σ → va_W} {Cx : String → τ → Prop} {wx w3 : τ → va_W} {rx : τ → Option (Nat × List Value)} (hr : vx_Run5 p l e R s m args below meth c H locs cells slots mc ms (F0 m pc ls st0) rest (UQx E C x w1 (va_A wc H.size) a) (UXx E Cx wx rx (va_A wc H.size)) (va_A wc H.size)) (hP : va_P E.1 CL ws H) (hD : va_D A ws) (hS : va_S A H0 H locs) (hA : ∀ q : Nat, H0.size ≤ q → A q) (isC isR pm pmx : List Nat) (hC : isC.map (fun i => ws[i]?) = wc.map some) (hR : isR.all (fun i => (ws[i]?).isSome) = true) (hn : va_nd isR = true) (hdis : isR.all (fun i => !isC.contains i) = true) (hpn : va_nd pm = true) (hpm : ∀ u, pm.map (fun i => (isR.filterMap (fun i => ws[i]?) ++ w1 u)[i]?) = (w2 u).map some) (hpn3 : va_nd pmx = true) (hpm3 : ∀ u, pmx.map (fun i => (isR.filterMap (fun i => ws[i]?) ++ wx u)[i]?) = (w3 u).map some)
    (kx : NX p l e R s m args below meth c H (cells + mc) (slots + ms) Q E A H0 (F0 m pc ls rest) Cx w3 rx)
    (kk : ∀ (u : σ) (H1 : Heap) (locs1 : List Loc), C u → va_P E.1 CL (w2 u) H1 → va_D A (w2 u) → va_S A H0 H1 locs1 → W p l e R s m args below meth c H1 locs1 (cells + mc) (slots + ms) Q (F0 m (pc + 5) ls (iv (x u) :: rest))) : W p l e R s m args below meth c H locs cells slots Q (F0 m pc ls st0) := by
  have hF := va_sub_free hD hS hA isC hC
  intro T hT X
  rcases hr T hT X with ⟨v, st₀, t, T', L, h0, X', hL, e1, e2, ⟨⟨r, u, hv, hp, hb⟩, hFr⟩, st⟩ | ⟨q, st₀, t, T', L, En, ce, h0, X', hL, e1, e2, ⟨u, hcx, hpx, hdx, hxf, hq, hFx⟩, hce, hcv, hcl, st⟩
  · cases hv
    obtain ⟨k1, k2, k3⟩ := vx_keep h0 e1 hS (fun q _ h => hF q h) hF hL hFr
    obtain ⟨h9, h8⟩ := hp
    subst h8
    rw [← h0] at hb
    have hk9 : ∀ q : Nat, q < H.size → ¬ va_A wc H.size q → T'.heap[q]? = H[q]? := k2
    obtain ⟨a1, a2⟩ := n_back hP hD hF isC isR pm hC hR hn hdis hpn (hpm u) hk9 (by rw [e1]; exact hb.1) (by rw [← h0]; exact hb.2)
    obtain ⟨t2, b1, b2⟩ := kk u T'.heap (locs ++ L) h9 a1 a2 k3 T' rfl X'
    exact ⟨t2, st t2 b1, b2⟩
  · obtain ⟨k1, k2, k3⟩ := vx_keep h0 e1 hS (fun q _ h => hF q h) hF hL hFx
    have hk9 : ∀ q : Nat, q < H.size → ¬ va_A wc H.size q → T'.heap[q]? = H[q]? := k2
    obtain ⟨a1, a2⟩ := n_back hP hD hF isC isR pmx hC hR hn hdis hpn3 (hpm3 u) hk9 (by rw [e1]; exact hpx) hdx
    obtain ⟨t2, b1, b2⟩ := kx En ce q u T'.heap (locs ++ L) hcx a1 a2 k3 (by rw [e1]; exact hxf) (by rw [← h0]; exact hq) (by rw [e1]; exact hce) hcv hcl T' rfl X'
    exact ⟨t2, st.trans b1, b2⟩
end LAM7
