/-! ===== lambdas, 7: the forwarders ===== -/
section LAM8
variable {p : Program} {l : Launch} {e : Env} {R : Room} {s : State} {m : MethodId} {args : Array Value} {below : List Frame} {meth : Method} {c : Code} {H : Heap} {locs : List Loc} {cells slots : Nat}
variable {cc : ByteArray} {pc : Nat} {ls : Array Slot} {rest : List Value} {E : EE} {mc ms : Nat} {A : Nat → Prop}
variable {k pc0 idx0 index : Nat} {x : MethodName} {σ : Lambda.Shape} {host own : String} {tys : List FieldType} {y : MethodName} {by_ : ByteArray} {mL : Nat} {rm : Room} {sig : MethodDescriptor} {Pc : Array Value → State → Prop}
variable {S τ : Type} {C : S → Prop} {x1 : S → Int} {z1 : S → Bool} {w1 : S → va_W} {Cx : String → τ → Prop} {wx : τ → va_W} {rx : τ → Option (Nat × List Value)}
theorem n_fwZ0 (hexec : p.tables.exec = Jvm.exec) (hb : c.code = cc) (hsz : ls.size = c.maxLocals) (hts : ∀ w ∈ lw_all, w.before args s = true) (hK : KE E s) (hown : s.vm.findClass own = some m.cls) (hlink : (Cond.methodLink own index xLeads).before args s = true)
    (hm : (k, Cond.lambdaSite x pc0 idx0 σ) ∈ LSS) (hx : x.cls = host) (hpl : plainName (host ++ "$$Lambda") = true) {d1 : String} (hk : LKok σ host fb0 3 .boolean tys [(15, 2, 14, "arg$1", d1)] 22 19 18 21 = true) (hσ : σ.iface = xLeads.cls ∧ σ.name = xLeads.name ∧ σ.sam.toString = xLeads.desc)
    (hy : σ.implClass = y.cls ∧ σ.implName = y.name ∧ σ.implDesc.toString = y.desc ∧ σ.implItf = false) (hy2 : y.cls ≠ "java/lang/invoke/MethodHandle" ∧ y.cls ≠ "java/lang/invoke/VarHandle") (hcode : Cond.code y by_ mL (some .boolean) ∈ lw_all) (hini : Cond.initialized y.cls ∈ lw_all) (hsig : parseMethodDescriptor y.desc = some sig) (hn : 2 = sig.parameters.length)
    (hM : vx_Met l y (ws_ y by_ mL (some .boolean)) rm Pc (UQx E C (fun u => b2 (z1 u)) w1 A) (UXx E Cx wx rx A) mc ms A) (hrc : rm.cells = mc) (hrs : rm.slots = ms)
    (hst : Cond.instanceMethod y ∈ lw_all) (hse : Cond.selects y.cls y y ∈ lw_all) {f t : Int} {bq : Nat} {ce : Cell} (hce : H[bq]? = some ce) (hcls : ce.cls = E.2 (3000 + k)) (hcv : ce.vm = .none) {bk : Nat} (hv1 : ce.slots[0]? = some (.ref bk)) (hp : PreV s H y.cls bk Pc [iv f, iv t])
    (hRf : rm.frames + 2 ≤ R.frames) (hRl : (rest.map fun v => v.category).sum + 14 + (8 + (mL + 11) + rm.locals) ≤ R.locals) (hRc : cells + mc ≤ R.cells) (hRs : slots + ms ≤ R.slots) (hdg : decode cc pc = .ok (.invokeinterface index 3, 5)) :
    vx_Run5 p l e R s m args below meth c H locs cells slots mc ms (F0 m pc ls (iv t :: iv f :: .ref bq :: rest)) rest (UQx E C (fun u => b2 (z1 u)) w1 A (Value.ref bq :: [iv f, iv t]).toArray) (UXx E Cx wx rx A) A := by
  have hw0 := lam_words hts (State.WarmedH.refl s)
  obtain ⟨d, h7, h8, hL, -, -⟩ := lam_fact hK hw0 hm hx hpl hk
  refine n_lrunF (n := 0) hexec hb hown hlink (va_Nw.use rfl hK.kx.2.1.1) (va_Nw.use rfl hK.kx.2.1.2) (by decide) hσ h7 h8 hL hce hcls hcv (As := [iv f, iv t]) (g := F0 m pc ls (iv t :: iv f :: .ref bq :: rest)) rfl (fun sg hsg => ?_) hsz rfl hdg (R' := { frames := rm.frames + 1, locals := 8 + (mL + 11) + rm.locals, cells := mc, slots := ms }) (by show rm.frames + 1 + 1 ≤ R.frames; omega) (by show 2 * 0 + (rest.map fun v => v.category).sum + (3 + 11) + (8 + (mL + 11) + rm.locals) ≤ R.locals; omega) hRc hRs (fun T g' methk ck hT hW hLT hck hmax hex hlk hret => ?_)
  · have h1 : (parseMethodDescriptor xLeads.desc).map (fun z => z.parameters.length) = some 2 := by decide +kernel
    rw [hsg] at h1
    exact (Option.some.inj h1).symm
  subst hT
  have hwU : ∀ U : State, (T.calling g' ⟨E.2 (3000 + k), 1⟩ (Value.ref bq :: [iv f, iv t]).toArray).WarmedH U.vm → s.WarmedH U.vm := fun U hU => State.WarmedH.trans hW hU
  have hl := lv_entry ([.ref bq, iv f, iv t]) (n := 3) (Nat.le_of_ble_eq_true rfl)
  rw [show (Value.ref bq :: [iv f, iv t]).toArray = ([.ref bq, iv f, iv t] : List Value).toArray from rfl, lg_entry_eq]
  generalize (lg_sl ([.ref bq, iv f, iv t]) ++ List.replicate (3 - (lg_sl ([.ref bq, iv f, iv t])).length) Slot.unset).toArray = ls2 at hl ⊢
  have hl : lv_has ls2 3 [(0, .ref bq), (1, iv f), (2, iv t)] := hl
  refine lv_aload_n hexec hck fd0_0 rfl (lv_at hl 0 rfl) ?_
  refine n_lget2 hexec hck (index := 15) (k := E.2 (3000 + k)) (ce := ce) (v := .ref bk) (fun U hU => ?_) hce (fun h9 => by rw [hcv] at h9; cases h9) fd0_1 ?_
  · obtain ⟨d2, -, -, -, hf, -⟩ := lam_fact (hK.warm (hwU U hU)) (lam_words hts (hwU U hU)) hm hx hpl hk
    obtain ⟨ff, f1, f2, f3⟩ := hf 0 _ rfl
    exact ⟨ff, f1, f2, by rw [f3]; exact hv1⟩
  refine lv_iload_n hexec hck fd0_4 rfl (lv_at hl 1 rfl) ?_
  refine lv_iload_n hexec hck fd0_5 rfl (lv_at hl 2 rfl) ?_
  have hws : ∀ w ∈ ws_ y by_ mL (some .boolean), ∀ a2 U, (T.calling g' ⟨E.2 (3000 + k), 1⟩ ([.ref bq, iv f, iv t] : List Value).toArray).WarmedH U.vm → w.before a2 U = true := fun w hw a2 U hU => pay_in hts (lw_meth hcode) w hw a2 U (hwU U hU)
  refine n_adm (fun hadm => ?_)
  obtain ⟨cellB, b1, b2_, b3⟩ := hp.2.1
  have hcU : ∀ U : State, s.WarmedH U.vm → U.vm.findClass y.cls = some cellB.cls := fun U hU => (hU.alike.findClass y.cls _).trans b3
  have hWT : s.WarmedH (T.calling g' ⟨E.2 (3000 + k), 1⟩ ([.ref bq, iv f, iv t] : List Value).toArray).vm := hW
  exact n_fwEndZ hexec hck hret hlk hex (a := (Value.ref bk :: [iv f, iv t]).toArray) (n_lrunV hexec hck (C := y.cls) (As := [iv f, iv t]) (rest := []) (g := F0 ⟨E.2 (3000 + k), 1⟩ 6 ls2 [iv t, iv f, .ref bk]) (vx_back (W9 := 8) hM hp.1 hrc hrs (Nat.le_refl _) (Nat.le_refl _) hws List.mem_cons_self (fun a2 U hU => pay_in hts lw_self _ hini a2 U (hwU U hU))) (cC := cellB.cls) (hcU _ hWT) (fun U hU => lam_virt hadm (hK.warm (hwU U hU)) (lam_words hts (hwU U hU)) hm hx hpl hk hy hy2 hcode hst hse hsig hn (hcU _ (hwU U hU))) ⟨hp.1, ⟨cellB, b1, b2_, hcU _ hWT⟩, fun U hU hU2 => hp.2.2 U hU (hwU U hU2)⟩ rfl (hl.1.trans hmax.symm) rfl (by show 2 * 0 + 0 ≤ 8; decide) fd0_6 ⟨by show 0 + mc ≤ mc; omega, by show 0 + ms ≤ ms; omega⟩) fd0_9
theorem n_fwS1 (hexec : p.tables.exec = Jvm.exec) (hb : c.code = cc) (hsz : ls.size = c.maxLocals) (hts : ∀ w ∈ lw_all, w.before args s = true) (hK : KE E s) (hown : s.vm.findClass own = some m.cls) (hlink : (Cond.methodLink own index xApply).before args s = true)
    (hm : (k, Cond.lambdaSite x pc0 idx0 σ) ∈ LSS) (hx : x.cls = host) (hpl : plainName (host ++ "$$Lambda") = true) {d1 d2 d3 : String} (hk : LKok σ host fb1 2 .int tys [(18, 2, 17, "arg$1", d1), (20, 2, 19, "arg$2", d2), (22, 2, 21, "arg$3", d3)] 30 26 25 29 = true) (hσ : σ.iface = xApply.cls ∧ σ.name = xApply.name ∧ σ.sam.toString = xApply.desc)
    (hy : σ.implClass = y.cls ∧ σ.implName = y.name ∧ σ.implDesc.toString = y.desc ∧ σ.implItf = false) (hy2 : y.cls ≠ "java/lang/invoke/MethodHandle" ∧ y.cls ≠ "java/lang/invoke/VarHandle") (hcode : Cond.code y by_ mL (some .int) ∈ lw_all) (hini : Cond.initialized y.cls ∈ lw_all) (hsig : parseMethodDescriptor y.desc = some sig) (hn : 4 = sig.parameters.length)
    (hM : vx_Met l y (ws_ y by_ mL (some .int)) rm Pc (UQx E C x1 w1 A) (UXx E Cx wx rx A) mc ms A) (hrc : rm.cells = mc) (hrs : rm.slots = ms)
    (hst : Cond.static y ∈ lw_all) {st : Nat} {bq : Nat} {ce : Cell} (hce : H[bq]? = some ce) (hcls : ce.cls = E.2 (3000 + k)) (hcv : ce.vm = .none) {v1 : Value} (hv1 : ce.slots[0]? = some v1) {v2 : Value} (hv2 : ce.slots[1]? = some v2) {v3 : Value} (hv3 : ce.slots[2]? = some v3) (hp : PreS s H Pc [v1, v2, v3, .ref st])
    (hRf : rm.frames + 2 ≤ R.frames) (hRl : (rest.map fun v => v.category).sum + 13 + (8 + (mL + 11) + rm.locals) ≤ R.locals) (hRc : cells + mc ≤ R.cells) (hRs : slots + ms ≤ R.slots) (hdg : decode cc pc = .ok (.invokeinterface index 2, 5)) :
    vx_Run5 p l e R s m args below meth c H locs cells slots mc ms (F0 m pc ls (.ref st :: .ref bq :: rest)) rest (UQx E C x1 w1 A (Value.ref bq :: [.ref st]).toArray) (UXx E Cx wx rx A) A := by
  have hw0 := lam_words hts (State.WarmedH.refl s)
  obtain ⟨d, h7, h8, hL, -, -⟩ := lam_fact hK hw0 hm hx hpl hk
  refine n_lrunF (n := 0) hexec hb hown hlink (va_Nw.use rfl hK.kx.2.2.1.1) (va_Nw.use rfl hK.kx.2.2.1.2) (by decide) hσ h7 h8 hL hce hcls hcv (As := [.ref st]) (g := F0 m pc ls (.ref st :: .ref bq :: rest)) rfl (fun sg hsg => ?_) hsz rfl hdg (R' := { frames := rm.frames + 1, locals := 8 + (mL + 11) + rm.locals, cells := mc, slots := ms }) (by show rm.frames + 1 + 1 ≤ R.frames; omega) (by show 2 * 0 + (rest.map fun v => v.category).sum + (2 + 11) + (8 + (mL + 11) + rm.locals) ≤ R.locals; omega) hRc hRs (fun T g' methk ck hT hW hLT hck hmax hex hlk hret => ?_)
  · have h1 : (parseMethodDescriptor xApply.desc).map (fun z => z.parameters.length) = some 1 := by decide +kernel
    rw [hsg] at h1
    exact (Option.some.inj h1).symm
  subst hT
  have hwU : ∀ U : State, (T.calling g' ⟨E.2 (3000 + k), 1⟩ (Value.ref bq :: [.ref st]).toArray).WarmedH U.vm → s.WarmedH U.vm := fun U hU => State.WarmedH.trans hW hU
  have hl := lv_entry ([.ref bq, .ref st]) (n := 2) (Nat.le_of_ble_eq_true rfl)
  rw [show (Value.ref bq :: [.ref st]).toArray = ([.ref bq, .ref st] : List Value).toArray from rfl, lg_entry_eq]
  generalize (lg_sl ([.ref bq, .ref st]) ++ List.replicate (2 - (lg_sl ([.ref bq, .ref st])).length) Slot.unset).toArray = ls2 at hl ⊢
  have hl : lv_has ls2 2 [(0, .ref bq), (1, .ref st)] := hl
  refine lv_aload_n hexec hck fd1_0 rfl (lv_at hl 0 rfl) ?_
  refine n_lget2 hexec hck (index := 18) (k := E.2 (3000 + k)) (ce := ce) (v := v1) (fun U hU => ?_) hce (fun h9 => by rw [hcv] at h9; cases h9) fd1_1 ?_
  · obtain ⟨d2, -, -, -, hf, -⟩ := lam_fact (hK.warm (hwU U hU)) (lam_words hts (hwU U hU)) hm hx hpl hk
    obtain ⟨ff, f1, f2, f3⟩ := hf 0 _ rfl
    exact ⟨ff, f1, f2, by rw [f3]; exact hv1⟩
  refine lv_aload_n hexec hck fd1_4 rfl (lv_at hl 0 rfl) ?_
  refine n_lget2 hexec hck (index := 20) (k := E.2 (3000 + k)) (ce := ce) (v := v2) (fun U hU => ?_) hce (fun h9 => by rw [hcv] at h9; cases h9) fd1_5 ?_
  · obtain ⟨d2, -, -, -, hf, -⟩ := lam_fact (hK.warm (hwU U hU)) (lam_words hts (hwU U hU)) hm hx hpl hk
    obtain ⟨ff, f1, f2, f3⟩ := hf 1 _ rfl
    exact ⟨ff, f1, f2, by rw [f3]; exact hv2⟩
  refine lv_aload_n hexec hck fd1_8 rfl (lv_at hl 0 rfl) ?_
  refine n_lget2 hexec hck (index := 22) (k := E.2 (3000 + k)) (ce := ce) (v := v3) (fun U hU => ?_) hce (fun h9 => by rw [hcv] at h9; cases h9) fd1_9 ?_
  · obtain ⟨d2, -, -, -, hf, -⟩ := lam_fact (hK.warm (hwU U hU)) (lam_words hts (hwU U hU)) hm hx hpl hk
    obtain ⟨ff, f1, f2, f3⟩ := hf 2 _ rfl
    exact ⟨ff, f1, f2, by rw [f3]; exact hv3⟩
  refine lv_aload_n hexec hck fd1_12 rfl (lv_at hl 1 rfl) ?_
  have hws : ∀ w ∈ ws_ y by_ mL (some .int), ∀ a2 U, (T.calling g' ⟨E.2 (3000 + k), 1⟩ ([.ref bq, .ref st] : List Value).toArray).WarmedH U.vm → w.before a2 U = true := fun w hw a2 U hU => pay_in hts (lw_meth hcode) w hw a2 U (hwU U hU)
  exact n_fwEnd hexec hck hret hlk hex (a := ([v1, v2, v3, .ref st] : List Value).toArray) (n_lrunS hexec hck (As := [v1, v2, v3, .ref st]) (rest := []) (g := F0 ⟨E.2 (3000 + k), 1⟩ 13 ls2 [.ref st, v3, v2, v1]) (vx_back (W9 := 8) hM hp.1 hrc hrs (Nat.le_refl _) (Nat.le_refl _) hws List.mem_cons_self (fun a2 U hU => pay_in hts lw_self _ hini a2 U (hwU U hU))) (fun U hU => lam_stat (hK.warm (hwU U hU)) (lam_words hts (hwU U hU)) hm hx hpl hk hy hy2 hcode hst hini hsig hn) ⟨hp.1, fun U hU hU2 => hp.2 U hU (hwU U hU2)⟩ rfl (hl.1.trans hmax.symm) rfl (by show 2 * 0 + 0 ≤ 8; decide) fd1_13 ⟨by show 0 + mc ≤ mc; omega, by show 0 + ms ≤ ms; omega⟩) fd1_16
theorem n_fwS2 (hexec : p.tables.exec = Jvm.exec) (hb : c.code = cc) (hsz : ls.size = c.maxLocals) (hts : ∀ w ∈ lw_all, w.before args s = true) (hK : KE E s) (hown : s.vm.findClass own = some m.cls) (hlink : (Cond.methodLink own index xApply).before args s = true)
    (hm : (k, Cond.lambdaSite x pc0 idx0 σ) ∈ LSS) (hx : x.cls = host) (hpl : plainName (host ++ "$$Lambda") = true) {d1 : String} (hk : LKok σ host fb2 2 .int tys [(15, 2, 14, "arg$1", d1)] 23 19 18 22 = true) (hσ : σ.iface = xApply.cls ∧ σ.name = xApply.name ∧ σ.sam.toString = xApply.desc)
    (hy : σ.implClass = y.cls ∧ σ.implName = y.name ∧ σ.implDesc.toString = y.desc ∧ σ.implItf = false) (hy2 : y.cls ≠ "java/lang/invoke/MethodHandle" ∧ y.cls ≠ "java/lang/invoke/VarHandle") (hcode : Cond.code y by_ mL (some .int) ∈ lw_all) (hini : Cond.initialized y.cls ∈ lw_all) (hsig : parseMethodDescriptor y.desc = some sig) (hn : 2 = sig.parameters.length)
    (hM : vx_Met l y (ws_ y by_ mL (some .int)) rm Pc (UQx E C x1 w1 A) (UXx E Cx wx rx A) mc ms A) (hrc : rm.cells = mc) (hrs : rm.slots = ms)
    (hst : Cond.static y ∈ lw_all) {st : Nat} {bq : Nat} {ce : Cell} (hce : H[bq]? = some ce) (hcls : ce.cls = E.2 (3000 + k)) (hcv : ce.vm = .none) {v1 : Value} (hv1 : ce.slots[0]? = some v1) (hp : PreS s H Pc [v1, .ref st])
    (hRf : rm.frames + 2 ≤ R.frames) (hRl : (rest.map fun v => v.category).sum + 13 + (8 + (mL + 11) + rm.locals) ≤ R.locals) (hRc : cells + mc ≤ R.cells) (hRs : slots + ms ≤ R.slots) (hdg : decode cc pc = .ok (.invokeinterface index 2, 5)) :
    vx_Run5 p l e R s m args below meth c H locs cells slots mc ms (F0 m pc ls (.ref st :: .ref bq :: rest)) rest (UQx E C x1 w1 A (Value.ref bq :: [.ref st]).toArray) (UXx E Cx wx rx A) A := by
  have hw0 := lam_words hts (State.WarmedH.refl s)
  obtain ⟨d, h7, h8, hL, -, -⟩ := lam_fact hK hw0 hm hx hpl hk
  refine n_lrunF (n := 0) hexec hb hown hlink (va_Nw.use rfl hK.kx.2.2.1.1) (va_Nw.use rfl hK.kx.2.2.1.2) (by decide) hσ h7 h8 hL hce hcls hcv (As := [.ref st]) (g := F0 m pc ls (.ref st :: .ref bq :: rest)) rfl (fun sg hsg => ?_) hsz rfl hdg (R' := { frames := rm.frames + 1, locals := 8 + (mL + 11) + rm.locals, cells := mc, slots := ms }) (by show rm.frames + 1 + 1 ≤ R.frames; omega) (by show 2 * 0 + (rest.map fun v => v.category).sum + (2 + 11) + (8 + (mL + 11) + rm.locals) ≤ R.locals; omega) hRc hRs (fun T g' methk ck hT hW hLT hck hmax hex hlk hret => ?_)
  · have h1 : (parseMethodDescriptor xApply.desc).map (fun z => z.parameters.length) = some 1 := by decide +kernel
    rw [hsg] at h1
    exact (Option.some.inj h1).symm
  subst hT
  have hwU : ∀ U : State, (T.calling g' ⟨E.2 (3000 + k), 1⟩ (Value.ref bq :: [.ref st]).toArray).WarmedH U.vm → s.WarmedH U.vm := fun U hU => State.WarmedH.trans hW hU
  have hl := lv_entry ([.ref bq, .ref st]) (n := 2) (Nat.le_of_ble_eq_true rfl)
  rw [show (Value.ref bq :: [.ref st]).toArray = ([.ref bq, .ref st] : List Value).toArray from rfl, lg_entry_eq]
  generalize (lg_sl ([.ref bq, .ref st]) ++ List.replicate (2 - (lg_sl ([.ref bq, .ref st])).length) Slot.unset).toArray = ls2 at hl ⊢
  have hl : lv_has ls2 2 [(0, .ref bq), (1, .ref st)] := hl
  refine lv_aload_n hexec hck fd2_0 rfl (lv_at hl 0 rfl) ?_
  refine n_lget2 hexec hck (index := 15) (k := E.2 (3000 + k)) (ce := ce) (v := v1) (fun U hU => ?_) hce (fun h9 => by rw [hcv] at h9; cases h9) fd2_1 ?_
  · obtain ⟨d2, -, -, -, hf, -⟩ := lam_fact (hK.warm (hwU U hU)) (lam_words hts (hwU U hU)) hm hx hpl hk
    obtain ⟨ff, f1, f2, f3⟩ := hf 0 _ rfl
    exact ⟨ff, f1, f2, by rw [f3]; exact hv1⟩
  refine lv_aload_n hexec hck fd2_4 rfl (lv_at hl 1 rfl) ?_
  have hws : ∀ w ∈ ws_ y by_ mL (some .int), ∀ a2 U, (T.calling g' ⟨E.2 (3000 + k), 1⟩ ([.ref bq, .ref st] : List Value).toArray).WarmedH U.vm → w.before a2 U = true := fun w hw a2 U hU => pay_in hts (lw_meth hcode) w hw a2 U (hwU U hU)
  exact n_fwEnd hexec hck hret hlk hex (a := ([v1, .ref st] : List Value).toArray) (n_lrunS hexec hck (As := [v1, .ref st]) (rest := []) (g := F0 ⟨E.2 (3000 + k), 1⟩ 5 ls2 [.ref st, v1]) (vx_back (W9 := 8) hM hp.1 hrc hrs (Nat.le_refl _) (Nat.le_refl _) hws List.mem_cons_self (fun a2 U hU => pay_in hts lw_self _ hini a2 U (hwU U hU))) (fun U hU => lam_stat (hK.warm (hwU U hU)) (lam_words hts (hwU U hU)) hm hx hpl hk hy hy2 hcode hst hini hsig hn) ⟨hp.1, fun U hU hU2 => hp.2 U hU (hwU U hU2)⟩ rfl (hl.1.trans hmax.symm) rfl (by show 2 * 0 + 0 ≤ 8; decide) fd2_5 ⟨by show 0 + mc ≤ mc; omega, by show 0 + ms ≤ ms; omega⟩) fd2_8
theorem n_fwS3 (hexec : p.tables.exec = Jvm.exec) (hb : c.code = cc) (hsz : ls.size = c.maxLocals) (hts : ∀ w ∈ lw_all, w.before args s = true) (hK : KE E s) (hown : s.vm.findClass own = some m.cls) (hlink : (Cond.methodLink own index xApply).before args s = true)
    (hm : (k, Cond.lambdaSite x pc0 idx0 σ) ∈ LSS) (hx : x.cls = host) (hpl : plainName (host ++ "$$Lambda") = true) {d1 d2 : String} (hk : LKok σ host fb3 2 .int tys [(16, 2, 15, "arg$1", d1), (18, 2, 17, "arg$2", d2)] 26 22 21 25 = true) (hσ : σ.iface = xApply.cls ∧ σ.name = xApply.name ∧ σ.sam.toString = xApply.desc)
    (hy : σ.implClass = y.cls ∧ σ.implName = y.name ∧ σ.implDesc.toString = y.desc ∧ σ.implItf = false) (hy2 : y.cls ≠ "java/lang/invoke/MethodHandle" ∧ y.cls ≠ "java/lang/invoke/VarHandle") (hcode : Cond.code y by_ mL (some .int) ∈ lw_all) (hini : Cond.initialized y.cls ∈ lw_all) (hsig : parseMethodDescriptor y.desc = some sig) (hn : 3 = sig.parameters.length)
    (hM : vx_Met l y (ws_ y by_ mL (some .int)) rm Pc (UQx E C x1 w1 A) (UXx E Cx wx rx A) mc ms A) (hrc : rm.cells = mc) (hrs : rm.slots = ms)
    (hst : Cond.static y ∈ lw_all) {st : Nat} {bq : Nat} {ce : Cell} (hce : H[bq]? = some ce) (hcls : ce.cls = E.2 (3000 + k)) (hcv : ce.vm = .none) {v1 : Value} (hv1 : ce.slots[0]? = some v1) {v2 : Value} (hv2 : ce.slots[1]? = some v2) (hp : PreS s H Pc [v1, v2, .ref st])
    (hRf : rm.frames + 2 ≤ R.frames) (hRl : (rest.map fun v => v.category).sum + 13 + (8 + (mL + 11) + rm.locals) ≤ R.locals) (hRc : cells + mc ≤ R.cells) (hRs : slots + ms ≤ R.slots) (hdg : decode cc pc = .ok (.invokeinterface index 2, 5)) :
    vx_Run5 p l e R s m args below meth c H locs cells slots mc ms (F0 m pc ls (.ref st :: .ref bq :: rest)) rest (UQx E C x1 w1 A (Value.ref bq :: [.ref st]).toArray) (UXx E Cx wx rx A) A := by
  have hw0 := lam_words hts (State.WarmedH.refl s)
  obtain ⟨d, h7, h8, hL, -, -⟩ := lam_fact hK hw0 hm hx hpl hk
  refine n_lrunF (n := 0) hexec hb hown hlink (va_Nw.use rfl hK.kx.2.2.1.1) (va_Nw.use rfl hK.kx.2.2.1.2) (by decide) hσ h7 h8 hL hce hcls hcv (As := [.ref st]) (g := F0 m pc ls (.ref st :: .ref bq :: rest)) rfl (fun sg hsg => ?_) hsz rfl hdg (R' := { frames := rm.frames + 1, locals := 8 + (mL + 11) + rm.locals, cells := mc, slots := ms }) (by show rm.frames + 1 + 1 ≤ R.frames; omega) (by show 2 * 0 + (rest.map fun v => v.category).sum + (2 + 11) + (8 + (mL + 11) + rm.locals) ≤ R.locals; omega) hRc hRs (fun T g' methk ck hT hW hLT hck hmax hex hlk hret => ?_)
  · have h1 : (parseMethodDescriptor xApply.desc).map (fun z => z.parameters.length) = some 1 := by decide +kernel
    rw [hsg] at h1
    exact (Option.some.inj h1).symm
  subst hT
  have hwU : ∀ U : State, (T.calling g' ⟨E.2 (3000 + k), 1⟩ (Value.ref bq :: [.ref st]).toArray).WarmedH U.vm → s.WarmedH U.vm := fun U hU => State.WarmedH.trans hW hU
  have hl := lv_entry ([.ref bq, .ref st]) (n := 2) (Nat.le_of_ble_eq_true rfl)
  rw [show (Value.ref bq :: [.ref st]).toArray = ([.ref bq, .ref st] : List Value).toArray from rfl, lg_entry_eq]
  generalize (lg_sl ([.ref bq, .ref st]) ++ List.replicate (2 - (lg_sl ([.ref bq, .ref st])).length) Slot.unset).toArray = ls2 at hl ⊢
  have hl : lv_has ls2 2 [(0, .ref bq), (1, .ref st)] := hl
  refine lv_aload_n hexec hck fd3_0 rfl (lv_at hl 0 rfl) ?_
  refine n_lget2 hexec hck (index := 16) (k := E.2 (3000 + k)) (ce := ce) (v := v1) (fun U hU => ?_) hce (fun h9 => by rw [hcv] at h9; cases h9) fd3_1 ?_
  · obtain ⟨d2, -, -, -, hf, -⟩ := lam_fact (hK.warm (hwU U hU)) (lam_words hts (hwU U hU)) hm hx hpl hk
    obtain ⟨ff, f1, f2, f3⟩ := hf 0 _ rfl
    exact ⟨ff, f1, f2, by rw [f3]; exact hv1⟩
  refine lv_aload_n hexec hck fd3_4 rfl (lv_at hl 0 rfl) ?_
  refine n_lget2 hexec hck (index := 18) (k := E.2 (3000 + k)) (ce := ce) (v := v2) (fun U hU => ?_) hce (fun h9 => by rw [hcv] at h9; cases h9) fd3_5 ?_
  · obtain ⟨d2, -, -, -, hf, -⟩ := lam_fact (hK.warm (hwU U hU)) (lam_words hts (hwU U hU)) hm hx hpl hk
    obtain ⟨ff, f1, f2, f3⟩ := hf 1 _ rfl
    exact ⟨ff, f1, f2, by rw [f3]; exact hv2⟩
  refine lv_aload_n hexec hck fd3_8 rfl (lv_at hl 1 rfl) ?_
  have hws : ∀ w ∈ ws_ y by_ mL (some .int), ∀ a2 U, (T.calling g' ⟨E.2 (3000 + k), 1⟩ ([.ref bq, .ref st] : List Value).toArray).WarmedH U.vm → w.before a2 U = true := fun w hw a2 U hU => pay_in hts (lw_meth hcode) w hw a2 U (hwU U hU)
  exact n_fwEnd hexec hck hret hlk hex (a := ([v1, v2, .ref st] : List Value).toArray) (n_lrunS hexec hck (As := [v1, v2, .ref st]) (rest := []) (g := F0 ⟨E.2 (3000 + k), 1⟩ 9 ls2 [.ref st, v2, v1]) (vx_back (W9 := 8) hM hp.1 hrc hrs (Nat.le_refl _) (Nat.le_refl _) hws List.mem_cons_self (fun a2 U hU => pay_in hts lw_self _ hini a2 U (hwU U hU))) (fun U hU => lam_stat (hK.warm (hwU U hU)) (lam_words hts (hwU U hU)) hm hx hpl hk hy hy2 hcode hst hini hsig hn) ⟨hp.1, fun U hU hU2 => hp.2 U hU (hwU U hU2)⟩ rfl (hl.1.trans hmax.symm) rfl (by show 2 * 0 + 0 ≤ 8; decide) fd3_9 ⟨by show 0 + mc ≤ mc; omega, by show 0 + ms ≤ ms; omega⟩) fd3_12
theorem n_fwS4 (hexec : p.tables.exec = Jvm.exec) (hb : c.code = cc) (hsz : ls.size = c.maxLocals) (hts : ∀ w ∈ lw_all, w.before args s = true) (hK : KE E s) (hown : s.vm.findClass own = some m.cls) (hlink : (Cond.methodLink own index xApply).before args s = true)
    (hm : (k, Cond.lambdaSite x pc0 idx0 σ) ∈ LSS) (hx : x.cls = host) (hpl : plainName (host ++ "$$Lambda") = true) (hk : LKok σ host fb4 2 .int tys [] 17 14 13 16 = true) (hσ : σ.iface = xApply.cls ∧ σ.name = xApply.name ∧ σ.sam.toString = xApply.desc)
    (hy : σ.implClass = y.cls ∧ σ.implName = y.name ∧ σ.implDesc.toString = y.desc ∧ σ.implItf = false) (hy2 : y.cls ≠ "java/lang/invoke/MethodHandle" ∧ y.cls ≠ "java/lang/invoke/VarHandle") (hcode : Cond.code y by_ mL (some .int) ∈ lw_all) (hini : Cond.initialized y.cls ∈ lw_all) (hsig : parseMethodDescriptor y.desc = some sig) (hn : 1 = sig.parameters.length)
    (hM : vx_Met l y (ws_ y by_ mL (some .int)) rm Pc (UQx E C x1 w1 A) (UXx E Cx wx rx A) mc ms A) (hrc : rm.cells = mc) (hrs : rm.slots = ms)
    (hst : Cond.static y ∈ lw_all) {st : Nat} {bq : Nat} {ce : Cell} (hce : H[bq]? = some ce) (hcls : ce.cls = E.2 (3000 + k)) (hcv : ce.vm = .none) (hp : PreS s H Pc [.ref st])
    (hRf : rm.frames + 2 ≤ R.frames) (hRl : (rest.map fun v => v.category).sum + 13 + (8 + (mL + 11) + rm.locals) ≤ R.locals) (hRc : cells + mc ≤ R.cells) (hRs : slots + ms ≤ R.slots) (hdg : decode cc pc = .ok (.invokeinterface index 2, 5)) :
    vx_Run5 p l e R s m args below meth c H locs cells slots mc ms (F0 m pc ls (.ref st :: .ref bq :: rest)) rest (UQx E C x1 w1 A (Value.ref bq :: [.ref st]).toArray) (UXx E Cx wx rx A) A := by
  have hw0 := lam_words hts (State.WarmedH.refl s)
  obtain ⟨d, h7, h8, hL, -, -⟩ := lam_fact hK hw0 hm hx hpl hk
  refine n_lrunF (n := 0) hexec hb hown hlink (va_Nw.use rfl hK.kx.2.2.1.1) (va_Nw.use rfl hK.kx.2.2.1.2) (by decide) hσ h7 h8 hL hce hcls hcv (As := [.ref st]) (g := F0 m pc ls (.ref st :: .ref bq :: rest)) rfl (fun sg hsg => ?_) hsz rfl hdg (R' := { frames := rm.frames + 1, locals := 8 + (mL + 11) + rm.locals, cells := mc, slots := ms }) (by show rm.frames + 1 + 1 ≤ R.frames; omega) (by show 2 * 0 + (rest.map fun v => v.category).sum + (2 + 11) + (8 + (mL + 11) + rm.locals) ≤ R.locals; omega) hRc hRs (fun T g' methk ck hT hW hLT hck hmax hex hlk hret => ?_)
  · have h1 : (parseMethodDescriptor xApply.desc).map (fun z => z.parameters.length) = some 1 := by decide +kernel
    rw [hsg] at h1
    exact (Option.some.inj h1).symm
  subst hT
  have hwU : ∀ U : State, (T.calling g' ⟨E.2 (3000 + k), 1⟩ (Value.ref bq :: [.ref st]).toArray).WarmedH U.vm → s.WarmedH U.vm := fun U hU => State.WarmedH.trans hW hU
  have hl := lv_entry ([.ref bq, .ref st]) (n := 2) (Nat.le_of_ble_eq_true rfl)
  rw [show (Value.ref bq :: [.ref st]).toArray = ([.ref bq, .ref st] : List Value).toArray from rfl, lg_entry_eq]
  generalize (lg_sl ([.ref bq, .ref st]) ++ List.replicate (2 - (lg_sl ([.ref bq, .ref st])).length) Slot.unset).toArray = ls2 at hl ⊢
  have hl : lv_has ls2 2 [(0, .ref bq), (1, .ref st)] := hl
  refine lv_aload_n hexec hck fd4_0 rfl (lv_at hl 1 rfl) ?_
  have hws : ∀ w ∈ ws_ y by_ mL (some .int), ∀ a2 U, (T.calling g' ⟨E.2 (3000 + k), 1⟩ ([.ref bq, .ref st] : List Value).toArray).WarmedH U.vm → w.before a2 U = true := fun w hw a2 U hU => pay_in hts (lw_meth hcode) w hw a2 U (hwU U hU)
  exact n_fwEnd hexec hck hret hlk hex (a := ([.ref st] : List Value).toArray) (n_lrunS hexec hck (As := [.ref st]) (rest := []) (g := F0 ⟨E.2 (3000 + k), 1⟩ 1 ls2 [.ref st]) (vx_back (W9 := 8) hM hp.1 hrc hrs (Nat.le_refl _) (Nat.le_refl _) hws List.mem_cons_self (fun a2 U hU => pay_in hts lw_self _ hini a2 U (hwU U hU))) (fun U hU => lam_stat (hK.warm (hwU U hU)) (lam_words hts (hwU U hU)) hm hx hpl hk hy hy2 hcode hst hini hsig hn) ⟨hp.1, fun U hU hU2 => hp.2 U hU (hwU U hU2)⟩ rfl (hl.1.trans hmax.symm) rfl (by show 2 * 0 + 0 ≤ 8; decide) fd4_1 ⟨by show 0 + mc ≤ mc; omega, by show 0 + ms ≤ ms; omega⟩) fd4_4
theorem n_fwS5 (hexec : p.tables.exec = Jvm.exec) (hb : c.code = cc) (hsz : ls.size = c.maxLocals) (hts : ∀ w ∈ lw_all, w.before args s = true) (hK : KE E s) (hown : s.vm.findClass own = some m.cls) (hlink : (Cond.methodLink own index xApply).before args s = true)
    (hm : (k, Cond.lambdaSite x pc0 idx0 σ) ∈ LSS) (hx : x.cls = host) (hpl : plainName (host ++ "$$Lambda") = true) {d1 d2 : String} (hk : LKok σ host fb5 2 .int tys [(17, 2, 16, "arg$1", d1), (19, 2, 18, "arg$2", d2)] 27 23 22 26 = true) (hσ : σ.iface = xApply.cls ∧ σ.name = xApply.name ∧ σ.sam.toString = xApply.desc)
    (hy : σ.implClass = y.cls ∧ σ.implName = y.name ∧ σ.implDesc.toString = y.desc ∧ σ.implItf = false) (hy2 : y.cls ≠ "java/lang/invoke/MethodHandle" ∧ y.cls ≠ "java/lang/invoke/VarHandle") (hcode : Cond.code y by_ mL (some .int) ∈ lw_all) (hini : Cond.initialized y.cls ∈ lw_all) (hsig : parseMethodDescriptor y.desc = some sig) (hn : 3 = sig.parameters.length)
    (hM : vx_Met l y (ws_ y by_ mL (some .int)) rm Pc (UQx E C x1 w1 A) (UXx E Cx wx rx A) mc ms A) (hrc : rm.cells = mc) (hrs : rm.slots = ms)
    (hst : Cond.static y ∈ lw_all) {st : Nat} {bq : Nat} {ce : Cell} (hce : H[bq]? = some ce) (hcls : ce.cls = E.2 (3000 + k)) (hcv : ce.vm = .none) {v1 : Value} (hv1 : ce.slots[0]? = some v1) {v2 : Value} (hv2 : ce.slots[1]? = some v2) (hp : PreS s H Pc [v1, v2, .ref st])
    (hRf : rm.frames + 2 ≤ R.frames) (hRl : (rest.map fun v => v.category).sum + 13 + (8 + (mL + 11) + rm.locals) ≤ R.locals) (hRc : cells + mc ≤ R.cells) (hRs : slots + ms ≤ R.slots) (hdg : decode cc pc = .ok (.invokeinterface index 2, 5)) :
    vx_Run5 p l e R s m args below meth c H locs cells slots mc ms (F0 m pc ls (.ref st :: .ref bq :: rest)) rest (UQx E C x1 w1 A (Value.ref bq :: [.ref st]).toArray) (UXx E Cx wx rx A) A := by
  have hw0 := lam_words hts (State.WarmedH.refl s)
  obtain ⟨d, h7, h8, hL, -, -⟩ := lam_fact hK hw0 hm hx hpl hk
  refine n_lrunF (n := 0) hexec hb hown hlink (va_Nw.use rfl hK.kx.2.2.1.1) (va_Nw.use rfl hK.kx.2.2.1.2) (by decide) hσ h7 h8 hL hce hcls hcv (As := [.ref st]) (g := F0 m pc ls (.ref st :: .ref bq :: rest)) rfl (fun sg hsg => ?_) hsz rfl hdg (R' := { frames := rm.frames + 1, locals := 8 + (mL + 11) + rm.locals, cells := mc, slots := ms }) (by show rm.frames + 1 + 1 ≤ R.frames; omega) (by show 2 * 0 + (rest.map fun v => v.category).sum + (2 + 11) + (8 + (mL + 11) + rm.locals) ≤ R.locals; omega) hRc hRs (fun T g' methk ck hT hW hLT hck hmax hex hlk hret => ?_)
  · have h1 : (parseMethodDescriptor xApply.desc).map (fun z => z.parameters.length) = some 1 := by decide +kernel
    rw [hsg] at h1
    exact (Option.some.inj h1).symm
  subst hT
  have hwU : ∀ U : State, (T.calling g' ⟨E.2 (3000 + k), 1⟩ (Value.ref bq :: [.ref st]).toArray).WarmedH U.vm → s.WarmedH U.vm := fun U hU => State.WarmedH.trans hW hU
  have hl := lv_entry ([.ref bq, .ref st]) (n := 2) (Nat.le_of_ble_eq_true rfl)
  rw [show (Value.ref bq :: [.ref st]).toArray = ([.ref bq, .ref st] : List Value).toArray from rfl, lg_entry_eq]
  generalize (lg_sl ([.ref bq, .ref st]) ++ List.replicate (2 - (lg_sl ([.ref bq, .ref st])).length) Slot.unset).toArray = ls2 at hl ⊢
  have hl : lv_has ls2 2 [(0, .ref bq), (1, .ref st)] := hl
  refine lv_aload_n hexec hck fd5_0 rfl (lv_at hl 0 rfl) ?_
  refine n_lget2 hexec hck (index := 17) (k := E.2 (3000 + k)) (ce := ce) (v := v1) (fun U hU => ?_) hce (fun h9 => by rw [hcv] at h9; cases h9) fd5_1 ?_
  · obtain ⟨d2, -, -, -, hf, -⟩ := lam_fact (hK.warm (hwU U hU)) (lam_words hts (hwU U hU)) hm hx hpl hk
    obtain ⟨ff, f1, f2, f3⟩ := hf 0 _ rfl
    exact ⟨ff, f1, f2, by rw [f3]; exact hv1⟩
  refine lv_aload_n hexec hck fd5_4 rfl (lv_at hl 0 rfl) ?_
  refine n_lget2 hexec hck (index := 19) (k := E.2 (3000 + k)) (ce := ce) (v := v2) (fun U hU => ?_) hce (fun h9 => by rw [hcv] at h9; cases h9) fd5_5 ?_
  · obtain ⟨d2, -, -, -, hf, -⟩ := lam_fact (hK.warm (hwU U hU)) (lam_words hts (hwU U hU)) hm hx hpl hk
    obtain ⟨ff, f1, f2, f3⟩ := hf 1 _ rfl
    exact ⟨ff, f1, f2, by rw [f3]; exact hv2⟩
  refine lv_aload_n hexec hck fd5_8 rfl (lv_at hl 1 rfl) ?_
  have hws : ∀ w ∈ ws_ y by_ mL (some .int), ∀ a2 U, (T.calling g' ⟨E.2 (3000 + k), 1⟩ ([.ref bq, .ref st] : List Value).toArray).WarmedH U.vm → w.before a2 U = true := fun w hw a2 U hU => pay_in hts (lw_meth hcode) w hw a2 U (hwU U hU)
  exact n_fwEnd hexec hck hret hlk hex (a := ([v1, v2, .ref st] : List Value).toArray) (n_lrunS hexec hck (As := [v1, v2, .ref st]) (rest := []) (g := F0 ⟨E.2 (3000 + k), 1⟩ 9 ls2 [.ref st, v2, v1]) (vx_back (W9 := 8) hM hp.1 hrc hrs (Nat.le_refl _) (Nat.le_refl _) hws List.mem_cons_self (fun a2 U hU => pay_in hts lw_self _ hini a2 U (hwU U hU))) (fun U hU => lam_stat (hK.warm (hwU U hU)) (lam_words hts (hwU U hU)) hm hx hpl hk hy hy2 hcode hst hini hsig hn) ⟨hp.1, fun U hU hU2 => hp.2 U hU (hwU U hU2)⟩ rfl (hl.1.trans hmax.symm) rfl (by show 2 * 0 + 0 ≤ 8; decide) fd5_9 ⟨by show 0 + mc ≤ mc; omega, by show 0 + ms ≤ ms; omega⟩) fd5_12
theorem n_fwS6 (hexec : p.tables.exec = Jvm.exec) (hb : c.code = cc) (hsz : ls.size = c.maxLocals) (hts : ∀ w ∈ lw_all, w.before args s = true) (hK : KE E s) (hown : s.vm.findClass own = some m.cls) (hlink : (Cond.methodLink own index xApply).before args s = true)
    (hm : (k, Cond.lambdaSite x pc0 idx0 σ) ∈ LSS) (hx : x.cls = host) (hpl : plainName (host ++ "$$Lambda") = true) {d1 d2 d3 : String} (hk : LKok σ host fb6 2 .int tys [(17, 2, 16, "arg$1", d1), (19, 2, 18, "arg$2", d2), (21, 2, 20, "arg$3", d3)] 29 25 24 28 = true) (hσ : σ.iface = xApply.cls ∧ σ.name = xApply.name ∧ σ.sam.toString = xApply.desc)
    (hy : σ.implClass = y.cls ∧ σ.implName = y.name ∧ σ.implDesc.toString = y.desc ∧ σ.implItf = false) (hy2 : y.cls ≠ "java/lang/invoke/MethodHandle" ∧ y.cls ≠ "java/lang/invoke/VarHandle") (hcode : Cond.code y by_ mL (some .int) ∈ lw_all) (hini : Cond.initialized y.cls ∈ lw_all) (hsig : parseMethodDescriptor y.desc = some sig) (hn : 4 = sig.parameters.length)
    (hM : vx_Met l y (ws_ y by_ mL (some .int)) rm Pc (UQx E C x1 w1 A) (UXx E Cx wx rx A) mc ms A) (hrc : rm.cells = mc) (hrs : rm.slots = ms)
    (hst : Cond.static y ∈ lw_all) {st : Nat} {bq : Nat} {ce : Cell} (hce : H[bq]? = some ce) (hcls : ce.cls = E.2 (3000 + k)) (hcv : ce.vm = .none) {v1 : Value} (hv1 : ce.slots[0]? = some v1) {v2 : Value} (hv2 : ce.slots[1]? = some v2) {v3 : Value} (hv3 : ce.slots[2]? = some v3) (hp : PreS s H Pc [v1, v2, v3, .ref st])
    (hRf : rm.frames + 2 ≤ R.frames) (hRl : (rest.map fun v => v.category).sum + 13 + (8 + (mL + 11) + rm.locals) ≤ R.locals) (hRc : cells + mc ≤ R.cells) (hRs : slots + ms ≤ R.slots) (hdg : decode cc pc = .ok (.invokeinterface index 2, 5)) :
    vx_Run5 p l e R s m args below meth c H locs cells slots mc ms (F0 m pc ls (.ref st :: .ref bq :: rest)) rest (UQx E C x1 w1 A (Value.ref bq :: [.ref st]).toArray) (UXx E Cx wx rx A) A := by
  have hw0 := lam_words hts (State.WarmedH.refl s)
  obtain ⟨d, h7, h8, hL, -, -⟩ := lam_fact hK hw0 hm hx hpl hk
  refine n_lrunF (n := 0) hexec hb hown hlink (va_Nw.use rfl hK.kx.2.2.1.1) (va_Nw.use rfl hK.kx.2.2.1.2) (by decide) hσ h7 h8 hL hce hcls hcv (As := [.ref st]) (g := F0 m pc ls (.ref st :: .ref bq :: rest)) rfl (fun sg hsg => ?_) hsz rfl hdg (R' := { frames := rm.frames + 1, locals := 8 + (mL + 11) + rm.locals, cells := mc, slots := ms }) (by show rm.frames + 1 + 1 ≤ R.frames; omega) (by show 2 * 0 + (rest.map fun v => v.category).sum + (2 + 11) + (8 + (mL + 11) + rm.locals) ≤ R.locals; omega) hRc hRs (fun T g' methk ck hT hW hLT hck hmax hex hlk hret => ?_)
  · have h1 : (parseMethodDescriptor xApply.desc).map (fun z => z.parameters.length) = some 1 := by decide +kernel
    rw [hsg] at h1
    exact (Option.some.inj h1).symm
  subst hT
  have hwU : ∀ U : State, (T.calling g' ⟨E.2 (3000 + k), 1⟩ (Value.ref bq :: [.ref st]).toArray).WarmedH U.vm → s.WarmedH U.vm := fun U hU => State.WarmedH.trans hW hU
  have hl := lv_entry ([.ref bq, .ref st]) (n := 2) (Nat.le_of_ble_eq_true rfl)
  rw [show (Value.ref bq :: [.ref st]).toArray = ([.ref bq, .ref st] : List Value).toArray from rfl, lg_entry_eq]
  generalize (lg_sl ([.ref bq, .ref st]) ++ List.replicate (2 - (lg_sl ([.ref bq, .ref st])).length) Slot.unset).toArray = ls2 at hl ⊢
  have hl : lv_has ls2 2 [(0, .ref bq), (1, .ref st)] := hl
  refine lv_aload_n hexec hck fd6_0 rfl (lv_at hl 0 rfl) ?_
  refine n_lget2 hexec hck (index := 17) (k := E.2 (3000 + k)) (ce := ce) (v := v1) (fun U hU => ?_) hce (fun h9 => by rw [hcv] at h9; cases h9) fd6_1 ?_
  · obtain ⟨d2, -, -, -, hf, -⟩ := lam_fact (hK.warm (hwU U hU)) (lam_words hts (hwU U hU)) hm hx hpl hk
    obtain ⟨ff, f1, f2, f3⟩ := hf 0 _ rfl
    exact ⟨ff, f1, f2, by rw [f3]; exact hv1⟩
  refine lv_aload_n hexec hck fd6_4 rfl (lv_at hl 0 rfl) ?_
  refine n_lget2 hexec hck (index := 19) (k := E.2 (3000 + k)) (ce := ce) (v := v2) (fun U hU => ?_) hce (fun h9 => by rw [hcv] at h9; cases h9) fd6_5 ?_
  · obtain ⟨d2, -, -, -, hf, -⟩ := lam_fact (hK.warm (hwU U hU)) (lam_words hts (hwU U hU)) hm hx hpl hk
    obtain ⟨ff, f1, f2, f3⟩ := hf 1 _ rfl
    exact ⟨ff, f1, f2, by rw [f3]; exact hv2⟩
  refine lv_aload_n hexec hck fd6_8 rfl (lv_at hl 0 rfl) ?_
  refine n_lget2 hexec hck (index := 21) (k := E.2 (3000 + k)) (ce := ce) (v := v3) (fun U hU => ?_) hce (fun h9 => by rw [hcv] at h9; cases h9) fd6_9 ?_
  · obtain ⟨d2, -, -, -, hf, -⟩ := lam_fact (hK.warm (hwU U hU)) (lam_words hts (hwU U hU)) hm hx hpl hk
    obtain ⟨ff, f1, f2, f3⟩ := hf 2 _ rfl
    exact ⟨ff, f1, f2, by rw [f3]; exact hv3⟩
  refine lv_aload_n hexec hck fd6_12 rfl (lv_at hl 1 rfl) ?_
  have hws : ∀ w ∈ ws_ y by_ mL (some .int), ∀ a2 U, (T.calling g' ⟨E.2 (3000 + k), 1⟩ ([.ref bq, .ref st] : List Value).toArray).WarmedH U.vm → w.before a2 U = true := fun w hw a2 U hU => pay_in hts (lw_meth hcode) w hw a2 U (hwU U hU)
  exact n_fwEnd hexec hck hret hlk hex (a := ([v1, v2, v3, .ref st] : List Value).toArray) (n_lrunS hexec hck (As := [v1, v2, v3, .ref st]) (rest := []) (g := F0 ⟨E.2 (3000 + k), 1⟩ 13 ls2 [.ref st, v3, v2, v1]) (vx_back (W9 := 8) hM hp.1 hrc hrs (Nat.le_refl _) (Nat.le_refl _) hws List.mem_cons_self (fun a2 U hU => pay_in hts lw_self _ hini a2 U (hwU U hU))) (fun U hU => lam_stat (hK.warm (hwU U hU)) (lam_words hts (hwU U hU)) hm hx hpl hk hy hy2 hcode hst hini hsig hn) ⟨hp.1, fun U hU hU2 => hp.2 U hU (hwU U hU2)⟩ rfl (hl.1.trans hmax.symm) rfl (by show 2 * 0 + 0 ≤ 8; decide) fd6_13 ⟨by show 0 + mc ≤ mc; omega, by show 0 + ms ≤ ms; omega⟩) fd6_16
theorem n_fwV7 (hexec : p.tables.exec = Jvm.exec) (hb : c.code = cc) (hsz : ls.size = c.maxLocals) (hts : ∀ w ∈ lw_all, w.before args s = true) (hK : KE E s) (hown : s.vm.findClass own = some m.cls) (hlink : (Cond.methodLink own index xApply).before args s = true)
    (hm : (k, Cond.lambdaSite x pc0 idx0 σ) ∈ LSS) (hx : x.cls = host) (hpl : plainName (host ++ "$$Lambda") = true) {d1 : String} (hk : LKok σ host fb7 2 .int tys [(15, 2, 14, "arg$1", d1)] 22 19 18 21 = true) (hσ : σ.iface = xApply.cls ∧ σ.name = xApply.name ∧ σ.sam.toString = xApply.desc)
    (hy : σ.implClass = y.cls ∧ σ.implName = y.name ∧ σ.implDesc.toString = y.desc ∧ σ.implItf = false) (hy2 : y.cls ≠ "java/lang/invoke/MethodHandle" ∧ y.cls ≠ "java/lang/invoke/VarHandle") (hcode : Cond.code y by_ mL (some .int) ∈ lw_all) (hini : Cond.initialized y.cls ∈ lw_all) (hsig : parseMethodDescriptor y.desc = some sig) (hn : 1 = sig.parameters.length)
    (hM : vx_Met l y (ws_ y by_ mL (some .int)) rm Pc (UQx E C x1 w1 A) (UXx E Cx wx rx A) mc ms A) (hrc : rm.cells = mc) (hrs : rm.slots = ms)
    (hst : Cond.instanceMethod y ∈ lw_all) (hse : Cond.selects y.cls y y ∈ lw_all) {st : Nat} {bq : Nat} {ce : Cell} (hce : H[bq]? = some ce) (hcls : ce.cls = E.2 (3000 + k)) (hcv : ce.vm = .none) {bk : Nat} (hv1 : ce.slots[0]? = some (.ref bk)) (hp : PreV s H y.cls bk Pc [.ref st])
    (hRf : rm.frames + 2 ≤ R.frames) (hRl : (rest.map fun v => v.category).sum + 13 + (8 + (mL + 11) + rm.locals) ≤ R.locals) (hRc : cells + mc ≤ R.cells) (hRs : slots + ms ≤ R.slots) (hdg : decode cc pc = .ok (.invokeinterface index 2, 5)) :
    vx_Run5 p l e R s m args below meth c H locs cells slots mc ms (F0 m pc ls (.ref st :: .ref bq :: rest)) rest (UQx E C x1 w1 A (Value.ref bq :: [.ref st]).toArray) (UXx E Cx wx rx A) A := by
  have hw0 := lam_words hts (State.WarmedH.refl s)
  obtain ⟨d, h7, h8, hL, -, -⟩ := lam_fact hK hw0 hm hx hpl hk
  refine n_lrunF (n := 0) hexec hb hown hlink (va_Nw.use rfl hK.kx.2.2.1.1) (va_Nw.use rfl hK.kx.2.2.1.2) (by decide) hσ h7 h8 hL hce hcls hcv (As := [.ref st]) (g := F0 m pc ls (.ref st :: .ref bq :: rest)) rfl (fun sg hsg => ?_) hsz rfl hdg (R' := { frames := rm.frames + 1, locals := 8 + (mL + 11) + rm.locals, cells := mc, slots := ms }) (by show rm.frames + 1 + 1 ≤ R.frames; omega) (by show 2 * 0 + (rest.map fun v => v.category).sum + (2 + 11) + (8 + (mL + 11) + rm.locals) ≤ R.locals; omega) hRc hRs (fun T g' methk ck hT hW hLT hck hmax hex hlk hret => ?_)
  · have h1 : (parseMethodDescriptor xApply.desc).map (fun z => z.parameters.length) = some 1 := by decide +kernel
    rw [hsg] at h1
    exact (Option.some.inj h1).symm
  subst hT
  have hwU : ∀ U : State, (T.calling g' ⟨E.2 (3000 + k), 1⟩ (Value.ref bq :: [.ref st]).toArray).WarmedH U.vm → s.WarmedH U.vm := fun U hU => State.WarmedH.trans hW hU
  have hl := lv_entry ([.ref bq, .ref st]) (n := 2) (Nat.le_of_ble_eq_true rfl)
  rw [show (Value.ref bq :: [.ref st]).toArray = ([.ref bq, .ref st] : List Value).toArray from rfl, lg_entry_eq]
  generalize (lg_sl ([.ref bq, .ref st]) ++ List.replicate (2 - (lg_sl ([.ref bq, .ref st])).length) Slot.unset).toArray = ls2 at hl ⊢
  have hl : lv_has ls2 2 [(0, .ref bq), (1, .ref st)] := hl
  refine lv_aload_n hexec hck fd7_0 rfl (lv_at hl 0 rfl) ?_
  refine n_lget2 hexec hck (index := 15) (k := E.2 (3000 + k)) (ce := ce) (v := .ref bk) (fun U hU => ?_) hce (fun h9 => by rw [hcv] at h9; cases h9) fd7_1 ?_
  · obtain ⟨d2, -, -, -, hf, -⟩ := lam_fact (hK.warm (hwU U hU)) (lam_words hts (hwU U hU)) hm hx hpl hk
    obtain ⟨ff, f1, f2, f3⟩ := hf 0 _ rfl
    exact ⟨ff, f1, f2, by rw [f3]; exact hv1⟩
  refine lv_aload_n hexec hck fd7_4 rfl (lv_at hl 1 rfl) ?_
  have hws : ∀ w ∈ ws_ y by_ mL (some .int), ∀ a2 U, (T.calling g' ⟨E.2 (3000 + k), 1⟩ ([.ref bq, .ref st] : List Value).toArray).WarmedH U.vm → w.before a2 U = true := fun w hw a2 U hU => pay_in hts (lw_meth hcode) w hw a2 U (hwU U hU)
  refine n_adm (fun hadm => ?_)
  obtain ⟨cellB, b1, b2_, b3⟩ := hp.2.1
  have hcU : ∀ U : State, s.WarmedH U.vm → U.vm.findClass y.cls = some cellB.cls := fun U hU => (hU.alike.findClass y.cls _).trans b3
  have hWT : s.WarmedH (T.calling g' ⟨E.2 (3000 + k), 1⟩ ([.ref bq, .ref st] : List Value).toArray).vm := hW
  exact n_fwEnd hexec hck hret hlk hex (a := (Value.ref bk :: [.ref st]).toArray) (n_lrunV hexec hck (C := y.cls) (As := [.ref st]) (rest := []) (g := F0 ⟨E.2 (3000 + k), 1⟩ 5 ls2 [.ref st, .ref bk]) (vx_back (W9 := 8) hM hp.1 hrc hrs (Nat.le_refl _) (Nat.le_refl _) hws List.mem_cons_self (fun a2 U hU => pay_in hts lw_self _ hini a2 U (hwU U hU))) (cC := cellB.cls) (hcU _ hWT) (fun U hU => lam_virt hadm (hK.warm (hwU U hU)) (lam_words hts (hwU U hU)) hm hx hpl hk hy hy2 hcode hst hse hsig hn (hcU _ (hwU U hU))) ⟨hp.1, ⟨cellB, b1, b2_, hcU _ hWT⟩, fun U hU hU2 => hp.2.2 U hU (hwU U hU2)⟩ rfl (hl.1.trans hmax.symm) rfl (by show 2 * 0 + 0 ≤ 8; decide) fd7_5 ⟨by show 0 + mc ≤ mc; omega, by show 0 + ms ≤ ms; omega⟩) fd7_8
end LAM8
