/-! ===== rows, 16: changes in a list ===== -/
section LASG
variable {E : EE} {U : State} {k pc0 idx0 : Nat} {x : MethodName} {σ : Lambda.Shape} {host : String} {bytes : List UInt8} {maxL : Nat} {ret : FieldType} {tys : List FieldType} {fl : List (Nat × Nat × Nat × String × String)} {mi ci u nt : Nat}
/-- a lambda's class can be stored where an Object can, and cast to its interface -/
theorem lasg_of (hK : KE E U) (hw : ∀ w ∈ lw_all, w.before #[] U = true) (hm : (k, Cond.lambdaSite x pc0 idx0 σ) ∈ LSS) (hx : x.cls = host) (hpl : plainName (host ++ "$$Lambda") = true) (hk : LKok σ host bytes maxL ret tys fl mi ci u nt = true) :
    (∃ kc : Class, U.vm.classes[E.2 (3000 + k)]? = some kc) ∧ (∀ o, U.vm.findClass "java/lang/Object" = some o → U.vm.assignable (E.2 (3000 + k)) o = true) ∧ ∀ i, U.vm.findClass σ.iface = some i → U.vm.assignable (E.2 (3000 + k)) i = true := by
  obtain ⟨d, h1, h2, -⟩ := lam_fact hK hw hm hx hpl hk
  obtain ⟨dk', kc, ok, tk, file, cf, object, iface, t, lay, methods, target, found, hd', hkc, hkf, hcf, hobj, -, hok, hlay, hms, ht, htk, hg, -, hrec, -⟩ := Lambda.isMade_spec h1
  refine ⟨⟨kc, hkc⟩, fun o ho => ?_, fun i hi => ?_⟩
  · cases hobj.symm.trans ho
    obtain ⟨c1, k1, hc1, hk1, hkind, hint, -, -⟩ := Cond.instantiable_spec (show (Cond.instantiable "java/lang/Object" 0).holds #[] U none U [] = true from hw _ q2584)
    cases hobj.symm.trans hc1
    have hni : k1.isInterface = false := by
      cases e : k1.isInterface with
      | false => rfl
      | true => rw [e] at hint; cases hint
    show U.vm.assignableAux (255 + 1) _ _ = true
    rw [Vm.assignableAux]
    simp only [hkc, hk1, hrec.2.1, hkind, hni]
    rw [Bool.or_eq_true]
    refine Or.inr ?_
    show U.vm.isSubclassAux (U.vm.classes.size + 1) _ _ = true
    rw [Vm.isSubclassAux]
    simp only [hkc, hrec.2.2.2.1]
    rw [Bool.or_eq_true]
    refine Or.inr ?_
    obtain ⟨z, hz⟩ : ∃ z, U.vm.classes.size = z + 1 := ⟨U.vm.classes.size - 1, by have := (Array.getElem?_eq_some_iff.mp hkc).1; omega⟩
    rw [hz, Vm.isSubclassAux]
    simp only [beq_self_eq_true, Bool.true_or]
  · unfold State.lambdaCallable at h2
    rw [hi] at h2
    simp only [Option.any_some, Bool.and_eq_true] at h2
    exact h2.1
end LASG
/-- q is a change that the parser made -/
def isL (E : EE) (q : Nat) (H : Heap) : Prop := ∃ (k : Nat) (cell : Cell), (13 ≤ k ∧ k ≤ 22) ∧ H[q]? = some cell ∧ cell.vm.isStatics = false ∧ cell.cls = E.2 (3000 + k)
theorem lasg_L {E : EE} {U : State} (hK : KE E U) (hw : ∀ w ∈ lw_all, w.before #[] U = true) {k : Nat} (hk : 13 ≤ k ∧ k ≤ 22) : (∃ kc : Class, U.vm.classes[E.2 (3000 + k)]? = some kc) ∧ (∀ o, U.vm.findClass "java/lang/Object" = some o → U.vm.assignable (E.2 (3000 + k)) o = true) ∧ ∀ i, U.vm.findClass "ClockworkTailor$Change" = some i → U.vm.assignable (E.2 (3000 + k)) i = true := by
  rcases (show k = 13 ∨ k = 14 ∨ k = 15 ∨ k = 16 ∨ k = 17 ∨ k = 18 ∨ k = 19 ∨ k = 20 ∨ k = 21 ∨ k = 22 by omega) with rfl | rfl | rfl | rfl | rfl | rfl | rfl | rfl | rfl | rfl
  · exact lasg_of hK hw ls_13 rfl (by decide +kernel) lk_13
  · exact lasg_of hK hw ls_14 rfl (by decide +kernel) lk_14
  · exact lasg_of hK hw ls_15 rfl (by decide +kernel) lk_15
  · exact lasg_of hK hw ls_16 rfl (by decide +kernel) lk_16
  · exact lasg_of hK hw ls_17 rfl (by decide +kernel) lk_17
  · exact lasg_of hK hw ls_18 rfl (by decide +kernel) lk_18
  · exact lasg_of hK hw ls_19 rfl (by decide +kernel) lk_19
  · exact lasg_of hK hw ls_20 rfl (by decide +kernel) lk_20
  · exact lasg_of hK hw ls_21 rfl (by decide +kernel) lk_21
  · exact lasg_of hK hw ls_22 rfl (by decide +kernel) lk_22
theorem isL_mem {E : EE} {ws : va_W} {H : Heap} {q k n : Nat} {z} (hP : va_P E.1 CL ws H) (hm : (q, .inl (E.2 (3000 + k), n, z)) ∈ ws) (hk : 13 ≤ k ∧ k ≤ 22) : isL E q H := by
  obtain ⟨i, hi⟩ := List.mem_iff_getElem?.mp hm
  have h := hP i _ hi
  exact ⟨k, _, hk, h, by rcases z with z | z | z | z | z <;> rfl, by rcases z with z | z | z | z | z <;> rfl⟩
theorem isL_chg {E : EE} {ws : va_W} {H : Heap} {q : Nat} {k a b c : Int} (hP : va_P E.1 CL ws H) (hk : 0 ≤ k ∧ k ≤ 10) (h7 : ¬ k = 7) (hm : ∀ x ∈ chg E q k a b c, x ∈ ws) : isL E q H := by
  rcases (show k = 0 ∨ k = 1 ∨ k = 2 ∨ k = 3 ∨ k = 4 ∨ k = 5 ∨ k = 6 ∨ k = 8 ∨ k = 9 ∨ k = 10 by omega) with rfl | rfl | rfl | rfl | rfl | rfl | rfl | rfl | rfl | rfl
  · rw [chg_0] at hm; exact isL_mem hP (hm _ (List.mem_singleton_self _)) (by decide)
  · rw [chg_1] at hm; exact isL_mem hP (hm _ (List.mem_singleton_self _)) (by decide)
  · rw [chg_2] at hm; exact isL_mem hP (hm _ (List.mem_singleton_self _)) (by decide)
  · rw [chg_3] at hm; exact isL_mem hP (hm _ (List.mem_singleton_self _)) (by decide)
  · rw [chg_4] at hm; exact isL_mem hP (hm _ (List.mem_singleton_self _)) (by decide)
  · rw [chg_5] at hm; exact isL_mem hP (hm _ (List.mem_singleton_self _)) (by decide)
  · rw [chg_6] at hm; exact isL_mem hP (hm _ (List.mem_singleton_self _)) (by decide)
  · rw [chg_8] at hm; exact isL_mem hP (hm _ (List.mem_singleton_self _)) (by decide)
  · rw [chg_9] at hm; exact isL_mem hP (hm _ (List.mem_singleton_self _)) (by decide)
  · rw [chg_10] at hm; exact isL_mem hP (hm _ (List.mem_singleton_self _)) (by decide)
theorem isL_7 {E : EE} {A : Nat → Prop} {s : State} {H : Heap} {locs : List Loc} (hE : HE E A s s.heap) (hS : va_S A s.heap H locs) : isL E (EX E 3020) H := by
  obtain ⟨ce, h1, h2, h3, -, h5⟩ := hE.l20
  refine ⟨20, ce, by decide, ?_, by rw [h3]; rfl, h2⟩
  rw [hS.2.1 _ (Array.getElem?_eq_some_iff.mp h1).1 h5]
  exact h1
theorem isL_kept {E : EE} {H H1 : Heap} {q : Nat} (h : isL E q H) (hk : H1[q]? = H[q]?) : isL E q H1 := by
  obtain ⟨k, cell, h1, h2, h3⟩ := h
  exact ⟨k, cell, h1, by rw [hk]; exact h2, h3⟩
section NROWS16
variable {E : EE} {p : Program} {l : Launch} {e : Env} {R : Room} {s : State} {m : MethodId} {args : Array Value} {below : List Frame} {meth : Method} {c : Code} {H : Heap} {locs : List Loc} {cells slots : Nat} {Q : State → Prop}
variable {cc : ByteArray} {pc : Nat} {ls : Array Slot} {rest : List Value} {ws : va_W} {a : Nat} {A : Nat → Prop} {H0 : Heap}
/-- aastore of a change -/
theorem n_qastL (hexec : p.tables.exec = Jvm.exec) (hb : c.code = cc) (hts : ∀ w ∈ lw_all, w.before args s = true) (hK : KE E s) (hP : va_P E.1 CL ws H) (hD : va_D A ws) (hS : va_S A H0 H locs) (q0 : Nat) {ad v n : Nat} {f : Int → Option Nat} (ha : ws[q0]? = some (ad, qa (E.2 4) n f)) (hr : isL E v H) {i : Int} (hi : 0 ≤ i ∧ i < n) (hn : n < 2147483648) (hdg : decode cc pc = .ok (.aastore, 1)) {w2 : va_W} (hw : ws.set q0 (ad, qa (E.2 4) n (uq f i (some v))) = w2)
    (kk : ∀ (H1 : Heap) (locs1 : List Loc), va_P E.1 CL w2 H1 → va_D A w2 → va_S A H0 H1 locs1 → W p l e R s m args below meth c H1 locs1 cells slots Q (F0 m (pc + 1) ls rest)) : W p l e R s m args below meth c H locs cells slots Q (F0 m pc ls (.ref v :: iv i :: .ref ad :: rest)) := by
  subst hw
  have hin := iI_in (n := n) hi hn
  have hlt : (iI i).toNatClampNeg < n := Nat.not_le.mp fun q => hin (Or.inr q)
  have h0 : ¬ iI i < 0 := fun q => hin (Or.inl q)
  obtain ⟨k, cellV, hk, g1, g3, g2⟩ := hr
  obtain ⟨⟨kC, hkC⟩, hO, -⟩ := lasg_L hK (lam_words hts (State.WarmedH.refl s)) hk
  obtain ⟨kA, comp, k1, k2, k3, -⟩ := (hK.1.2 4 _ (show (TY E)[4]? = some (E.2 4, .object "java/lang/Object") from rfl)).2
  obtain ⟨kE, hkE, -⟩ := Vm.findClass_spec k3
  refine W.aast hexec hb (hP q0 _ ha) (fun q h => by cases h) (fun h => by cases h) k1 k2 rfl hkE ⟨h0, by show _ < (arrV _ _ _).slots.size; rw [arrV_size]; exact hlt⟩ g1 (fun q h => by rw [h] at g3; cases g3) (by rw [g2]; exact hkC) (by rw [g2]; exact hO _ k3) rfl rfl hdg fun H1 e z oq => ?_
  have hfin : va_P E.1 CL (ws.set q0 (ad, qa (E.2 4) n (uq f i (some v)))) H1 := by
    refine hP.set hD ha ?_ oq
    show H1[ad]? = some (vp_cell _ _)
    rw [e]
    rw [vp_cell_q, vp_cell_q, arrV_store]
    congr 2
    funext q
    rw [iI_cln (by omega) (by omega)]
    by_cases hq : q = i.toNat
    · subst hq
      simp [updV, uq, va_rf, Int.toNat_of_nonneg hi.1]
    · have hq2 : ¬ (q : Int) = i := by omega
      simp [updV, uq, hq, hq2]
  exact kk H1 _ hfin (hD.set ha) (hS.put z oq (hD.2 q0 _ ha))
/-- checkcast of a change -/
theorem n_castL (hexec : p.tables.exec = Jvm.exec) (hb : c.code = cc) (hts : ∀ w ∈ lw_all, w.before args s = true) (hK : KE E s) {own : String} {index : Nat} (hown : s.vm.findClass own = some m.cls) (hlink : (Cond.classLink own index "ClockworkTailor$Change").before args s = true) (hr : isL E a H) (hdg : decode cc pc = .ok (.checkcast index, 3))
    (k : W p l e R s m args below meth c H locs cells slots Q (F0 m (pc + 3) ls (.ref a :: rest))) : W p l e R s m args below meth c H locs cells slots Q (F0 m pc ls (.ref a :: rest)) := by
  obtain ⟨z, cell, hz, h1, h2, h3⟩ := hr
  obtain ⟨-, -, hI⟩ := lasg_L hK (lam_words hts (State.WarmedH.refl s)) hz
  obtain ⟨ci, ki, -, hci, -⟩ := Cond.interfaceMethod_spec (show (Cond.interfaceMethod "ClockworkTailor$Change" "ClockworkTailor$Change" "applyTo" "(LClockworkTailor$State;)I").holds #[] s none s [] = true from hK.kx.2.2.1.2)
  intro T hT X
  obtain ⟨vm', X', st⟩ := X.checkcastYes hexec hown hlink (by rw [hT]; exact h1) h2 hci (by rw [h3]; exact hI _ hci) (g := F0 m pc ls (.ref a :: rest)) rfl rfl (by rw [hb]; exact hdg)
  obtain ⟨t, a1, b1⟩ := k (T.setVm vm') hT X'
  exact ⟨t, st t a1, b1⟩
end NROWS16
/-! calls through Iterator -/
theorem lw_F {own : String} {idx : Nat} {C : String} {x y : MethodName} {b : ByteArray} {L : Nat} {r : Option FieldType} (h1 : Cond.methodLink own idx x ∈ lw_all) (h2 : Cond.selects C x y ∈ lw_all) (h3 : Cond.instanceMethod y ∈ lw_all) (h4 : Cond.initialized y.cls ∈ lw_all) (h5 : Cond.code y b L r ∈ lw_all) : GoodIn lw_all (va_wsF own idx C x y (ws_ y b L r)) := by
  refine lw_app ?_ (lw_meth h5)
  intro w hw
  simp only [List.mem_cons, List.not_mem_nil, or_false] at hw
  rcases hw with e | e | e | e
  · rw [e]; exact h1
  · rw [e]; exact h2
  · rw [e]; exact h3
  · rw [e]; exact h4
section NROWS16B
variable {E : EE} {p : Program} {l : Launch} {e : Env} {R : Room} {s : State} {m : MethodId} {args : Array Value} {below : List Frame} {meth : Method} {c : Code} {H : Heap} {locs : List Loc} {cells slots mc ms : Nat} {Q : State → Prop}
variable {pc : Nat} {ls : Array Slot} {rest st0 : List Value} {wc : va_W} {a : Array Value} {A : Nat → Prop} {H0 : Heap}
theorem n_csi5 {x : Int} (hr : va_Run5 p l e R s m args below meth c H locs cells slots 0 0 (F0 m pc ls st0) rest (NP x a) (fun _ => False)) (kk : W p l e R s m args below meth c H locs cells slots Q (F0 m (pc + 5) ls (iv x :: rest))) : W p l e R s m args below meth c H locs cells slots Q (F0 m pc ls st0) := by
  intro T hT X
  obtain ⟨v, st₀, t, T', L, h0, X', hL, e1, _, ⟨r, hv, hx, hh⟩, st⟩ := hr T hT X
  cases hv
  subst hx
  obtain ⟨t2, a1, b1⟩ := kk T' (by rw [e1, hh, h0]) (Stand.forget X' (fun q h => (hL q h).elim))
  exact ⟨t2, st t2 a1, b1⟩
theorem n_cuxr5B {σ : Type} {C : σ → Prop} {x : σ → Nat} {w1 w2 : σ → va_W} (hr : va_Run5 p l e R s m args below meth c H locs cells slots mc ms (F0 m pc ls st0) rest (UQxr E C x w1 (va_A wc H.size) a) (va_A wc H.size)) (hS : va_S A H0 H locs) (hF : ∀ q, va_A wc H.size q → A q) (hback : ∀ (u : σ) (H1 : Heap), (∀ q : Nat, q < H.size → ¬ va_A wc H.size q → H1[q]? = H[q]?) → va_P E.1 CL (w1 u) H1 → va_D (va_A wc H.size) (w1 u) → va_P E.1 CL (w2 u) H1 ∧ va_D A (w2 u)) (kk : ∀ (u : σ) (H1 : Heap) (locs1 : List Loc), C u → va_P E.1 CL (w2 u) H1 → va_D A (w2 u) → va_S A H0 H1 locs1 → W p l e R s m args below meth c H1 locs1 (cells + mc) (slots + ms) Q (F0 m (pc + 5) ls (.ref (x u) :: rest))) : W p l e R s m args below meth c H locs cells slots Q (F0 m pc ls st0) := by
  intro T hT X
  obtain ⟨v, st₀, t, T', L, h0, X', hL, e1, _, ⟨⟨u, hv, hcu, hp, hd⟩, hFr⟩, st⟩ := hr T hT X
  cases hv
  obtain ⟨k1, k2, k3⟩ := vx_keep h0 e1 hS (fun q _ h => hF q h) hF hL hFr
  have hk9 : ∀ q : Nat, q < H.size → ¬ va_A wc H.size q → T'.heap[q]? = H[q]? := k2
  obtain ⟨a1, a2⟩ := hback u _ hk9 (by rw [e1]; exact hp) hd
  obtain ⟨t2, b1, b2⟩ := kk u T'.heap (locs ++ L) hcu a1 a2 k3 T' rfl X'
  exact ⟨t2, st t2 b1, b2⟩
end NROWS16B
/-- q is a change among the cells pw, or the constant one -/
def LQ (E : EE) (q : Nat) (pw : va_W) : Prop := (∃ k n z, (13 ≤ k ∧ k ≤ 22) ∧ (q, .inl (E.2 (3000 + k), n, z)) ∈ pw) ∨ q = EX E 3020
theorem LQ.isL {E : EE} {A : Nat → Prop} {s : State} {H : Heap} {locs : List Loc} {ws pw : va_W} {q : Nat} (h : LQ E q pw) (hP : va_P E.1 CL (ws ++ pw) H) (hE : HE E A s s.heap) (hS : va_S A s.heap H locs) : isL E q H := by
  rcases h with ⟨k, n, z, hk, hm⟩ | rfl
  · exact isL_mem hP (List.mem_append_right _ hm) hk
  · exact isL_7 hE hS
theorem LQ_chg {E : EE} {q : Nat} {k a b c : Int} {pw : va_W} (hk : 0 ≤ k ∧ k ≤ 10) (h7 : k = 7 → q = EX E 3020) (hm : ∀ x ∈ chg E q k a b c, x ∈ pw) : LQ E q pw := by
  by_cases h : k = 7
  · exact Or.inr (h7 h)
  · refine Or.inl ?_
    rcases (show k = 0 ∨ k = 1 ∨ k = 2 ∨ k = 3 ∨ k = 4 ∨ k = 5 ∨ k = 6 ∨ k = 8 ∨ k = 9 ∨ k = 10 by omega) with rfl | rfl | rfl | rfl | rfl | rfl | rfl | rfl | rfl | rfl
    · rw [chg_0] at hm; exact ⟨13, _, _, by decide, hm _ (List.mem_singleton_self _)⟩
    · rw [chg_1] at hm; exact ⟨14, _, _, by decide, hm _ (List.mem_singleton_self _)⟩
    · rw [chg_2] at hm; exact ⟨15, _, _, by decide, hm _ (List.mem_singleton_self _)⟩
    · rw [chg_3] at hm; exact ⟨15, _, _, by decide, hm _ (List.mem_singleton_self _)⟩
    · rw [chg_4] at hm; exact ⟨17, _, _, by decide, hm _ (List.mem_singleton_self _)⟩
    · rw [chg_5] at hm; exact ⟨18, _, _, by decide, hm _ (List.mem_singleton_self _)⟩
    · rw [chg_6] at hm; exact ⟨19, _, _, by decide, hm _ (List.mem_singleton_self _)⟩
    · rw [chg_8] at hm; exact ⟨16, _, _, by decide, hm _ (List.mem_singleton_self _)⟩
    · rw [chg_9] at hm; exact ⟨21, _, _, by decide, hm _ (List.mem_singleton_self _)⟩
    · rw [chg_10] at hm; exact ⟨22, _, _, by decide, hm _ (List.mem_singleton_self _)⟩
theorem LQ.mono {E : EE} {q : Nat} {pw pw2 : va_W} (h : LQ E q pw) (hs : ∀ x ∈ pw, x ∈ pw2) : LQ E q pw2 := by
  rcases h with ⟨k, n, z, hk, hm⟩ | h
  · exact Or.inl ⟨k, n, z, hk, hs _ hm⟩
  · exact Or.inr h
