/-! ===== rows, 5: refusals made and thrown ===== -/
theorem sx_X6 : ((sxL "ClockworkTailor$Refusal" 9 "ClockworkTailor$Refusal" 9).filter vx_no).all xk = true := by decide +kernel
theorem sx_X9 : ((sxL "ClockworkTailor$SyntaxError" 1 "ClockworkTailor$SyntaxError" 7).filter vx_no).all xk = true := by decide +kernel
theorem lst_9 {gs : List Value} (h : gs.length = 9) : ∃ a b c d e f g i j, gs = [a, b, c, d, e, f, g, i, j] := by
  match gs, h with
  | [a, b, c, d, e, f, g, i, j], _ => exact ⟨a, b, c, d, e, f, g, i, j, rfl⟩
theorem lst_7 {gs : List Value} (h : gs.length = 7) : ∃ a b c d e f g, gs = [a, b, c, d, e, f, g] := by
  match gs, h with
  | [a, b, c, d, e, f, g], _ => exact ⟨a, b, c, d, e, f, g, rfl⟩
theorem nr_q (C : String) (r : Option Nat) : narrow (.object C) (va_rf r) = va_rf r := by cases r <;> rfl
theorem ft_q (C : String) (r : Option Nat) : fits (.object C) (va_rf r) = true := by cases r <;> rfl
theorem n_notA {q q2 sz : Nat} {x : va_E} (h : q < sz) (hn : q ≠ q2) : ¬ va_A [(q2, x)] sz q := by
  rintro (⟨k, e, h1⟩ | h1)
  · have hz : k < 1 := (List.getElem?_eq_some_iff.mp h1).1
    rw [show k = 0 by omega] at h1
    cases h1
    exact hn rfl
  · omega
section NQL
variable {p : Program} {l : Launch} {e : Env} {R : Room} {s : State} {m : MethodId} {args : Array Value} {below : List Frame} {meth : Method} {c : Code} {H : Heap} {locs : List Loc} {cells slots : Nat} {Q : State → Prop}
variable {pc : Nat} {ls : Array Slot} {rest : List Value} {cc : ByteArray}
theorem n_aloadq_n (hexec : p.tables.exec = Jvm.exec) (hb : c.code = cc) {k : Fin 4} {i : Nat} {x : Option Nat} (hdg : decode cc pc = .ok (.aload_n k, 1)) (hi : (k : Nat) = i) (hl : ls[i]? = some (.val (va_rf x)))
    (k : W p l e R s m args below meth c H locs cells slots Q (F0 m (pc + 1) ls (va_rf x :: rest))) : W p l e R s m args below meth c H locs cells slots Q (F0 m pc ls (rest)) := by
  cases x with
  | none => exact lv_aload_nN hexec hb hdg hi hl k
  | some x => exact lv_aload_n hexec hb hdg hi hl k
theorem n_aloadq (hexec : p.tables.exec = Jvm.exec) (hb : c.code = cc) {i : Nat} {x : Option Nat} (hdg : decode cc pc = .ok (.aload i, 2)) (hl : ls[i]? = some (.val (va_rf x)))
    (k : W p l e R s m args below meth c H locs cells slots Q (F0 m (pc + 2) ls (va_rf x :: rest))) : W p l e R s m args below meth c H locs cells slots Q (F0 m pc ls (rest)) := by
  cases x with
  | none => exact lv_aloadN hexec hb hdg hl k
  | some x => exact lv_aload hexec hb hdg hl k
end NQL
section NROWS5
variable {p : Program} {l : Launch} {e : Env} {R : Room} {s : State} {m : MethodId} {args : Array Value} {below : List Frame} {meth : Method} {c : Code} {H : Heap} {locs : List Loc} {cells slots : Nat} {Q : State → Prop}
variable {pc : Nat} {ls : Array Slot} {rest st0 : List Value} {ws wc : va_W} {A : Nat → Prop} {H0 : Heap} {E : EE} {mc ms : Nat} {a : Array Value} {cc : ByteArray}
theorem n_cuxvSK {σ : Type} {C : σ → Prop} {w1 w2 : σ → va_W} (hr : va_Run p l e R s m args below meth c H locs cells slots mc ms (F0 m pc ls st0) rest (UQxv E C w1 (va_A wc H.size) a) (va_A wc H.size)) (hP : va_P E.1 CL ws H) (hD : va_D A ws) (hS : va_S A H0 H locs) (hA : ∀ q : Nat, H0.size ≤ q → A q) (isC isR pm : List Nat) (hC : isC.map (fun i => ws[i]?) = wc.map some) (hR : isR.all (fun i => (ws[i]?).isSome) = true) (hn : va_nd isR = true) (hdis : isR.all (fun i => !isC.contains i) = true) (hpn : va_nd pm = true) (hpm : ∀ u, pm.map (fun i => (isR.filterMap (fun i => ws[i]?) ++ w1 u)[i]?) = (w2 u).map some) (kk : ∀ (u : σ) (H1 : Heap) (locs1 : List Loc), (∀ q : Nat, q < H.size → ¬ va_A wc H.size q → H1[q]? = H[q]?) → C u → va_P E.1 CL (w2 u) H1 → va_D A (w2 u) → va_S A H0 H1 locs1 → W p l e R s m args below meth c H1 locs1 (cells + mc) (slots + ms) Q (F0 m (pc + 3) ls rest)) : W p l e R s m args below meth c H locs cells slots Q (F0 m pc ls st0) := by
  have hF := va_sub_free hD hS hA isC hC
  refine va_callv hr hS (fun q _ h => hF q h) hF (fun u t H1 locs1 ht hvm h1 hB hz hk hS1 => ?_)
  subst ht
  obtain ⟨a1, a2⟩ := n_back hP hD hF isC isR pm hC hR hn hdis hpn (hpm u) hk hB.1 hB.2
  exact kk u t.heap locs1 hk h1 a1 a2 hS1
/-- 'throw x' of an object of ours, not caught here -/
theorem n_athrow {Qc : Array Value → State → Outcome → State → Prop} {τ : Type} {Cx : String → τ → Prop} {wx : τ → va_W} {rx : τ → Option (Nat × List Value)} (u : τ) (hexec : p.tables.exec = Jvm.exec) (hb : c.code = cc) {q k0 ci N0 : Nat} {C0 : String} {T0 : u_T} {fs : List Value} (hdg : decode cc pc = .ok (.athrow, 1))
    (he : ws[k0]? = some (q, .inr (ci, fs))) (hcl : CL[ci]? = some (C0, T0, N0)) (hK : KE E s) (hPw : va_P E.1 CL ws H) (hC : Cx C0 u) (hP : va_P E.1 CL (wx u) H) (hD : va_D A (wx u)) (hS : va_S A s.heap H locs) (hxf : XF E q (rx u) H) (hq : s.heap.size ≤ q) (hout : ∀ x ∈ c.exceptionTable.toList, covers x pc = false) (hlocks : meth.locks = false) (hc : cells ≤ mc) (hs : slots ≤ ms) :
    W p l e R s m args below meth c H locs cells slots (vx_MQ below Qc (UXx E Cx wx rx A) args s mc ms A) (F0 m pc ls (.ref q :: rest)) := by
  obtain ⟨r, hr, cell, c1, c2, c3, c4⟩ := hPw k0 _ he
  exact vx_athrow hexec hb hdg (n_out u hC hP hD hS hxf hq c1 c3 (by rw [c2]; exact (hK.1.1 ci _ hcl).2.1) hout hlocks hc hs)
end NROWS5
