/-! ===== rows, 8: arrays of ints cloned ===== -/
theorem n_fcI {E : EE} {s : State} (hK : KE E s) : s.vm.findClass "[I" = some (E.2 0) := by
  have e1 := hK.1.2 0 _ (show (TY E)[0]? = some (E.2 0, .int) from rfl)
  exact va_nm_int e1.2
section NROWS8
variable {p : Program} {l : Launch} {e : Env} {R : Room} {s : State} {m : MethodId} {args : Array Value} {below : List Frame} {meth : Method} {c : Code} {H : Heap} {locs : List Loc} {cells slots : Nat} {Q : State → Prop}
variable {pc : Nat} {ls : Array Slot} {rest : List Value} {ws : va_W} {A : Nat → Prop} {H0 : Heap} {E : EE} {cc : ByteArray}
theorem n_recvI (hK : KE E s) (hP : va_P E.1 CL ws H) {q0 a n : Nat} {f : Int → Int} (ha : ws[q0]? = some (a, ia (E.2 0) n f)) : ∃ cell : Cell, H[a]? = some cell ∧ cell.vm.isStatics = false ∧ s.vm.findClass "[I" = some cell.cls := ⟨_, hP q0 _ ha, rfl, n_fcI hK⟩
theorem n_clone (hexec : p.tables.exec = Jvm.exec) (hb : c.code = cc) (hml : c.maxLocals = ls.size) {own : String} {index : Nat} (hown : s.vm.findClass own = some m.cls)
    (hlink : (Cond.methodLink own index ⟨"[I", "clone", "()Ljava/lang/Object;"⟩).before args s = true) (hsame : (Cond.sameMethod "[I" "java/lang/Object" "clone" "()Ljava/lang/Object;").before args s = true)
    (hnat : (Cond.native ⟨"java/lang/Object", "clone", "()Ljava/lang/Object;"⟩).before args s = true) (hinst : (Cond.instanceMethod ⟨"java/lang/Object", "clone", "()Ljava/lang/Object;"⟩).before args s = true)
    (hsel : (Cond.selects "[I" ⟨"[I", "clone", "()Ljava/lang/Object;"⟩ ⟨"java/lang/Object", "clone", "()Ljava/lang/Object;"⟩).before args s = true) (hcl : va_Nw (.castable "[I" "java/lang/Cloneable") s)
    (hK : KE E s) (hP : va_P E.1 CL ws H) (hD : va_D A ws) (hS : va_S A H0 H locs) (hA : ∀ q, H0.size ≤ q → A q) (q0 : Nat) {a n : Nat} {f : Int → Int} (ha : ws[q0]? = some (a, ia (E.2 0) n f))
    (hframes : 1 ≤ R.frames) (hlocals : (rest.map fun v => v.category).sum + 14 ≤ R.locals) (hcells : cells + 1 ≤ R.cells) (hslots : slots + n ≤ R.slots) (hdg : decode cc pc = .ok (.invokevirtual index, 3))
    (kk : ∀ (q : Nat) (H1 : Heap), va_P E.1 CL (ws ++ [(q, ia (E.2 0) n f)]) H1 → va_D A (ws ++ [(q, ia (E.2 0) n f)]) → va_S A H0 H1 locs →
      W p l e R s m args below meth c H1 locs (cells + 1) (slots + n) Q (F0 m (pc + 3) ls (.ref q :: rest))) : W p l e R s m args below meth c H locs cells slots Q (F0 m pc ls (.ref a :: rest)) := by
  refine va_clone hexec hb hml hown hlink hsame hnat hinst hsel hcl hK.1 hP hD hS hA q0 0 (ty := .int) ha rfl (n_fcI hK) (fun i v hv => ?_) hframes hlocals hcells hslots hdg (fun q H1 _ h1 h2 h3 => kk q H1 h1 h2 h3)
  have hv : (arrV (E.2 0) n (fun k => .int (iI (f (k : Int))))).slots[i]? = some v := hv
  by_cases hi : i < n
  · rw [arrV_read _ _ hi] at hv
    cases hv
    rfl
  · rw [Array.getElem?_eq_none (by rw [arrV_size]; omega)] at hv
    cases hv
end NROWS8
/-! rounds -/
theorem k_rnd_r {g : Int → Int} (htm : TM g) : ∀ (d : Nat) (t : Int), 0 ≤ t → t < 8 → -1 ≤ k_rnd g d t ∧ k_rnd g d t ≤ 20 * d := by
  intro d
  induction d with
  | zero => intro t h1 h2; exact ⟨by show (-1 : Int) ≤ 0; decide, by show (0 : Int) ≤ 20 * ((0 : Nat) : Int); decide⟩
  | succ d ih =>
    intro t h1 h2
    have a2 := htm t h1 h2
    have a3 := maxI_b (f := fun u => if m_edge g false t u = true then k_rnd g d u else 0) (hi := 20 * d) (n := 8) (by decide) (by omega) (fun k b1 b2 => by
      have b4 := ih k b1 b2
      show (if m_edge g false t k = true then k_rnd g d k else 0) ≤ 20 * (d : Int)
      split <;> omega)
    simp only [k_rnd]
    repeat' split
    all_goals omega
theorem k_rnd_s (g : Int → Int) (d : Nat) (t : Int) : k_rnd g (d + 1) t = if m_has g t = true then (if exB (fun u => m_edge g false t u && decide (k_rnd g d u = -1)) 8 = true then -1 else m_of g t 1 + maxI (fun u => if m_edge g false t u = true then k_rnd g d u else 0) 8) else -1 := rfl
