/-! ===== rows, 9: a table of booleans, 8 by 8 (multianewarray) ===== -/
/-- the table's outer array when i of its rows are made: they follow it -/
def mOut (cA : ClassId) (h0 i : Nat) : Cell := { cls := cA, slots := ((List.range 8).map (fun j => if j < i then Value.ref (h0 + 1 + j) else Value.null)).toArray, vm := .none }
def mRow (cB : ClassId) : Cell := { cls := cB, slots := Array.replicate 8 (.int 0), vm := .none }
def mSt (U : State) (cA cB : ClassId) : Nat → State
  | 0 => U.pushCell (mOut cA U.heap.size 0)
  | i + 1 => ((mSt U cA cB i).pushCell (mRow cB)).setCell U.heap.size (mOut cA U.heap.size (i + 1))
theorem mOut_s (cA : ClassId) (h0 : Nat) {i : Nat} (hi : i < 8) : (mOut cA h0 i).setSlot i (.ref (h0 + 1 + i)) = mOut cA h0 (i + 1) := by
  rcases (show i = 0 ∨ i = 1 ∨ i = 2 ∨ i = 3 ∨ i = 4 ∨ i = 5 ∨ i = 6 ∨ i = 7 by omega) with rfl | rfl | rfl | rfl | rfl | rfl | rfl | rfl <;> rfl
theorem mOut_0 (cA : ClassId) (h0 : Nat) : mOut cA h0 0 = { cls := cA, slots := Array.replicate 8 .null, vm := .none } := rfl
theorem mOut_size (cA : ClassId) (h0 i : Nat) : (mOut cA h0 i).slots.size = 8 := rfl
theorem mSt_f (U : State) (cA cB : ClassId) : ∀ i, (mSt U cA cB i).heap.size = U.heap.size + 1 + i ∧ (mSt U cA cB i).heap[U.heap.size]? = some (mOut cA U.heap.size i) ∧ (mSt U cA cB i).vm = U.vm ∧ (mSt U cA cB i).slotsUsed = U.slotsUsed + 8 + 8 * i ∧
    (∀ a, a < U.heap.size → (mSt U cA cB i).heap[a]? = U.heap[a]?) ∧ ∀ j, j < i → (mSt U cA cB i).heap[U.heap.size + 1 + j]? = some (mRow cB) := by
  intro i
  induction i with
  | zero =>
    refine ⟨by simp [mSt], State.heap_pushCell_size _ _, rfl, by simp [mSt, mOut_size], fun a ha => State.heap_pushCell_of_lt _ _ ha, fun j hj => absurd hj (Nat.not_lt_zero _)⟩
  | succ i ih =>
    obtain ⟨h1, h2, h3, h4, h5, h6⟩ := ih
    have hlt : U.heap.size < (mSt U cA cB i).heap.size := by rw [h1]; omega
    have e2 : ((mSt U cA cB i).pushCell (mRow cB)).heap[U.heap.size]? = some (mOut cA U.heap.size i) := by
      rw [State.heap_pushCell_of_lt (h := hlt)]; exact h2
    refine ⟨?_, State.heap_setCell_self e2, by simp [mSt, h3], ?_, fun a ha => ?_, fun j hj => ?_⟩
    · simp [mSt, State.setCell, h1]; omega
    · simp [mSt, h4, mRow]; omega
    · show (((mSt U cA cB i).pushCell (mRow cB)).setCell U.heap.size _).heap[a]? = _
      rw [State.heap_setCell_other (show U.heap.size ≠ a by omega), State.heap_pushCell_of_lt (h := Nat.lt_trans ha hlt)]
      exact h5 a ha
    · show (((mSt U cA cB i).pushCell (mRow cB)).setCell U.heap.size _).heap[U.heap.size + 1 + j]? = _
      rw [State.heap_setCell_other (show U.heap.size ≠ U.heap.size + 1 + j by omega)]
      by_cases hji : j = i
      · subst hji
        rw [← h1]
        exact State.heap_pushCell_size _ _
      · rw [State.heap_pushCell_of_lt (h := show U.heap.size + 1 + j < (mSt U cA cB i).heap.size by rw [h1]; omega)]
        exact h6 j (by omega)
theorem mSt_top (U : State) (g : JFrame) (cA cB : ClassId) : ∀ i, mSt (U.setTop g) cA cB i = (mSt U cA cB i).setTop g := by
  intro i
  induction i with
  | zero => rfl
  | succ i ih => simp only [mSt, ih, State.heap_setTop, State.pushCell_setTop, State.setCell_setTop]
theorem vm_over {args : Array Value} {s : State} {t : FieldType} (h : (Cond.arrayOver (.array t)).before args s = true) : ∃ (comp c : ClassId) (k : Class), s.vm.findClass (FieldType.array t).toString = some comp ∧ s.vm.classes[c]? = some k ∧ k.kind = .array comp (.array t) ∧ s.vm.findClass ("[" ++ (FieldType.array t).toString) = some c := by
  simp only [Cond.before, Cond.holds, Cond.value, beq_iff_eq] at h
  cases hq : s.vm.findClass (FieldType.array t).toString with
  | none => simp [hq] at h
  | some comp =>
    simp only [hq, Option.bind_some, Option.bind_eq_some_iff, Option.map_eq_some_iff] at h
    obtain ⟨c, h1, k, h2, h3⟩ := h
    obtain ⟨h4, h5, -⟩ := Array.findIdx?_eq_some_iff_getElem.mp h1
    rw [show s.vm.classes[c] = k from (Array.getElem?_eq_some_iff.mp h2).2] at h5
    cases hk : k.kind with
    | array c2 ty =>
      rw [hk] at h3 h5
      simp at h3 h5
      exact ⟨comp, c, k, rfl, h2, by rw [hk, h5, h3.1], h3.2⟩
    | _ => rw [hk] at h3; simp at h3
section NROWS9
variable {p : Program} {l : Launch} {e : Env} {R : Room} {s : State} {m : MethodId} {args : Array Value} {below : List Frame} {meth : Method} {c : Code} {H : Heap} {locs : List Loc} {cells slots : Nat} {Q : State → Prop} {T : State}
variable {pc : Nat} {ls : Array Slot} {rest : List Value} {ws : va_W} {A : Nat → Prop} {H0 : Heap} {E : EE} {cc : ByteArray}
theorem mSt_X (X : Stand p l e R s m args below meth c T locs cells slots) (cA cB : ClassId) : ∀ i, i ≤ 8 → Stand p l e R s m args below meth c (mSt T cA cB i) locs (cells + 1 + i) (slots + 8 + 8 * i) := by
  intro i
  induction i with
  | zero => intro _; exact X.pushed (mOut cA T.heap.size 0)
  | succ i ih =>
    intro hi
    obtain ⟨h1, h2, -⟩ := mSt_f T cA cB i
    have e2 : ((mSt T cA cB i).pushCell (mRow cB)).heap[T.heap.size]? = some (mOut cA T.heap.size i) := by
      rw [State.heap_pushCell_of_lt (h := show T.heap.size < (mSt T cA cB i).heap.size by rw [h1]; omega)]; exact h2
    have Y := ((ih (by omega)).pushed (mRow cB)).stored e2 i (.ref (T.heap.size + 1 + i))
    rw [mOut_s cA T.heap.size (by omega)] at Y
    have Z := Y.dropFresh (fun x hx => by
      obtain rfl := List.mem_singleton.mp hx
      exact X.heapGrown)
    have e3 : slots + 8 + 8 * (i + 1) = slots + 8 + 8 * i + (mRow cB).slots.size := by show _ = slots + 8 + 8 * i + 8; omega
    rw [e3]
    exact Z
end NROWS9
section MAKE8
variable {EP : CtlPost} {e : Env} {d : Bool} {acts : List Action} {U : State} {cA cB c1 : ClassId} {kA kB : Class}
theorem make_row (hB : U.vm.classes[cB]? = some kB) (hBk : kB.kind = .array c1 .boolean) (hl : ¬ 8 > e.platform.arrayLengthLimit) (hh : ¬ 8 * componentBytes .boolean > e.platform.maxHeapBytes) (h1 : U.heap.size < e.platform.maxCells) (h2 : U.slotsUsed + 8 ≤ e.platform.maxSlots) {Q : Addr → Pre} (hq : ∀ a', Q U.heap.size d a' (U.pushCell (mRow cB))) : wp (multianewarray.make cB [8]) Q EP e d acts U := by
  rw [multianewarray.make]
  have h8 : ¬ (8 : Int32) < 0 := by decide
  simp only [wp_bind', W.ite, h8, if_false, wp_pure', W.theClass, hB, hBk, Option.some.injEq, exists_eq_left']
  exact W.newArray_of hB hBk hl hh h1 h2 rfl hq
theorem make_table (hA : U.vm.classes[cA]? = some kA) (hAk : kA.kind = .array cB (.array .boolean)) (hB : U.vm.classes[cB]? = some kB) (hBk : kB.kind = .array c1 .boolean) (hl : ¬ 8 > e.platform.arrayLengthLimit) (hh : ¬ 8 * componentBytes (.array .boolean) > e.platform.maxHeapBytes) (hh2 : ¬ 8 * componentBytes .boolean > e.platform.maxHeapBytes)
    (h1 : U.heap.size + 9 ≤ e.platform.maxCells) (h2 : U.slotsUsed + 72 ≤ e.platform.maxSlots) {Q : Addr → Pre} (hq : ∀ d' a', Q U.heap.size d' a' (mSt U cA cB 8)) : wp (multianewarray.make cA [8, 8]) Q EP e d acts U := by
  rw [multianewarray.make]
  have h8 : ¬ (8 : Int32) < 0 := by decide
  have hf : ([8] : List Int32).find? (· < 0) = none := by decide
  simp only [wp_bind', W.ite, h8, if_false, wp_pure', W.theClass, hA, hAk, Option.some.injEq, exists_eq_left']
  refine W.newArray_of (type := .array .boolean) hA hAk hl hh (by omega) (by show U.slotsUsed + 8 ≤ _; omega) rfl (fun a0 => ?_)
  simp only [hf]
  rw [ite_self, wp_bind', Std.Legacy.Range.forIn_eq_forIn_range']
  show wp (forIn (List.range' 0 8 1) PUnit.unit _) _ EP e d a0 _
  refine wp_forIn_inv (fun r V => ∃ i, i ≤ 8 ∧ r = List.range' i (8 - i) ∧ V = mSt U cA cB i) _ _ ⟨0, by decide, rfl, rfl⟩ (fun x r V d2 a2 Q2 hI hn => ?_) (fun V d2 a2 hI => ?_)
  · obtain ⟨i, i8, hr, rfl⟩ := hI
    have hlt : i < 8 := by
      apply Classical.byContradiction
      intro hge
      rw [show 8 - i = 0 by omega] at hr
      cases hr
    rw [show 8 - i = (8 - (i + 1)) + 1 by omega, List.range'_succ] at hr
    obtain ⟨rfl, rfl⟩ := List.cons.inj hr
    obtain ⟨f1, f2, f3, f4, f5, f6⟩ := mSt_f U cA cB x
    simp only [wp_bind']
    refine make_row (kB := kB) (by rw [f3]; exact hB) hBk hl hh2 (by omega) (by omega) (fun a3 => ?_)
    simp only [wp_bind', W.writeLoc, wp_pure']
    refine ⟨mOut cA U.heap.size x, by rw [State.heap_pushCell_of_lt (h := show U.heap.size < (mSt U cA cB x).heap.size by rw [f1]; omega)]; exact f2, by simp [mOut], by rw [mOut_size]; exact hlt, ?_, hn _ _ _ ⟨x + 1, hlt, rfl, ?_⟩⟩
    · simp [State.fitsSlot, State.slotType?, f3, hA, hAk, mOut, fits]
    · rw [f1, mOut_s cA U.heap.size hlt]; rfl
  · obtain ⟨i, i8, hr, rfl⟩ := hI
    have h9 : i = 8 := by
      apply Classical.byContradiction
      intro hne
      rw [show 8 - i = (8 - (i + 1)) + 1 by omega, List.range'_succ] at hr
      cases hr
    subst h9
    simp only [wp_pure']
    exact hq _ _
end MAKE8
/-- a table: its rows stand behind it -/
def MT (E : EE) (q : Nat) (T : Int → Int → Int) : va_W := [(q, .inl (E.2 7, 8, .inr (.inr (.inr (.inr (fun k : Nat => some (q + 1 + k))))))), (q + 1, ia (E.2 1) 8 (T 0)), (q + 2, ia (E.2 1) 8 (T 1)), (q + 3, ia (E.2 1) 8 (T 2)), (q + 4, ia (E.2 1) 8 (T 3)), (q + 5, ia (E.2 1) 8 (T 4)), (q + 6, ia (E.2 1) 8 (T 5)), (q + 7, ia (E.2 1) 8 (T 6)), (q + 8, ia (E.2 1) 8 (T 7))]
theorem MT_at {E : EE} {q : Nat} {T : Int → Int → Int} {i : Nat} {x : Nat × va_E} (h : (MT E q T)[i]? = some x) : x.1 = q + i ∧ (i = 0 ∧ x.2 = .inl (E.2 7, 8, .inr (.inr (.inr (.inr (fun k : Nat => some (q + 1 + k)))))) ∨ 1 ≤ i ∧ i ≤ 8 ∧ x.2 = ia (E.2 1) 8 (T ((i : Int) - 1))) := by
  have hi : i < 9 := (List.getElem?_eq_some_iff.mp h).1
  rcases (show i = 0 ∨ i = 1 ∨ i = 2 ∨ i = 3 ∨ i = 4 ∨ i = 5 ∨ i = 6 ∨ i = 7 ∨ i = 8 by omega) with rfl | rfl | rfl | rfl | rfl | rfl | rfl | rfl | rfl <;> cases h
  · exact ⟨rfl, Or.inl ⟨rfl, rfl⟩⟩
  all_goals exact ⟨rfl, Or.inr ⟨by decide, by decide, rfl⟩⟩
theorem va_D_app {A : Nat → Prop} {ws L : va_W} {n0 : Nat} (hD : va_D A ws) (hlt : ∀ (k : Nat) (x : Nat × va_E), ws[k]? = some x → x.1 < n0) (hL : ∀ (i : Nat) (x : Nat × va_E), L[i]? = some x → x.1 = n0 + i) (hA : ∀ q, n0 ≤ q → A q) : va_D A (ws ++ L) := by
  refine ⟨fun i j x y hx hy e => ?_, fun k x hx => ?_⟩
  · by_cases hi : i < ws.length <;> by_cases hj : j < ws.length
    · rw [List.getElem?_append_left hi] at hx
      rw [List.getElem?_append_left hj] at hy
      exact hD.1 i j x y hx hy e
    · rw [List.getElem?_append_left hi] at hx
      rw [List.getElem?_append_right (by omega)] at hy
      have := hlt i x hx
      have := hL _ y hy
      omega
    · rw [List.getElem?_append_right (by omega)] at hx
      rw [List.getElem?_append_left hj] at hy
      have := hlt j y hy
      have := hL _ x hx
      omega
    · rw [List.getElem?_append_right (by omega)] at hx hy
      have := hL _ x hx
      have := hL _ y hy
      omega
  · by_cases hk : k < ws.length
    · rw [List.getElem?_append_left hk] at hx
      exact hD.2 k x hx
    · rw [List.getElem?_append_right (by omega)] at hx
      have := hL _ x hx
      exact hA _ (by omega)
section NROWS9B
variable {p : Program} {l : Launch} {e : Env} {R : Room} {s : State} {m : MethodId} {args : Array Value} {below : List Frame} {meth : Method} {c : Code} {H : Heap} {locs : List Loc} {cells slots : Nat} {Q : State → Prop}
variable {pc : Nat} {ls : Array Slot} {rest : List Value} {ws : va_W} {A : Nat → Prop} {H0 : Heap} {E : EE} {cc : ByteArray}
theorem n_mnew (hexec : p.tables.exec = Jvm.exec) (hb : c.code = cc) {own : String} {index : Nat} (hown : s.vm.findClass own = some m.cls) (hclink : (Cond.classLink own index "[[Z").before args s = true) (hover : (Cond.arrayOver (.array .boolean)).before args s = true) (harr : (Cond.arrayClass .boolean).before args s = true)
    (hK : KE E s) (hP : va_P E.1 CL ws H) (hD : va_D A ws) (hS : va_S A H0 H locs) (hA : ∀ q, H0.size ≤ q → A q) (hcells : cells + 9 ≤ R.cells) (hslots : slots + 72 ≤ R.slots) (hdg : decode cc pc = .ok (.multianewarray index 2, 4))
    (kk : ∀ (q : Nat) (H1 : Heap), va_P E.1 CL (ws ++ MT E q (fun _ _ => 0)) H1 → va_D A (ws ++ MT E q (fun _ _ => 0)) → va_S A H0 H1 locs → W p l e R s m args below meth c H1 locs (cells + 9) (slots + 72) Q (F0 m (pc + 4) ls (.ref q :: rest))) : W p l e R s m args below meth c H locs cells slots Q (F0 m pc ls (iv 8 :: iv 8 :: rest)) := by
  intro T hT X
  subst hT
  have hpl : e.platform.magicAccessors = ({} : Platform).magicAccessors := by rw [X.admits.platform]
  obtain ⟨comp, cA, kA, hcomp, hkA, hkindA, hnameA⟩ := vm_over hover
  obtain ⟨comp2, kC, c1, hcomp2, hkC, hkindC⟩ := Cond.arrayClass_spec harr
  have ec : comp2 = comp := Option.some.inj (hcomp2.symm.trans hcomp)
  subst ec
  have e7 : cA = E.2 7 := Option.some.inj (hnameA.symm.trans (hK.1.2 7 _ (show (TY E)[7]? = some (E.2 7, .array .boolean) from rfl)).2)
  have e1 : comp2 = E.2 1 := Option.some.inj (hcomp.symm.trans (hK.1.2 1 _ (show (TY E)[1]? = some (E.2 1, .boolean) from rfl)).2)
  subst e7
  subst e1
  obtain ⟨c0, hfc0, hcl⟩ := Cond.classLink_spec hown hclink e.platform hpl
  have enm : "[" ++ (FieldType.array .boolean).toString = "[[Z" := by decide +kernel
  rw [enm] at hnameA
  cases hnameA.symm.trans hfc0
  obtain ⟨hg₁, hwarm₁, hready₁⟩ := State.classEntry (e := e) X.warmed hcl
  generalize T.vm.noted m.cls index (.cls (E.2 7)) = vm₁ at hg₁ hwarm₁ hready₁
  have hal : s.vm.Alike vm₁ := hwarm₁.alike
  obtain ⟨kA₁, hkA₁, heA⟩ := hal.2.2 _ _ hkA
  obtain ⟨kC₁, hkC₁, heC⟩ := hal.2.2 _ _ hkC
  have X₁ := X.noted hwarm₁
  have X8 := mSt_X X₁ (E.2 7) (E.2 1) 8 (Nat.le_refl 8)
  obtain ⟨f1, f2, f3, f4, f5, f6⟩ := mSt_f (T.setVm vm₁) (E.2 7) (E.2 1) 8
  have hsz : (T.setVm vm₁).heap.size = T.heap.size := rfl
  rw [hsz] at f1 f2 f6
  have hkeep : ∀ a, a < T.heap.size → (mSt (T.setVm vm₁) (E.2 7) (E.2 1) 8).heap[a]? = T.heap[a]? := fun a ha => f5 a ha
  have hlt : ∀ (k : Nat) (x : Nat × va_E), ws[k]? = some x → x.1 < T.heap.size := fun k x hx => (hP k x hx).lt
  have hP2 : va_P E.1 CL (ws ++ MT E T.heap.size (fun _ _ => 0)) (mSt (T.setVm vm₁) (E.2 7) (E.2 1) 8).heap := (hP.kept (fun k x hx => hkeep x.1 (hlt k x hx))).app (fun k x hx => by
    obtain ⟨g1, g2⟩ := MT_at hx
    obtain ⟨a, en⟩ := x
    simp only at g1 g2
    rcases g2 with ⟨rfl, rfl⟩ | ⟨i1, i8, rfl⟩
    · show _ = some _
      rw [g1]
      exact f2
    · show _ = some _
      rw [g1, show T.heap.size + k = T.heap.size + 1 + (k - 1) by omega]
      exact f6 (k - 1) (by omega))
  have hD2 : va_D A (ws ++ MT E T.heap.size (fun _ _ => 0)) := va_D_app hD hlt (fun i x hx => (MT_at hx).1) (fun q hq => hA q (Nat.le_trans hS.1 hq))
  have hS2 : va_S A H0 (mSt (T.setVm vm₁) (E.2 7) (E.2 1) 8).heap locs := ⟨by have := hS.1; rw [f1]; omega, fun q q1 q2 => (hkeep q (Nat.lt_of_lt_of_le q1 hS.1)).trans (hS.2.1 q q1 q2), hS.2.2⟩
  obtain ⟨t, a1, b1⟩ := kk T.heap.size _ hP2 hD2 hS2 _ rfl X8
  refine ⟨t, ?_, b1⟩
  obtain ⟨hr1, hr2⟩ := X.roomAbove hcells hslots
  have hdg' : decode c.code pc = .ok (.multianewarray index 2, 4) := by rw [hb]; exact hdg
  have hl1 : ¬ 8 > e.platform.arrayLengthLimit := by rw [Launch.admits_arrayLengthLimit X.admits]; decide
  have hh1 : ¬ 8 * componentBytes (.array .boolean) > e.platform.maxHeapBytes := by rw [Launch.admits_maxHeapBytes X.admits]; decide
  have hh2 : ¬ 8 * componentBytes .boolean > e.platform.maxHeapBytes := by rw [Launch.admits_maxHeapBytes X.admits]; decide
  jvm_step X.here [hexec, hdg']
  simp only [multianewarray.sem, wp_bind', W.resolveClassAt_links (t := T.setTop (F0 m pc ls (iv 8 :: iv 8 :: rest))) (mm := m) (State.method?_setTop (F0 m pc ls (iv 8 :: iv 8 :: rest)) X.here.top) hg₁]
  rw [W.popN, if_neg (by decide)]
  refine ⟨F0 m pc ls (iv 8 :: iv 8 :: rest), State.topJava?_setTop' (s := T.setVm vm₁) _ X.here.top, [iv 8, iv 8], rest, rfl, rfl, ?_⟩
  simp only [List.mapM_cons, List.mapM_nil, wp_bind', wp_pure']
  refine make_table (kA := kA₁) (kB := kC₁) (cB := E.2 1) (c1 := c1) hkA₁ (by rw [heA]; exact hkindA) hkC₁ (by rw [heC]; exact hkindC) hl1 hh1 hh2 (by show T.heap.size + 9 ≤ _; omega) (by show T.slotsUsed + 72 ≤ _; omega) (fun d' acts' => ?_)
  have eS : ((T.setTop (F0 m pc ls (iv 8 :: iv 8 :: rest))).setVm vm₁).setTop { F0 m pc ls (iv 8 :: iv 8 :: rest) with stack := rest } = (T.setVm vm₁).setTop { F0 m pc ls (iv 8 :: iv 8 :: rest) with stack := rest } := by
    show ((T.setVm vm₁).setTop _).setTop _ = _
    rw [State.setTop_setTop]
  rw [eS, mSt_top]
  simp only [wp_bind', W.mark, W.pushRef, State.topJava?_setTop' _ X8.here.top, Option.some.injEq, exists_eq_left', State.setTop_setTop, State.heap_setTop]
  intro acts
  simp [jvm, X8.here.top]
  exact a1
end NROWS9B
def um (T : Int → Int → Int) (i : Int) (f : Int → Int) : Int → Int → Int := fun j => if j = i then f else T j
theorem mt_at {pre : va_W} {E : EE} {q : Nat} {T : Int → Int → Int} {i : Int} (hi : 0 ≤ i ∧ i < 8) : (pre ++ MT E q T)[pre.length + (1 + i.toNat)]? = some (q + 1 + i.toNat, ia (E.2 1) 8 (T i)) := by
  rw [List.getElem?_append_right (by omega), Nat.add_sub_cancel_left]
  rcases (show i = 0 ∨ i = 1 ∨ i = 2 ∨ i = 3 ∨ i = 4 ∨ i = 5 ∨ i = 6 ∨ i = 7 by omega) with rfl | rfl | rfl | rfl | rfl | rfl | rfl | rfl <;> rfl
theorem mt_0 {pre : va_W} {E : EE} {q : Nat} {T : Int → Int → Int} : (pre ++ MT E q T)[pre.length]? = some (q, .inl (E.2 7, 8, .inr (.inr (.inr (.inr (fun k : Nat => some (q + 1 + k))))))) := by
  rw [List.getElem?_append_right (Nat.le_refl _), Nat.sub_self]
  rfl
theorem mt_set {pre : va_W} {E : EE} {q : Nat} {T : Int → Int → Int} {i : Int} {f : Int → Int} (hi : 0 ≤ i ∧ i < 8) : (pre ++ MT E q T).set (pre.length + (1 + i.toNat)) (q + 1 + i.toNat, ia (E.2 1) 8 f) = pre ++ MT E q (um T i f) := by
  rw [List.set_append_right (pre.length + (1 + i.toNat)) _ (by omega), Nat.add_sub_cancel_left]
  congr 1
  rcases (show i = 0 ∨ i = 1 ∨ i = 2 ∨ i = 3 ∨ i = 4 ∨ i = 5 ∨ i = 6 ∨ i = 7 by omega) with rfl | rfl | rfl | rfl | rfl | rfl | rfl | rfl <;> rfl
section NROWS9C
variable {p : Program} {l : Launch} {e : Env} {R : Room} {s : State} {m : MethodId} {args : Array Value} {below : List Frame} {meth : Method} {c : Code} {H : Heap} {locs : List Loc} {cells slots : Nat} {Q : State → Prop}
variable {pc : Nat} {ls : Array Slot} {rest : List Value} {ws : va_W} {E : EE} {cc : ByteArray}
theorem n_tald (hexec : p.tables.exec = Jvm.exec) (hb : c.code = cc) (hK : KE E s) (hP : va_P E.1 CL ws H) (q0 : Nat) {q : Nat} (ha : ws[q0]? = some (q, .inl (E.2 7, 8, .inr (.inr (.inr (.inr (fun k : Nat => some (q + 1 + k)))))))) {i : Int} (hi : 0 ≤ i ∧ i < 8) (hdg : decode cc pc = .ok (.aaload, 1))
    (kk : W p l e R s m args below meth c H locs cells slots Q (F0 m (pc + 1) ls (.ref (q + 1 + i.toNat) :: rest))) : W p l e R s m args below meth c H locs cells slots Q (F0 m pc ls (iv i :: .ref q :: rest)) := by
  have hin : vp_in (iI i) 8 := iI_in (by omega) (by omega)
  have hc : (iI i).toNatClampNeg = i.toNat := iI_cln (by omega) (by omega)
  have hlt : (iI i).toNatClampNeg < 8 := by rw [hc]; omega
  refine W.aald (v := va_rf (some (q + 1 + (iI i).toNatClampNeg))) (ty := .array .boolean) hexec hb (hP q0 _ ha) ((hK.1.2 7 _ (show (TY E)[7]? = some (E.2 7, .array .boolean) from rfl)).1 8 (fun j => va_rf (some (q + 1 + j)))) rfl (fun h => by cases h) (by show ¬ (iI i < 0 ∨ (arrV _ _ _).slots.size ≤ _); rw [arrV_size]; exact hin) (by show (arrV _ _ _).slots[_]? = _; rw [arrV_read _ _ hlt]) rfl rfl hdg ?_
  rw [hc]
  exact kk
end NROWS9C
