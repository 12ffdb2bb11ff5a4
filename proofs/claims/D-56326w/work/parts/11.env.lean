/-! ===== the classes of all contracts; what rides with every state; calls ===== -/
/-- the classes of the objects, the classes of the arrays, the addresses of what stands from the start -/
abbrev EE : Type := va_G × (Nat → ClassId)
def EX (E : EE) (i : Nat) : Nat := E.2 (100 + i)
/-- the constants: owner, entry, text, number -/
def SL : List (String × Nat × String × Nat) := [("java/util/ArrayDeque", 35, "Sorry, deque too big", 0), ("java/lang/StringIndexOutOfBoundsException", 13, "String index out of range: ", 1), ("java/util/Arrays", 337, " > ", 2), ("java/util/Arrays", 48, "fromIndex(", 3), ("java/util/Arrays", 57, ") > toIndex(", 4), ("java/util/Arrays", 59, ")", 5), ("java/lang/ArrayIndexOutOfBoundsException", 13, "Array index out of range: ", 6), ("ClockworkTailor$Book", 143, " ?", 7), ("ClockworkTailor$Book", 145, " ", 8), ("ClockworkTailor$State", 237, " ?", 9), ("ClockworkTailor$Parser", 75, "recipe", 10), ("ClockworkTailor$Parser", 92, "drop", 11), ("ClockworkTailor$Parser", 97, "lazy", 12), ("ClockworkTailor$Parser", 99, "need", 13), ("ClockworkTailor$Parser", 120, "close", 14), ("ClockworkTailor$Parser", 104, "cut", 15), ("ClockworkTailor$Parser", 109, "swap", 16), ("ClockworkTailor$Parser", 112, "back", 17), ("ClockworkTailor$Parser", 115, "open", 18), ("ClockworkTailor$Parser", 125, "make", 19), ("ClockworkTailor$Parser", 130, "touch", 20), ("ClockworkTailorModel", 231, "ecipe", 21), ("ClockworkTailorModel", 243, "rop", 22), ("ClockworkTailorModel", 245, "eed", 23), ("ClockworkTailorModel", 250, "azy", 24), ("ClockworkTailorModel", 252, "t", 25), ("ClockworkTailorModel", 254, "lose", 26), ("ClockworkTailorModel", 256, "wap", 27), ("ClockworkTailorModel", 258, "ack", 28), ("ClockworkTailorModel", 260, "pen", 29), ("ClockworkTailorModel", 262, "ake", 30), ("ClockworkTailorModel", 264, "ouch", 31)]
def TX : List (List Int) := [[83, 111, 114, 114, 121, 44, 32, 100, 101, 113, 117, 101, 32, 116, 111, 111, 32, 98, 105, 103], [83, 116, 114, 105, 110, 103, 32, 105, 110, 100, 101, 120, 32, 111, 117, 116, 32, 111, 102, 32, 114, 97, 110, 103, 101, 58, 32], [32, 62, 32], [102, 114, 111, 109, 73, 110, 100, 101, 120, 40], [41, 32, 62, 32, 116, 111, 73, 110, 100, 101, 120, 40], [41], [65, 114, 114, 97, 121, 32, 105, 110, 100, 101, 120, 32, 111, 117, 116, 32, 111, 102, 32, 114, 97, 110, 103, 101, 58, 32], [32, 63], [32], [32, 63], [114, 101, 99, 105, 112, 101], [100, 114, 111, 112], [108, 97, 122, 121], [110, 101, 101, 100], [99, 108, 111, 115, 101], [99, 117, 116], [115, 119, 97, 112], [98, 97, 99, 107], [111, 112, 101, 110], [109, 97, 107, 101], [116, 111, 117, 99, 104], [101, 99, 105, 112, 101], [114, 111, 112], [101, 101, 100], [97, 122, 121], [116], [108, 111, 115, 101], [119, 97, 112], [97, 99, 107], [112, 101, 110], [97, 107, 101], [111, 117, 99, 104]]
def CL : List vw_C := [(RX5, TX5, 23), (RX1, TX1, 11), (RX2, TX2, 14), (RX3, TX3, 7), (RX4, TX4, 3), (RX6, TX6, 9), (RX7, TX7, 7), (RX8, TX8, 4), (RX9, TX9, 7), (RJ1, TJ1, 3), (RJ3, TJ3, 4), (RJ7, TJ7, 3), (RJ26, TJ26, 4), (RJ4, TJ4, 4)]
def TY (E : EE) : List (ClassId × FieldType) := [(E.2 0, .int), (E.2 1, .boolean), (E.2 2, .char), (E.2 3, .byte), (E.2 4, .object "java/lang/Object"), (E.2 5, .long), (E.2 6, .double), (E.2 7, .array .boolean)]
def isN : Cond → Bool
  | .fieldLinkNest _ _ _ _ _ _ => true
  | .methodLinkNest _ _ _ _ => true
  | .castable _ _ => true
  | .declares _ => true
  | .privateMethod _ => true
  | _ => false
theorem va_Nw.warmP {x : MethodName} {s U : State} (hW : s.WarmedH U.vm) (hZ : va_Nw (.privateMethod x) s) : va_Nw (.privateMethod x) U := va_tabs rfl (rfl : (s.setVm U.vm).vm = U.vm) (by rw [Cond.privateMethod_setVm hW.alike]; exact hZ)
theorem isN_on {w : Cond} (h : isN w = true) : w.onTables = true := by
  cases w <;> first | rfl | cases h
theorem isN_warm {w : Cond} (h : isN w = true) {s U : State} (hW : s.WarmedH U.vm) (hZ : va_Nw w s) : va_Nw w U := by
  cases w <;> first | exact va_Nw.warmF hW hZ | exact va_Nw.warmM hW hZ | exact va_Nw.warmC hW hZ | exact va_Nw.warmD hW hZ | exact va_Nw.warmP hW hZ | cases h
/-- the class of arrays of arrays of booleans -/
def KAO (U : State) : Prop := (Cond.arrayOver (.array .boolean)).before #[] U = true
theorem KAO.warm {s U : State} (hW : s.WarmedH U.vm) (h : KAO s) : KAO U := by
  have h2 : (Cond.arrayOver (.array .boolean)).before #[] (s.setVm U.vm) = true := by rw [Cond.arrayOver_setVmC hW.alike]; exact h
  exact h2
def KN (U : State) : Prop := (∀ w ∈ lw_tbl, isN w = true → va_Nw w U) ∧ KAO U
/-- the constants are where E says -/
def KS (E : EE) (U : State) : Prop := ∀ q ∈ SL, vk_R q.1 q.2.1 q.2.2.1 (EX E (2 * q.2.2.2)) U
/-- the lambda sites -/
def LAt (w : Cond) (cK : ClassId) (a : Addr) (U : State) : Prop := match w with
  | .lambdaSite x pc index σ => (σ.captured ≠ [] → LSite x pc index σ cK U) ∧ (σ.captured = [] → LCon x pc index σ cK a U)
  | _ => True
theorem LAt.warm {w : Cond} {cK : ClassId} {a : Addr} {s U : State} (hW : s.WarmedH U.vm) (h : LAt w cK a s) : LAt w cK a U := by
  cases w <;> first | trivial | exact ⟨fun hc => (h.1 hc).warm hW, fun hc => (h.2 hc).warm hW⟩
def LSS : List (Nat × Cond) := [(1, siteWord_1_1), (2, siteWord_1_2), (3, siteWord_1_3), (4, siteWord_1_4), (5, siteWord_1_5), (6, siteWord_1_6), (7, siteWord_1_7), (8, siteWord_1_8), (9, siteWord_1_9), (10, siteWord_1_10), (11, siteWord_1_11), (12, siteWord_1_12), (13, siteWord_1_13), (14, siteWord_1_14), (15, siteWord_1_15), (16, siteWord_1_16), (17, siteWord_1_17), (18, siteWord_1_18), (19, siteWord_1_19), (20, siteWord_1_20), (21, siteWord_1_21), (22, siteWord_1_22), (23, siteWord_1_23)]
def KL (E : EE) (U : State) : Prop := ∀ q ∈ LSS, LAt q.2 (E.2 (3000 + q.1)) (EX E (3000 + q.1)) U
/-- an interface's method, by its words -/
def KFI (x : MethodName) (U : State) : Prop := (Cond.declares x).before #[] U = true ∧ (Cond.interfaceMethod x.cls x.cls x.name x.desc).before #[] U = true
theorem KFI.moved {x : MethodName} (hx : x.cls ≠ "java/lang/invoke/MethodHandle" ∧ x.cls ≠ "java/lang/invoke/VarHandle") {u U : State} (hvm : u.vm.Alike U.vm) (h : KFI x u) : KFI x U := by
  obtain ⟨h1, h2⟩ := h
  obtain ⟨r, meth, hn, -⟩ := Cond.declares_spec h1
  have tr : ∀ {c : Cond}, c.onTables = true → c.before #[] (u.setVm U.vm) = true → c.before #[] U = true := by
    intro c hc h
    have e := Cond.onTables_vm (A := #[]) (A' := #[]) (U := u) (U' := U) U.vm c hc
    have hU : U.setVm U.vm = U := rfl
    rw [hU] at e
    rw [← e]
    exact h
  exact ⟨tr rfl (by rw [Cond.declares_setVm hvm]; exact h1), tr rfl (by rw [Cond.interfaceMethod_setVm hvm (r := r) hn hx]; exact h2)⟩
def xLeads : MethodName := ⟨"ClockworkTailor$Way", "leads", "(II)Z"⟩
def xApply : MethodName := ⟨"ClockworkTailor$Change", "applyTo", "(LClockworkTailor$State;)I"⟩
def xHas : MethodName := ⟨"java/util/Iterator", "hasNext", "()Z"⟩
def xNext : MethodName := ⟨"java/util/Iterator", "next", "()Ljava/lang/Object;"⟩
def yHas : MethodName := ⟨"java/util/ArrayList$Itr", "hasNext", "()Z"⟩
def yNext : MethodName := ⟨"java/util/ArrayList$Itr", "next", "()Ljava/lang/Object;"⟩
/-- classes that aren't castable: what a catch row passes by -/
def NCL : List (String × String) := [("java/lang/IllegalStateException", "ClockworkTailor$Refusal"), ("java/lang/IllegalArgumentException", "ClockworkTailor$Refusal"), ("java/lang/UnsupportedOperationException", "ClockworkTailor$Refusal"), ("java/util/NoSuchElementException", "ClockworkTailor$Refusal"), ("java/lang/IndexOutOfBoundsException", "ClockworkTailor$Refusal"), ("java/lang/ArithmeticException", "ClockworkTailor$Refusal"), ("ClockworkTailor$SyntaxError", "ClockworkTailor$Refusal"), ("java/lang/IllegalStateException", "java/lang/IllegalArgumentException"), ("java/lang/UnsupportedOperationException", "java/lang/IllegalArgumentException"), ("java/util/NoSuchElementException", "java/lang/IllegalArgumentException"), ("ClockworkTailor$Refusal", "java/lang/IllegalArgumentException"), ("java/lang/IndexOutOfBoundsException", "java/lang/IllegalArgumentException"), ("java/lang/ArithmeticException", "java/lang/IllegalArgumentException"), ("ClockworkTailor$SyntaxError", "java/lang/IllegalArgumentException"), ("java/lang/IllegalArgumentException", "java/lang/IllegalStateException"), ("java/lang/UnsupportedOperationException", "java/lang/IllegalStateException"), ("java/util/NoSuchElementException", "java/lang/IllegalStateException"), ("ClockworkTailor$Refusal", "java/lang/IllegalStateException"), ("java/lang/IndexOutOfBoundsException", "java/lang/IllegalStateException"), ("java/lang/ArithmeticException", "java/lang/IllegalStateException"), ("ClockworkTailor$SyntaxError", "java/lang/IllegalStateException"), ("java/lang/IllegalStateException", "java/util/NoSuchElementException"), ("java/lang/IllegalArgumentException", "java/util/NoSuchElementException"), ("java/lang/UnsupportedOperationException", "java/util/NoSuchElementException"), ("ClockworkTailor$Refusal", "java/util/NoSuchElementException"), ("java/lang/IndexOutOfBoundsException", "java/util/NoSuchElementException"), ("java/lang/ArithmeticException", "java/util/NoSuchElementException"), ("ClockworkTailor$SyntaxError", "java/util/NoSuchElementException"), ("java/lang/IllegalStateException", "java/lang/UnsupportedOperationException"), ("java/lang/IllegalArgumentException", "java/lang/UnsupportedOperationException"), ("java/util/NoSuchElementException", "java/lang/UnsupportedOperationException"), ("ClockworkTailor$Refusal", "java/lang/UnsupportedOperationException"), ("java/lang/IndexOutOfBoundsException", "java/lang/UnsupportedOperationException"), ("java/lang/ArithmeticException", "java/lang/UnsupportedOperationException"), ("ClockworkTailor$SyntaxError", "java/lang/UnsupportedOperationException"), ("java/lang/IllegalStateException", "java/lang/IndexOutOfBoundsException"), ("java/lang/IllegalArgumentException", "java/lang/IndexOutOfBoundsException"), ("java/lang/UnsupportedOperationException", "java/lang/IndexOutOfBoundsException"), ("java/util/NoSuchElementException", "java/lang/IndexOutOfBoundsException"), ("ClockworkTailor$Refusal", "java/lang/IndexOutOfBoundsException"), ("java/lang/ArithmeticException", "java/lang/IndexOutOfBoundsException"), ("ClockworkTailor$SyntaxError", "java/lang/IndexOutOfBoundsException"), ("java/lang/IllegalStateException", "java/lang/ArithmeticException"), ("java/lang/IllegalArgumentException", "java/lang/ArithmeticException"), ("java/lang/UnsupportedOperationException", "java/lang/ArithmeticException"), ("java/util/NoSuchElementException", "java/lang/ArithmeticException"), ("ClockworkTailor$Refusal", "java/lang/ArithmeticException"), ("java/lang/IndexOutOfBoundsException", "java/lang/ArithmeticException"), ("ClockworkTailor$SyntaxError", "java/lang/ArithmeticException"), ("java/lang/IllegalStateException", "ClockworkTailor$SyntaxError"), ("java/lang/IllegalArgumentException", "ClockworkTailor$SyntaxError"), ("java/lang/UnsupportedOperationException", "ClockworkTailor$SyntaxError"), ("java/util/NoSuchElementException", "ClockworkTailor$SyntaxError"), ("ClockworkTailor$Refusal", "ClockworkTailor$SyntaxError"), ("java/lang/IndexOutOfBoundsException", "ClockworkTailor$SyntaxError"), ("java/lang/ArithmeticException", "ClockworkTailor$SyntaxError")]
def KX (E : EE) (U : State) : Prop := KL E U ∧ KFI xLeads U ∧ KFI xApply U ∧ va_Fw "java/util/ArrayList$Itr" xHas yHas U ∧ va_Fw "java/util/ArrayList$Itr" xNext yNext U ∧ ∀ q ∈ NCL, va_Nc q.1 q.2 U
theorem KX.warm {E : EE} {s U : State} (h : KX E s) (hW : s.WarmedH U.vm) : KX E U := ⟨fun q hq => (h.1 q hq).warm hW, h.2.1.moved (by decide +kernel) hW.alike, h.2.2.1.moved (by decide +kernel) hW.alike, h.2.2.2.1.moved (by decide +kernel) hW.alike, h.2.2.2.2.1.moved (by decide +kernel) hW.alike, fun q hq => va_Nc.moved hW.alike (h.2.2.2.2.2 q hq)⟩
def KE (E : EE) (U : State) : Prop := va_K E.1 CL (TY E) U ∧ KN U ∧ va_AO "java/lang/Object" U ∧ KS E U ∧ KX E U
theorem KE.nw {E : EE} {U : State} (h : KE E U) {w : Cond} (hw : w ∈ lw_tbl) {A : Array Value} (hn : isN w = true := by rfl) : w.before A U = true := va_Nw.use (isN_on hn) (h.2.1.1 w hw hn)
theorem KE.nv {E : EE} {U : State} (h : KE E U) {w : Cond} (hw : w ∈ lw_tbl) (hn : isN w = true := by rfl) : va_Nw w U := h.2.1.1 w hw hn
theorem KE.ao {E : EE} {U : State} (h : KE E U) {A : Array Value} : (Cond.arrayOver (.array .boolean)).before A U = true := h.2.1.2
theorem KE.ks {E : EE} {U : State} (h : KE E U) : KS E U := h.2.2.2.1
theorem KE.kx {E : EE} {U : State} (h : KE E U) : KX E U := h.2.2.2.2
theorem KE.warm {E : EE} {s U : State} (h : KE E s) (hW : s.WarmedH U.vm) : KE E U := ⟨va_K.moved hW.alike h.1, ⟨fun w hw hn => isN_warm hn hW (h.2.1.1 w hw hn), h.2.1.2.warm hW⟩, va_AO.moved hW.alike h.2.2.1, fun q hq => vk_R.warm hW (h.ks q hq), h.kx.warm hW⟩
theorem KE.calling {E : EE} {U : State} {g : JFrame} {mk : MethodId} {a : Array Value} (h : KE E U) : KE E (U.calling g mk a) := h.warm (s := U) (U := U.calling g mk a) (State.WarmedH.refl U)
/-- a reader's world -/
def PW (E : EE) (ws : va_W) (U : State) : Prop := va_P E.1 CL ws U.heap ∧ KE E U
/-- a writer's world -/
def UW (E : EE) (ws : va_W) (sz : Nat) (U : State) : Prop := U.heap.size = sz ∧ va_P E.1 CL ws U.heap ∧ KE E U ∧ va_D (fun _ => True) ws
theorem PW_blind {E : EE} {ws : va_W} {av : List Value} : FrameBlind (va_Pc av (PW E ws)) := fun a U g mk q => ⟨q.1, q.2.1, q.2.2.calling⟩
theorem UW_blind {E : EE} {ws : va_W} {sz : Nat} {av : List Value} : FrameBlind (va_Pc av (UW E ws sz)) := fun a U g mk q => ⟨q.1, q.2.1, q.2.2.1, q.2.2.2.1.calling, q.2.2.2.2⟩
abbrev Recv (s : State) (H : Heap) (C : String) (b : Addr) : Prop := ∃ cellB : Cell, H[b]? = some cellB ∧ cellB.vm.isStatics = false ∧ s.vm.findClass C = some cellB.cls
theorem PW_V {E : EE} {ws : va_W} {s : State} {H : Heap} {C : String} {b : Addr} {As : List Value} (hP : va_P E.1 CL ws H) (hK : KE E s) (hr : Recv s H C b) : PreV s H C b (va_Pc (.ref b :: As) (PW E ws)) As := ⟨PW_blind, hr, fun U hU hW => ⟨rfl, by rw [hU]; exact hP, hK.warm hW⟩⟩
theorem PW_S {E : EE} {ws : va_W} {s : State} {H : Heap} {As : List Value} (hP : va_P E.1 CL ws H) (hK : KE E s) : PreS s H (va_Pc As (PW E ws)) As := ⟨PW_blind, fun U hU hW => ⟨rfl, by rw [hU]; exact hP, hK.warm hW⟩⟩
theorem UW_V {E : EE} {ws : va_W} {s : State} {H : Heap} {C : String} {b : Addr} {As : List Value} {A : Nat → Prop} (hP : va_P E.1 CL ws H) (hK : KE E s) (hD : va_D A ws) (hr : Recv s H C b) : PreV s H C b (va_Pc (.ref b :: As) (UW E ws H.size)) As := ⟨UW_blind, hr, fun U hU hW => ⟨rfl, by rw [hU], by rw [hU]; exact hP, hK.warm hW, hD.weaken (fun _ _ _ _ => trivial)⟩⟩
theorem UW_S {E : EE} {ws : va_W} {s : State} {H : Heap} {As : List Value} {A : Nat → Prop} (hP : va_P E.1 CL ws H) (hK : KE E s) (hD : va_D A ws) : PreS s H (va_Pc As (UW E ws H.size)) As := ⟨UW_blind, fun U hU hW => ⟨rfl, by rw [hU], by rw [hU]; exact hP, hK.warm hW, hD.weaken (fun _ _ _ _ => trivial)⟩⟩
/-- the answer x, nothing changed -/
abbrev NP (x : Int) : Array Value → State → Outcome → State → Prop := vp_Si (fun r => r = iI x)
/-- the answer x, the world w1 -/
def UQi (E : EE) (x : Int) (w1 : va_W) (A : Nat → Prop) : Array Value → State → Outcome → State → Prop := va_Qi (fun (r : Int32) (_ : Unit) => r = iI x) (fun _ t => va_P E.1 CL w1 t.heap ∧ va_D A w1) A
def UQv (E : EE) (w1 : va_W) (A : Nat → Prop) : Array Value → State → Outcome → State → Prop := va_Qv (fun (_ : Unit) => True) (fun _ t => va_P E.1 CL w1 t.heap ∧ va_D A w1) A
theorem va_A_in {A : Nat → Prop} {ws : va_W} {H0 H : Heap} {locs : List Loc} (hD : va_D A ws) (hS : va_S A H0 H locs) (hA : ∀ q : Nat, H0.size ≤ q → A q) : ∀ q, va_A ws H.size q → A q := by
  intro q h
  rcases h with ⟨k, e, h⟩ | h
  · exact hD.2 k (q, e) h
  · exact hA q (Nat.le_trans hS.1 h)
theorem fm_of_map {α β : Type} {l : List α} {f : α → Option β} {w : List β} (h : l.map f = w.map some) : l.filterMap f = w := by
  induction l generalizing w with
  | nil => cases w with | nil => rfl | cons _ _ => cases h
  | cons a l ih =>
    cases w with
    | nil => cases h
    | cons b w =>
      simp only [List.map_cons, List.cons.injEq] at h
      rw [List.filterMap_cons, h.1]
      simp only [ih h.2]
section NCALLS
variable {p : Program} {l : Launch} {e : Env} {R : Room} {s : State} {m : MethodId} {args : Array Value} {below : List Frame} {meth : Method} {c : Code} {H : Heap} {locs : List Loc} {cells slots : Nat} {Q : State → Prop}
variable {pc : Nat} {ls : Array Slot} {rest st0 : List Value} {ws wc w1 w2 : va_W} {A : Nat → Prop} {H0 : Heap} {E : EE} {x : Int} {mc ms : Nat} {a : Array Value}
theorem n_csi (hr : va_Run p l e R s m args below meth c H locs cells slots 0 0 (F0 m pc ls st0) rest (NP x a) (fun _ => False)) (kk : W p l e R s m args below meth c H locs cells slots Q (F0 m (pc + 3) ls (iv x :: rest))) : W p l e R s m args below meth c H locs cells slots Q (F0 m pc ls st0) :=
  vp_callSi hr.run (fun r h => by subst h; exact kk)
theorem n_cui (hr : va_Run p l e R s m args below meth c H locs cells slots mc ms (F0 m pc ls st0) rest (UQi E x w1 (va_A ws H.size) a) (va_A ws H.size)) (hD : va_D A ws) (hS : va_S A H0 H locs) (hA : ∀ q : Nat, H0.size ≤ q → A q) (kk : ∀ (H1 : Heap) (locs1 : List Loc), va_P E.1 CL w1 H1 → va_D A w1 → va_S A H0 H1 locs1 → W p l e R s m args below meth c H1 locs1 (cells + mc) (slots + ms) Q (F0 m (pc + 3) ls (iv x :: rest))) : W p l e R s m args below meth c H locs cells slots Q (F0 m pc ls st0) := by
  have hF := va_A_in hD hS hA
  refine va_calli hr hS (fun q _ h => hF q h) hF (fun r u t H1 locs1 ht hvm h1 hB hz hk hS1 => ?_)
  subst h1
  subst ht
  exact kk t.heap locs1 hB.1 (hB.2.weaken (fun k q _ h => hF q.1 h)) hS1
theorem n_cuv (hr : va_Run p l e R s m args below meth c H locs cells slots mc ms (F0 m pc ls st0) rest (UQv E w1 (va_A ws H.size) a) (va_A ws H.size)) (hD : va_D A ws) (hS : va_S A H0 H locs) (hA : ∀ q : Nat, H0.size ≤ q → A q) (kk : ∀ (H1 : Heap) (locs1 : List Loc), va_P E.1 CL w1 H1 → va_D A w1 → va_S A H0 H1 locs1 → W p l e R s m args below meth c H1 locs1 (cells + mc) (slots + ms) Q (F0 m (pc + 3) ls rest)) : W p l e R s m args below meth c H locs cells slots Q (F0 m pc ls st0) := by
  have hF := va_A_in hD hS hA
  refine va_callv hr hS (fun q _ h => hF q h) hF (fun u t H1 locs1 ht hvm h1 hB hz hk hS1 => ?_)
  subst ht
  exact kk t.heap locs1 hB.1 (hB.2.weaken (fun k q _ h => hF q.1 h)) hS1
/-- behind a call over some of the cells (isC): the rest (isR) stays; all in the order pm -/
theorem n_back {H1 : Heap} (hP : va_P E.1 CL ws H) (hD : va_D A ws) (hF : ∀ q, va_A wc H.size q → A q) (isC isR pm : List Nat) (hC : isC.map (fun i => ws[i]?) = wc.map some) (hR : isR.all (fun i => (ws[i]?).isSome) = true) (hn : va_nd isR = true) (hdis : isR.all (fun i => !isC.contains i) = true) (hpn : va_nd pm = true) (hpm : pm.map (fun i => (isR.filterMap (fun i => ws[i]?) ++ w1)[i]?) = w2.map some)
    (hk : ∀ q : Nat, q < H.size → ¬ va_A wc H.size q → H1[q]? = H[q]?) (hP1 : va_P E.1 CL w1 H1) (hD1 : va_D (va_A wc H.size) w1) : va_P E.1 CL w2 H1 ∧ va_D A w2 := by
  have hR2 : isR.map (fun i => ws[i]?) = (isR.filterMap (fun i => ws[i]?)).map some := by
    clear hn hdis hpm hpn
    induction isR with
    | nil => rfl
    | cons i t ih =>
      simp only [List.all_cons, Bool.and_eq_true] at hR
      obtain ⟨v, hv⟩ := Option.isSome_iff_exists.mp hR.1
      simp only [List.map_cons, List.filterMap_cons, hv, ih hR.2]
  have hdis2 : ∀ i ∈ isR, i ∉ isC := fun i hi hc => by
    have h2 := List.all_eq_true.mp hdis i hi
    rw [List.contains_iff_mem.mpr hc] at h2
    cases h2
  obtain ⟨a1, a2⟩ := va_join hP hD isC isR hC hR2 hn hdis2 hk hF hP1 hD1
  exact ⟨a1.sub pm (fm_of_map hpm), a2.sub pm hpn hpm⟩
theorem va_sub_free (hD : va_D A ws) (hS : va_S A H0 H locs) (hA : ∀ q : Nat, H0.size ≤ q → A q) (isC : List Nat) (hC : isC.map (fun i => ws[i]?) = wc.map some) : ∀ q, va_A wc H.size q → A q := va_free hD hS hA isC hC
theorem n_cuiS (hr : va_Run p l e R s m args below meth c H locs cells slots mc ms (F0 m pc ls st0) rest (UQi E x w1 (va_A wc H.size) a) (va_A wc H.size)) (hP : va_P E.1 CL ws H) (hD : va_D A ws) (hS : va_S A H0 H locs) (hA : ∀ q : Nat, H0.size ≤ q → A q) (isC isR pm : List Nat) (hC : isC.map (fun i => ws[i]?) = wc.map some) (hR : isR.all (fun i => (ws[i]?).isSome) = true) (hn : va_nd isR = true) (hdis : isR.all (fun i => !isC.contains i) = true) (hpn : va_nd pm = true) (hpm : pm.map (fun i => (isR.filterMap (fun i => ws[i]?) ++ w1)[i]?) = w2.map some) (kk : ∀ (H1 : Heap) (locs1 : List Loc), va_P E.1 CL w2 H1 → va_D A w2 → va_S A H0 H1 locs1 → W p l e R s m args below meth c H1 locs1 (cells + mc) (slots + ms) Q (F0 m (pc + 3) ls (iv x :: rest))) : W p l e R s m args below meth c H locs cells slots Q (F0 m pc ls st0) := by
  have hF := va_sub_free hD hS hA isC hC
  refine va_calli hr hS (fun q _ h => hF q h) hF (fun r u t H1 locs1 ht hvm h1 hB hz hk hS1 => ?_)
  subst h1
  subst ht
  obtain ⟨a1, a2⟩ := n_back hP hD hF isC isR pm hC hR hn hdis hpn hpm hk hB.1 hB.2
  exact kk t.heap locs1 a1 a2 hS1
theorem n_cuvS (hr : va_Run p l e R s m args below meth c H locs cells slots mc ms (F0 m pc ls st0) rest (UQv E w1 (va_A wc H.size) a) (va_A wc H.size)) (hP : va_P E.1 CL ws H) (hD : va_D A ws) (hS : va_S A H0 H locs) (hA : ∀ q : Nat, H0.size ≤ q → A q) (isC isR pm : List Nat) (hC : isC.map (fun i => ws[i]?) = wc.map some) (hR : isR.all (fun i => (ws[i]?).isSome) = true) (hn : va_nd isR = true) (hdis : isR.all (fun i => !isC.contains i) = true) (hpn : va_nd pm = true) (hpm : pm.map (fun i => (isR.filterMap (fun i => ws[i]?) ++ w1)[i]?) = w2.map some) (kk : ∀ (H1 : Heap) (locs1 : List Loc), va_P E.1 CL w2 H1 → va_D A w2 → va_S A H0 H1 locs1 → W p l e R s m args below meth c H1 locs1 (cells + mc) (slots + ms) Q (F0 m (pc + 3) ls rest)) : W p l e R s m args below meth c H locs cells slots Q (F0 m pc ls st0) := by
  have hF := va_sub_free hD hS hA isC hC
  refine va_callv hr hS (fun q _ h => hF q h) hF (fun u t H1 locs1 ht hvm h1 hB hz hk hS1 => ?_)
  subst ht
  obtain ⟨a1, a2⟩ := n_back hP hD hF isC isR pm hC hR hn hdis hpn hpm hk hB.1 hB.2
  exact kk t.heap locs1 a1 a2 hS1
end NCALLS
/-! sums, first places -/
def sumN (f : Int → Int) : Nat → Int
  | 0 => 0
  | n + 1 => sumN f n + f n
def sumI (f : Int → Int) (n : Int) : Int := sumN f n.toNat
theorem sumI_0 (f : Int → Int) : sumI f 0 = 0 := rfl
theorem sumI_s {f : Int → Int} {n : Int} (h : 0 ≤ n) : sumI f (n + 1) = sumI f n + f n := by
  obtain ⟨k, rfl⟩ := Int.eq_ofNat_of_zero_le h
  rfl
theorem sumN_b {f : Int → Int} {lo hi : Int} (n : Nat) (h : ∀ k : Int, 0 ≤ k → k < n → lo ≤ f k ∧ f k ≤ hi) : n * lo ≤ sumN f n ∧ sumN f n ≤ n * hi := by
  induction n with
  | zero => simp [sumN]
  | succ n ih =>
    have h1 := ih (fun k a b => h k a (by omega))
    have h2 := h n (by omega) (by omega)
    simp only [sumN]
    push_cast
    rw [Int.add_mul, Int.add_mul, Int.one_mul, Int.one_mul]
    omega
def fndN (f : Int → Bool) : Nat → Int
  | 0 => -1
  | n + 1 => if 0 ≤ fndN f n then fndN f n else if f n = true then n else -1
/-- the first k < n with f k, or -1 -/
def fnd (f : Int → Bool) (n : Int) : Int := fndN f n.toNat
theorem fnd_0 (f : Int → Bool) : fnd f 0 = -1 := rfl
theorem fnd_no {f : Int → Bool} {n : Int} (h : 0 ≤ n) (h1 : fnd f n = -1) (h2 : f n = false) : fnd f (n + 1) = -1 := by
  obtain ⟨k, rfl⟩ := Int.eq_ofNat_of_zero_le h
  show fndN f (k + 1) = -1
  have h3 : fndN f k = -1 := h1
  simp [fndN, h3, h2]
theorem fnd_yes {f : Int → Bool} {k n : Int} (h0 : 0 ≤ k) (hk : k < n) (h1 : fnd f k = -1) (h2 : f k = true) : fnd f n = k := by
  obtain ⟨j, rfl⟩ := Int.eq_ofNat_of_zero_le h0
  obtain ⟨d, rfl⟩ : ∃ d : Nat, n = ((j + 1 + d : Nat) : Int) := ⟨(n - (j + 1)).toNat, by omega⟩
  show fndN f (j + 1 + d) = j
  induction d with
  | zero =>
    have h3 : fndN f j = -1 := h1
    simp [fndN, h3, h2]
  | succ d ih =>
    have h3 := ih (by omega)
    show (if 0 ≤ fndN f (j + 1 + d) then fndN f (j + 1 + d) else _) = _
    rw [h3, if_pos (by omega)]
theorem fndN_r (f : Int → Bool) (n : Nat) : -1 ≤ fndN f n ∧ fndN f n < (n : Int) + 0 ∨ fndN f n = -1 := by
  induction n with
  | zero => right; rfl
  | succ n ih =>
    unfold fndN
    split
    · left; omega
    · split
      · left; omega
      · right; rfl
