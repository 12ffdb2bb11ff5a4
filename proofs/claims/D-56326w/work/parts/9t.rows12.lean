/-! ===== rows, 12: what a handler passes by and what it catches; codes of the commands ===== -/
section NROWS12
variable {p : Program} {l : Launch} {e : Env} {R : Room} {s : State} {m : MethodId} {args : Array Value} {below : List Frame} {meth : Method} {c : Code} {H : Heap} {locs : List Loc} {cells slots : Nat} {Q : State → Prop}
variable {pc : Nat} {ls : Array Slot} {rest : List Value} {A : Nat → Prop} {E : EE} {mc ms : Nat}
/-- not caught by these handlers: the exception goes on to the caller -/
theorem n_outP {Qc : Array Value → State → Outcome → State → Prop} {τ : Type} {Cx : String → τ → Prop} {wx : τ → va_W} {rx : τ → Option (Nat × List Value)} {own En : String} {ce : Cell} {q : Addr} (u : τ) (hC : Cx En u) (hP : va_P E.1 CL (wx u) H) (hD : va_D A (wx u)) (hS : va_S A s.heap H locs) (hxf : XF E q (rx u) H) (hq : s.heap.size ≤ q) (hce : H[q]? = some ce) (hcv : ce.vm = .none) (hcl : s.vm.findClass En = some ce.cls) (hown : s.vm.findClass own = some m.cls)
    (hpass : ∀ z ∈ c.exceptionTable.toList, covers z pc = false ∨ (z.catchType ≠ 0 ∧ ∃ nm : String, (Cond.classLink own z.catchType nm).before args s = true ∧ va_Nc En nm s)) (hlocks : meth.locks = false) (hc : cells ≤ mc) (hs : slots ≤ ms) :
    vx_W p l e R s m args below meth c H locs cells slots (vx_MQ below Qc (UXx E Cx wx rx A) args s mc ms A) (F0 m pc ls rest) q :=
  vx_outP hown hlocks hpass hce hcv hcl (fun t ht _ => ⟨u, hC, by rw [ht]; exact hP, hD, by rw [ht]; exact hxf, hq, hS.F ht⟩) hS.2.2 hc hs
end NROWS12
theorem P_lts {D : va_G} {cl : List vw_C} {ws : va_W} {H : Heap} (hP : va_P D cl ws H) : ∀ a ∈ ws.map Prod.fst, a < H.size := by
  intro a ha
  obtain ⟨x, hx, rfl⟩ := List.mem_map.mp ha
  exact (va_P_mem.mp hP x hx).lt
/-- a cell younger than the world joins it -/
theorem n_joinX {E : EE} {A : Nat → Prop} {H : Heap} {ws : va_W} {L0 : List Nat} {n q : Nat} {x : va_E} (hlt : ∀ a ∈ L0, a < n) (he : ws.map Prod.fst = L0) (hP : va_P E.1 CL ws H) (hD : va_D A ws) (hq : n ≤ q) (hAq : A q) (hPq : va_P E.1 CL ([(q, x)] : va_W) H) : va_P E.1 CL (ws ++ ([(q, x)] : va_W)) H ∧ va_D A (ws ++ ([(q, x)] : va_W)) := by
  refine ⟨hP.app hPq, va_D_pw.mpr ⟨List.pairwise_append.mpr ⟨(va_D_pw.mp hD).1, List.pairwise_singleton _ _, fun y hy z hz e9 => ?_⟩, fun y hy => ?_⟩⟩
  · rw [List.mem_singleton] at hz
    subst hz
    have h1 := hlt y.1 (by rw [← he]; exact List.mem_map.mpr ⟨y, hy, rfl⟩)
    have h2 : y.1 = q := e9
    omega
  · rcases List.mem_append.mp hy with h | h
    · exact (va_D_pw.mp hD).2 y h
    · rw [List.mem_singleton] at h
      subst h
      exact hAq
theorem hnm_def {g : Int → Int} {t s mn c : Int} (h : A_def g t s mn = .inl c) : c = 1 ∨ c = 2 := by
  have hr := c_def_r g t s mn
  unfold A_def at h
  (repeat' split at h) <;> first | (cases h; omega) | cases h
theorem hnm_drop {g : Int → Int} {t c : Int} (h : A_drop g t = .inl c) : c = 1 ∨ c = 2 ∨ c = 3 := by
  have hr := c_none_r g t
  unfold A_drop at h
  (repeat' split at h) <;> first | (cases h; omega) | cases h
theorem hnm_add {g : Int → Int} {t n c : Int} {z : Bool} (h : A_add g t n z = .inl c) : c = 1 ∨ c = 2 := by
  have hr := c_add_r g t n
  unfold A_add at h
  (repeat' split at h) <;> first | (cases h; omega) | cases h
theorem hnm_rem {g : Int → Int} {t n c : Int} (h : A_rem g t n = .inl c) : c = 1 ∨ c = 2 := by
  have hr := c_rem_r g t n
  unfold A_rem at h
  (repeat' split at h) <;> first | (cases h; omega) | cases h
theorem hnm_repl {g : Int → Int} {t b c : Int} (h : A_repl g t b = .inl c) : c = 1 := by
  have hr := c_repl_r t b
  unfold A_repl at h
  (repeat' split at h) <;> first | (cases h; omega) | cases h
theorem hnm_back {g : Int → Int} {t c : Int} (h : A_back g t = .inl c) : c = 1 ∨ c = 2 := by
  have hr := c_back_r g t
  unfold A_back at h
  (repeat' split at h) <;> first | (cases h; omega) | cases h
theorem hnm_open {g : Int → Int} {c : Int} (h : A_open g = .inl c) : c = 1 := by
  unfold A_open at h
  (repeat' split at h) <;> first | (cases h; rfl) | cases h
theorem hnm_close {g : Int → Int} {th c : Int} (h : A_close g th = .inl c) : c = 1 := by
  unfold A_close at h
  (repeat' split at h) <;> first | (cases h; rfl) | cases h
theorem hnm_make {g fl : Int → Int} {t th c : Int} (h : A_make g fl t th = .inl c) : c = 1 ∨ c = 2 := by
  have hr := c_op_r g t th
  unfold A_make at h
  (repeat' split at h) <;> first | (cases h; omega) | cases h
theorem hnm_tch {g fl : Int → Int} {o q th c : Int} (h : A_tch g fl o q th = .inl c) : c = 1 := by
  have hr := c_tch_r g o q th
  unfold A_tch at h
  (repeat' split at h) <;> first | (cases h; omega) | cases h
