/-! ===== counting, plain laws for the class' counts ===== -/
theorem bsI_0 : bsI (fun _ => false) = 0 := by decide +kernel
theorem cnt_no {g : Int → Int} {th t : Int} {d : Nat} {f : Int → Bool} (h : m_has g (m_stands g t) = false) : m_cnt g th (d + 1) t (f, -1) = (0, f, m_stands g t) := by
  rw [m_cnt_s, if_pos h]
  rfl
theorem cnt_ex {g : Int → Int} {th t : Int} {d : Nat} {f : Int → Bool} (h : m_has g (m_stands g t) = true) (h2 : 0 ≤ m_exist g (m_stands g t) th ∨ f (m_stands g t) = true) : m_cnt g th (d + 1) t (f, -1) = (0, f, -1) := by
  rw [m_cnt_s, if_neg (by rw [h]; decide), if_pos h2]
theorem cnt_go {g : Int → Int} {th t : Int} {d : Nat} {f : Int → Bool} (h : m_has g (m_stands g t) = true) (h2 : ¬ (0 ≤ m_exist g (m_stands g t) th ∨ f (m_stands g t) = true)) : m_cnt g th (d + 1) t (f, -1) = ((CZ g th d (m_stands g t) f (m_of g (m_stands g t) 2)).1, (if m_of g (m_stands g t) 0 = 101 then (CZ g th d (m_stands g t) f (m_of g (m_stands g t) 2)).2.1 else fun v => (CZ g th d (m_stands g t) f (m_of g (m_stands g t) 2)).2.1 v || decide (v = m_stands g t)), (CZ g th d (m_stands g t) f (m_of g (m_stands g t) 2)).2.2) := by
  rw [m_cnt_s, if_neg (by rw [h]; decide), if_neg h2]
theorem cz_dir {g : Int → Int} {th u k : Int} {d : Nat} {f : Int → Bool} (hk : 0 ≤ k) (h : (CZ g th d u f k).2.2 = -1) (hd : m_dir g u k = true) : CZ g th d u f (k + 1) = ((CZ g th d u f k).1 + (m_cnt g th d (m_need g u k) ((CZ g th d u f k).2.1, -1)).1, (m_cnt g th d (m_need g u k) ((CZ g th d u f k).2.1, -1)).2) := (itI_s hk).trans (cnt_eq (show -1 ≤ (CZ g th d u f k).2.2 by omega) (show (CZ g th d u f k).2.2 < 0 by omega) hd)
theorem cz_lazy {g : Int → Int} {th u k : Int} {d : Nat} {f : Int → Bool} (hk : 0 ≤ k) (hd : m_dir g u k = false) : CZ g th d u f (k + 1) = CZ g th d u f k := by
  have e : CZ g th d u f (k + 1) = m_cntF g th d u k (CZ g th d u f k) := itI_s hk
  rw [e]
  unfold m_cntF
  rw [if_neg (by rw [hd]; decide)]
theorem cz_stay {g : Int → Int} {th u k n : Int} {d : Nat} {f : Int → Bool} (hk : 0 ≤ k) (hn : k ≤ n) (h : 0 ≤ (CZ g th d u f k).2.2) : (CZ g th d u f n).2.2 = (CZ g th d u f k).2.2 := by
  obtain ⟨b, rfl⟩ : ∃ b : Nat, n = k + (b : Int) := ⟨(n - k).toNat, by omega⟩
  clear hn
  induction b with
  | zero => rw [show k + ((0 : Nat) : Int) = k by omega]
  | succ b ih =>
    have e : CZ g th d u f (k + ((b + 1 : Nat) : Int)) = m_cntF g th d u (k + (b : Int)) (CZ g th d u f (k + (b : Int))) := by
      rw [show k + ((b + 1 : Nat) : Int) = k + (b : Int) + 1 by omega]
      exact itI_s (by omega)
    rw [e, cntF_ms (by rw [ih]; exact h), ih]
section NROWS6
variable {p : Program} {l : Launch} {e : Env} {R : Room} {s : State} {m : MethodId} {args : Array Value} {below : List Frame} {meth : Method} {c : Code} {H : Heap} {locs : List Loc} {cells slots : Nat} {Q : State → Prop}
variable {pc : Nat} {ls : Array Slot} {rest : List Value} {cc : ByteArray}
theorem n_ladd (hexec : p.tables.exec = Jvm.exec) (hb : c.code = cc) {x y : Int} (hdg : decode cc pc = .ok (.ladd, 1)) (k : W p l e R s m args below meth c H locs cells slots Q (F0 m (pc + 1) ls (jv (x + y) :: rest))) : W p l e R s m args below meth c H locs cells slots Q (F0 m pc ls (jv y :: jv x :: rest)) :=
  lv_ladd hexec hb hdg (by rw [show lI x + lI y = lI (x + y) from (Int64.ofInt_add x y).symm]; exact k)
end NROWS6
