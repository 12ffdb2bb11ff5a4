/-- the answer x u, the world w1 u, of some u with C u -/
def UQx (E : EE) {σ : Type} (C : σ → Prop) (x : σ → Int) (w1 : σ → va_W) (A : Nat → Prop) : Array Value → State → Outcome → State → Prop := va_Qi (fun (r : Int32) (u : σ) => C u ∧ r = iI (x u)) (fun u t => va_P E.1 CL (w1 u) t.heap ∧ va_D A (w1 u)) A
def UQxv (E : EE) {σ : Type} (C : σ → Prop) (w1 : σ → va_W) (A : Nat → Prop) : Array Value → State → Outcome → State → Prop := va_Qv (fun (u : σ) => C u) (fun u t => va_P E.1 CL (w1 u) t.heap ∧ va_D A (w1 u)) A
section NCALLX
variable {p : Program} {l : Launch} {e : Env} {R : Room} {s : State} {m : MethodId} {args : Array Value} {below : List Frame} {meth : Method} {c : Code} {H : Heap} {locs : List Loc} {cells slots : Nat} {Q : State → Prop}
variable {pc : Nat} {ls : Array Slot} {rest st0 : List Value} {ws wc : va_W} {A : Nat → Prop} {H0 : Heap} {E : EE} {mc ms : Nat} {a : Array Value} {cc : ByteArray}
theorem n_cux {σ : Type} {C : σ → Prop} {x : σ → Int} {w1 : σ → va_W} (hr : va_Run p l e R s m args below meth c H locs cells slots mc ms (F0 m pc ls st0) rest (UQx E C x w1 (va_A ws H.size) a) (va_A ws H.size)) (hD : va_D A ws) (hS : va_S A H0 H locs) (hA : ∀ q : Nat, H0.size ≤ q → A q) (kk : ∀ (u : σ) (H1 : Heap) (locs1 : List Loc), C u → va_P E.1 CL (w1 u) H1 → va_D A (w1 u) → va_S A H0 H1 locs1 → W p l e R s m args below meth c H1 locs1 (cells + mc) (slots + ms) Q (F0 m (pc + 3) ls (iv (x u) :: rest))) : W p l e R s m args below meth c H locs cells slots Q (F0 m pc ls st0) := by
  have hF := va_A_in hD hS hA
  refine va_calli hr hS (fun q _ h => hF q h) hF (fun r u t H1 locs1 ht hvm h1 hB hz hk hS1 => ?_)
  obtain ⟨h0, h1⟩ := h1
  subst h1
  subst ht
  exact kk u t.heap locs1 h0 hB.1 (hB.2.weaken (fun k q _ h => hF q.1 h)) hS1
theorem n_cuxv {σ : Type} {C : σ → Prop} {w1 : σ → va_W} (hr : va_Run p l e R s m args below meth c H locs cells slots mc ms (F0 m pc ls st0) rest (UQxv E C w1 (va_A ws H.size) a) (va_A ws H.size)) (hD : va_D A ws) (hS : va_S A H0 H locs) (hA : ∀ q : Nat, H0.size ≤ q → A q) (kk : ∀ (u : σ) (H1 : Heap) (locs1 : List Loc), C u → va_P E.1 CL (w1 u) H1 → va_D A (w1 u) → va_S A H0 H1 locs1 → W p l e R s m args below meth c H1 locs1 (cells + mc) (slots + ms) Q (F0 m (pc + 3) ls rest)) : W p l e R s m args below meth c H locs cells slots Q (F0 m pc ls st0) := by
  have hF := va_A_in hD hS hA
  refine va_callv hr hS (fun q _ h => hF q h) hF (fun u t H1 locs1 ht hvm h1 hB hz hk hS1 => ?_)
  subst ht
  exact kk u t.heap locs1 h1 hB.1 (hB.2.weaken (fun k q _ h => hF q.1 h)) hS1
theorem n_tabIn (hexec : p.tables.exec = Jvm.exec) (hb : c.code = cc) {dflt lo hi : Int} {offs : Array Int} {len : Nat} {v k off : Int} {tgt : Nat} (hdg : decode cc pc = .ok (.tableswitch dflt lo hi offs, len)) (hv : v = k) (hr : -2147483648 ≤ k ∧ k < 2147483648) (h1 : lo ≤ k ∧ k ≤ hi) (ho : offs[(k - lo).toNat]? = some off) (ht : (pc : Int) + off = (tgt : Int))
    (kk : W p l e R s m args below meth c H locs cells slots Q (F0 m tgt ls rest)) : W p l e R s m args below meth c H locs cells slots Q (F0 m pc ls (iv v :: rest)) := by
  subst hv
  have ht2 := iI_toInt hr
  exact lv_tableIn hexec hb hdg (by rw [ht2]; omega) (by rw [ht2]; omega) (by rw [ht2]; exact ho) ht kk
theorem n_tabOut (hexec : p.tables.exec = Jvm.exec) (hb : c.code = cc) {dflt lo hi : Int} {offs : Array Int} {len : Nat} {v : Int} {tgt : Nat} (hdg : decode cc pc = .ok (.tableswitch dflt lo hi offs, len)) (hr : -2147483648 ≤ v ∧ v < 2147483648) (h1 : v < lo ∨ hi < v) (ht : (pc : Int) + dflt = (tgt : Int))
    (kk : W p l e R s m args below meth c H locs cells slots Q (F0 m tgt ls rest)) : W p l e R s m args below meth c H locs cells slots Q (F0 m pc ls (iv v :: rest)) :=
  lv_tableOut hexec hb hdg (by rw [iI_toInt hr]; exact h1) ht kk
end NCALLX
/-- a command by its number -/
noncomputable def D_res (g fl : Int → Int) (k a b c : Int) : Res := if k = 0 then A_def g a b c else if k = 1 then A_drop g a else if k = 2 then A_add g a b false else if k = 3 then A_add g a b true else if k = 4 then A_rem g a b else if k = 5 then A_repl g a b else if k = 6 then A_back g a else if k = 7 then A_open g else if k = 8 then A_close g a else if k = 9 then A_make g fl a b else A_tch g fl a b c
def D_pl (k : Int) : Int := if k = 7 ∨ k = 8 then 1 else if k = 1 ∨ k = 2 ∨ k = 3 ∨ k = 6 ∨ k = 9 then 3 else 2
def D_dv (k : Int) : Int := if k = 6 then 32 else 0
abbrev SCR : Type := Int × Int × (Int → Int)
theorem mk_fl_b {g fl : Int → Int} {t th : Int} (htw : TW g) (hsw : SwOK g) (htm : TM g) (how : OW g) (hgs : GI g g 400000) (hf : ∀ x, 0 ≤ fl x ∧ fl x < 2147483648) : ∀ x, 0 ≤ rs_fl fl (m_get g th 8 (t - 97) 0 (g, fl)).2.2 (A_make g fl t th) x ∧ rs_fl fl (m_get g th 8 (t - 97) 0 (g, fl)).2.2 (A_make g fl t th) x < 2147483648 := by
  unfold A_make
  split
  · exact hf
  · next hno =>
    split
    · exact hf
    · next hden =>
      have hz := c_op_ok hno
      have hd0 := m_den_0 hden
      have h60c : (m_get g th 8 (t - 97) 0 (g, fl)).2.1 1 ≤ 60 := by rw [get_made htw hsw how.1 (by omega) hd0.1]; exact hd0.2
      exact (get_inv htw hsw htm hz.2.2 8 (t - 97) 0 9375 (g, fl) (by omega) (by omega) (by decide) (GI_le hgs (by decide)) hf h60c).2.1
theorem tch_fl_b {g fl : Int → Int} {k ps th : Int} (htw : TW g) (hsw : SwOK g) (htm : TM g) (how : OW g) (hgs : GI g g 400000) (hf : ∀ x, 0 ≤ fl x ∧ fl x < 2147483648) : ∀ x, 0 ≤ rs_fl fl (m_get g th 8 (m_thing g k (4 + ps)) 0 (g, fl)).2.2 (A_tch g fl k ps th) x ∧ rs_fl fl (m_get g th 8 (m_thing g k (4 + ps)) 0 (g, fl)).2.2 (A_tch g fl k ps th) x < 2147483648 := by
  unfold A_tch
  split
  · exact hf
  · next hno =>
    split
    · exact hf
    · split
      · exact hf
      · next hden =>
        have hz := c_tch_ok hno
        have hy := m_noneed_ok hz.1
        have hob := how.2.2 k (by omega) (by omega)
        have hwi2 := hob.2.2 ps (by omega) (by omega)
        have hd0 := m_den_0 hden
        have h60c : (m_get g th 8 (m_thing g k (4 + ps)) 0 (g, fl)).2.1 1 ≤ 60 := by rw [get_made htw hsw how.1 (by omega) hd0.1]; exact hd0.2
        exact (get_inv htw hsw htm hz.2.2 8 (m_thing g k (4 + ps)) 0 9375 (g, fl) (by omega) (by omega) (by decide) (GI_le hgs (by decide)) hf h60c).2.1
