/-! ===== rows, 19: what the law's own body takes ===== -/
theorem iI_and63 (a : Int) : iI a &&& iI 63 = iI (a % 64) := by
  have h1 := pk_and (iI a) (m := iI 63) 6 (by decide)
  have h2 : (iI a).toBitVec.toNat = (a % 4294967296).toNat := by
    show (BitVec.ofInt 32 a).toNat = _
    rw [BitVec.toNat_ofInt]
    rfl
  rw [h1, h2, iI_nI (Int.emod_nonneg _ (by decide))]
  congr 1
  omega
theorem ord_self {d : FP.Core.Datum} (h : d ≠ .nan) : FP.Core.order d d = some .eq := by
  cases d with
  | nan => exact absurd rfl h
  | inf s => simp [FP.Core.order]
  | fin s c q => simp [FP.Core.order]
theorem dcm_self {x : UInt64} {op : CmpOp} (h : vf_n64 x) : dcm op x x = 0 := by
  unfold vf_n64 at h
  rw [UInt64.le_iff_toNat_le, UInt64.toNat_and] at h
  rw [show (0x7fffffffffffffff : UInt64).toNat = 2 ^ 63 - 1 from rfl, Nat.and_two_pow_sub_one_eq_mod] at h
  have h : x.toNat % 2 ^ 63 ≤ 9218868437227405312 := h
  have hd : FP.Core.decode FP.Core.b64 x.toNat ≠ .nan := by
    by_cases hE : x.toNat / 4503599627370496 % 2048 = 2047
    · have e : FP.Core.decode FP.Core.b64 x.toNat = if x.toNat / 4503599627370496 % 2048 = 2047 then (if x.toNat % 4503599627370496 = 0 then .inf (FP.Core.fieldS FP.Core.b64 x.toNat) else .nan) else if x.toNat / 4503599627370496 % 2048 = 0 then .fin (FP.Core.fieldS FP.Core.b64 x.toNat) (x.toNat % 4503599627370496) (-1074) else .fin (FP.Core.fieldS FP.Core.b64 x.toNat) (4503599627370496 + x.toNat % 4503599627370496) (-1074 + (((x.toNat / 4503599627370496 % 2048 : Nat) : Int) - 1)) := rfl
      rw [e, if_pos hE, if_pos (by omega)]
      exact fun q => by cases q
    · obtain ⟨s, c, q, e, -⟩ := dec64 hE
      rw [e]
      exact fun q => by cases q
  have e : FP.dcmp x x = some .eq := ord_self hd
  unfold dcm
  rw [e]
  rfl
section NROWS19
variable {p : Program} {l : Launch} {e : Env} {R : Room} {s : State} {m : MethodId} {args : Array Value} {below : List Frame} {meth : Method} {c : Code} {H : Heap} {locs : List Loc} {cells slots : Nat} {Q : State → Prop}
variable {pc : Nat} {ls : Array Slot} {rest st0 : List Value} {wc : va_W} {A : Nat → Prop} {H0 : Heap} {E : EE} {mc ms : Nat} {a : Array Value} {cc : ByteArray} {w1 w2 : va_W}
theorem n_iand63 (hexec : p.tables.exec = Jvm.exec) (hb : c.code = cc) {x : Int} (hdg : decode cc pc = .ok (.iand, 1)) (kk : W p l e R s m args below meth c H locs cells slots Q (F0 m (pc + 1) ls (iv (x % 64) :: rest))) : W p l e R s m args below meth c H locs cells slots Q (F0 m pc ls (iv 63 :: iv x :: rest)) :=
  lv_iand hexec hb hdg (by rw [iI_and63]; exact kk)
theorem n_icmp_same (hexec : p.tables.exec = Jvm.exec) (hb : c.code = cc) {x : Int} {off : Int} {tgt : Nat} (hdg : decode cc pc = .ok (.if_icmp .eq off, 3)) (ht : (pc : Int) + off = (tgt : Int)) (kt : W p l e R s m args below meth c H locs cells slots Q (F0 m tgt ls rest)) : W p l e R s m args below meth c H locs cells slots Q (F0 m pc ls (iv x :: iv x :: rest)) :=
  lv_icmp_eq hexec hb hdg ht (fun _ => kt) (fun q => absurd rfl q)
theorem n_cudB {x : UInt64} (hr : va_Run p l e R s m args below meth c H locs cells slots mc ms (F0 m pc ls st0) rest (UQd E x w1 (va_A wc H.size) a) (va_A wc H.size)) (hS : va_S A H0 H locs) (hF : ∀ q, va_A wc H.size q → A q) (hback : ∀ (H1 : Heap), (∀ q : Nat, q < H.size → ¬ va_A wc H.size q → H1[q]? = H[q]?) → va_P E.1 CL (w1) H1 → va_D (va_A wc H.size) (w1) → va_P E.1 CL (w2) H1 ∧ va_D A (w2)) (kk : ∀ (H1 : Heap) (locs1 : List Loc), va_P E.1 CL w2 H1 → va_D A w2 → va_S A H0 H1 locs1 → W p l e R s m args below meth c H1 locs1 (cells + mc) (slots + ms) Q (F0 m (pc + 3) ls (.double x :: rest))) : W p l e R s m args below meth c H locs cells slots Q (F0 m pc ls st0) := by
  refine va_calld hr hS (fun q _ h => hF q h) hF (fun r u t H1 locs1 ht hvm h1 hB hz hk hS1 => ?_)
  subst h1
  subst ht
  obtain ⟨a1, a2⟩ := hback _ hk hB.1 hB.2
  exact kk t.heap locs1 a1 a2 hS1
theorem n_cufB {x : UInt32} (hr : va_Run p l e R s m args below meth c H locs cells slots mc ms (F0 m pc ls st0) rest (UQf E x w1 (va_A wc H.size) a) (va_A wc H.size)) (hS : va_S A H0 H locs) (hF : ∀ q, va_A wc H.size q → A q) (hback : ∀ (H1 : Heap), (∀ q : Nat, q < H.size → ¬ va_A wc H.size q → H1[q]? = H[q]?) → va_P E.1 CL (w1) H1 → va_D (va_A wc H.size) (w1) → va_P E.1 CL (w2) H1 ∧ va_D A (w2)) (kk : ∀ (H1 : Heap) (locs1 : List Loc), va_P E.1 CL w2 H1 → va_D A w2 → va_S A H0 H1 locs1 → W p l e R s m args below meth c H1 locs1 (cells + mc) (slots + ms) Q (F0 m (pc + 3) ls (.float x :: rest))) : W p l e R s m args below meth c H locs cells slots Q (F0 m pc ls st0) := by
  refine va_callf hr hS (fun q _ h => hF q h) hF (fun r u t H1 locs1 ht hvm h1 hB hz hk hS1 => ?_)
  subst h1
  subst ht
  obtain ⟨a1, a2⟩ := hback _ hk hB.1 hB.2
  exact kk t.heap locs1 a1 a2 hS1
/-- a call with two ends, that never throws -/
theorem n_sumB {σ1 σ2 : Type} {C1 : σ1 → Prop} {C2 : σ2 → Prop} {x : Int} {w1 v1 : σ1 → va_W} {w2 v2 : σ2 → va_W} (hr : vx_Run p l e R s m args below meth c H locs cells slots mc ms (F0 m pc ls st0) rest (UQx E (Sum.elim C1 C2) (fun _ => x) (Sum.elim w1 w2) (va_A wc H.size) a) (UXx E (fun (_ : String) (_ : Unit) => False) (fun _ : Unit => []) (fun _ : Unit => none) (va_A wc H.size)) (va_A wc H.size)) (hS : va_S A H0 H locs) (hF : ∀ q, va_A wc H.size q → A q) (hback1 : ∀ (u : σ1) (H1 : Heap), (∀ q : Nat, q < H.size → ¬ va_A wc H.size q → H1[q]? = H[q]?) → va_P E.1 CL (w1 u) H1 → va_D (va_A wc H.size) (w1 u) → va_P E.1 CL (v1 u) H1 ∧ va_D A (v1 u)) (hback2 : ∀ (u : σ2) (H1 : Heap), (∀ q : Nat, q < H.size → ¬ va_A wc H.size q → H1[q]? = H[q]?) → va_P E.1 CL (w2 u) H1 → va_D (va_A wc H.size) (w2 u) → va_P E.1 CL (v2 u) H1 ∧ va_D A (v2 u))
    (kk1 : ∀ (u : σ1) (H1 : Heap) (locs1 : List Loc), C1 u → va_P E.1 CL (v1 u) H1 → va_D A (v1 u) → va_S A H0 H1 locs1 → W p l e R s m args below meth c H1 locs1 (cells + mc) (slots + ms) Q (F0 m (pc + 3) ls (iv x :: rest))) (kk2 : ∀ (u : σ2) (H1 : Heap) (locs1 : List Loc), C2 u → va_P E.1 CL (v2 u) H1 → va_D A (v2 u) → va_S A H0 H1 locs1 → W p l e R s m args below meth c H1 locs1 (cells + mc) (slots + ms) Q (F0 m (pc + 3) ls (iv x :: rest))) : W p l e R s m args below meth c H locs cells slots Q (F0 m pc ls st0) := by
  refine n_txB (x := fun _ => x) (w2 := Sum.elim v1 v2) (w3 := fun _ => []) hr hS hF ?_ ?_ ?_ ?_
  · intro u
    cases u with
    | inl u => exact hback1 u
    | inr u => exact hback2 u
  · exact fun _ _ _ _ _ => ⟨fun _ _ h => by simp at h, ⟨fun _ _ _ _ h => by simp at h, fun _ _ h => by simp at h⟩⟩
  · intro En ce q9 u9 H locs hCx
    exact (show False from hCx).elim
  · intro u H1 locs1 hC hP hD hS
    cases u with
    | inl u => exact kk1 u H1 locs1 hC hP hD hS
    | inr u => exact kk2 u H1 locs1 hC hP hD hS
theorem n_topd {x y : UInt64} (h : x = y) (k : W p l e R s m args below meth c H locs cells slots Q (F0 m pc ls (.double y :: rest))) : W p l e R s m args below meth c H locs cells slots Q (F0 m pc ls (.double x :: rest)) := by rw [h]; exact k
theorem n_topf {x y : UInt32} (h : x = y) (k : W p l e R s m args below meth c H locs cells slots Q (F0 m pc ls (.float y :: rest))) : W p l e R s m args below meth c H locs cells slots Q (F0 m pc ls (.float x :: rest)) := by rw [h]; exact k
end NROWS19
