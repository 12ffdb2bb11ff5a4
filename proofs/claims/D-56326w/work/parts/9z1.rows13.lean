/-! ===== rows, 13: calls that answer any value, or throw ===== -/
def UQxy (E : EE) {σ : Type} (C : σ → Prop) (y : σ → Value) (w1 : σ → va_W) (A : Nat → Prop) : Array Value → State → Outcome → State → Prop := fun _ st oc t => (∃ u, oc = .returned (some (y u)) ∧ C u ∧ va_P E.1 CL (w1 u) t.heap ∧ va_D A (w1 u)) ∧ va_F A st t
section NROWS13
variable {p : Program} {l : Launch} {e : Env} {R : Room} {s : State} {m : MethodId} {args : Array Value} {below : List Frame} {meth : Method} {c : Code} {H : Heap} {locs : List Loc} {cells slots : Nat} {Q : State → Prop}
variable {pc : Nat} {ls : Array Slot} {rest st0 : List Value} {wc : va_W} {A : Nat → Prop} {H0 : Heap} {E : EE} {mc ms : Nat} {a : Array Value} {cc : ByteArray} {x : Int} {w1 w2 : va_W}
theorem n_txyB {σ τ : Type} {C : σ → Prop} {y : σ → Value} {w1 w2 : σ → va_W} {Cx : String → τ → Prop} {wx w3 : τ → va_W} {rx : τ → Option (Nat × List Value)} (hr : vx_Run p l e R s m args below meth c H locs cells slots mc ms (F0 m pc ls st0) rest (UQxy E C y w1 (va_A wc H.size) a) (UXx E Cx wx rx (va_A wc H.size)) (va_A wc H.size)) (hS : va_S A H0 H locs) (hF : ∀ q, va_A wc H.size q → A q) (hback : ∀ (u : σ) (H1 : Heap), (∀ q : Nat, q < H.size → ¬ va_A wc H.size q → H1[q]? = H[q]?) → va_P E.1 CL (w1 u) H1 → va_D (va_A wc H.size) (w1 u) → va_P E.1 CL (w2 u) H1 ∧ va_D A (w2 u)) (hbackx : ∀ (u : τ) (H1 : Heap), (∀ q : Nat, q < H.size → ¬ va_A wc H.size q → H1[q]? = H[q]?) → va_P E.1 CL (wx u) H1 → va_D (va_A wc H.size) (wx u) → va_P E.1 CL (w3 u) H1 ∧ va_D A (w3 u))
    (kx : NX p l e R s m args below meth c H (cells + mc) (slots + ms) Q E A H0 (F0 m pc ls rest) Cx w3 rx)
    (kk : ∀ (u : σ) (H1 : Heap) (locs1 : List Loc), C u → va_P E.1 CL (w2 u) H1 → va_D A (w2 u) → va_S A H0 H1 locs1 → W p l e R s m args below meth c H1 locs1 (cells + mc) (slots + ms) Q (F0 m (pc + 3) ls (y u :: rest))) : W p l e R s m args below meth c H locs cells slots Q (F0 m pc ls st0) := by
  intro T hT X
  rcases hr T hT X with ⟨v, st₀, t, T', L, h0, X', hL, e1, e2, ⟨⟨u, hv, hcu, hp, hd⟩, hFr⟩, st⟩ | ⟨q, st₀, t, T', L, En, ce, h0, X', hL, e1, e2, ⟨u, hcx, hpx, hdx, hxf, hq, hFx⟩, hce, hcv, hcl, st⟩
  · cases hv
    obtain ⟨k1, k2, k3⟩ := vx_keep h0 e1 hS (fun q _ h => hF q h) hF hL hFr
    have hk9 : ∀ q : Nat, q < H.size → ¬ va_A wc H.size q → T'.heap[q]? = H[q]? := k2
    obtain ⟨a1, a2⟩ := hback u _ hk9 (by rw [e1]; exact hp) hd
    obtain ⟨t2, b1, b2⟩ := kk u T'.heap (locs ++ L) hcu a1 a2 k3 T' rfl X'
    exact ⟨t2, st t2 b1, b2⟩
  · obtain ⟨k1, k2, k3⟩ := vx_keep h0 e1 hS (fun q _ h => hF q h) hF hL hFx
    have hk9 : ∀ q : Nat, q < H.size → ¬ va_A wc H.size q → T'.heap[q]? = H[q]? := k2
    obtain ⟨a1, a2⟩ := hbackx u _ hk9 (by rw [e1]; exact hpx) hdx
    obtain ⟨t2, b1, b2⟩ := kx En ce q u T'.heap (locs ++ L) hcx a1 a2 k3 (by rw [e1]; exact hxf) (by rw [← h0]; exact hq) (by rw [e1]; exact hce) hcv hcl T' rfl X'
    exact ⟨t2, st.trans b1, b2⟩
theorem n_culB (hr : va_Run p l e R s m args below meth c H locs cells slots mc ms (F0 m pc ls st0) rest (UQl E x w1 (va_A wc H.size) a) (va_A wc H.size)) (hS : va_S A H0 H locs) (hF : ∀ q, va_A wc H.size q → A q) (hback : ∀ (H1 : Heap), (∀ q : Nat, q < H.size → ¬ va_A wc H.size q → H1[q]? = H[q]?) → va_P E.1 CL (w1) H1 → va_D (va_A wc H.size) (w1) → va_P E.1 CL (w2) H1 ∧ va_D A (w2)) (kk : ∀ (H1 : Heap) (locs1 : List Loc), va_P E.1 CL w2 H1 → va_D A w2 → va_S A H0 H1 locs1 → W p l e R s m args below meth c H1 locs1 (cells + mc) (slots + ms) Q (F0 m (pc + 3) ls (jv x :: rest))) : W p l e R s m args below meth c H locs cells slots Q (F0 m pc ls st0) := by
  refine va_calll hr hS (fun q _ h => hF q h) hF (fun r u t H1 locs1 ht hvm h1 hB hz hk hS1 => ?_)
  subst h1
  subst ht
  obtain ⟨a1, a2⟩ := hback _ hk hB.1 hB.2
  exact kk t.heap locs1 a1 a2 hS1
end NROWS13
