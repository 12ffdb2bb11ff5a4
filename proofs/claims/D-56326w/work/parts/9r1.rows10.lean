/-! ===== rows, 10: worlds by groups ===== -/
/-- the groups, one behind the other -/
def cat : List va_W → va_W
  | [] => []
  | a :: r => r.foldl (· ++ ·) a
theorem cat_fl (L : List va_W) : cat L = L.flatten := by
  cases L with
  | nil => rfl
  | cons a r =>
    show r.foldl (· ++ ·) a = a ++ r.flatten
    induction r generalizing a with
    | nil => exact (List.append_nil a).symm
    | cons b r ih =>
      show r.foldl (· ++ ·) (a ++ b) = a ++ (b ++ r.flatten)
      rw [ih, List.append_assoc]
theorem va_P_mem {D : va_G} {cl : List vw_C} {ws : va_W} {H : Heap} : va_P D cl ws H ↔ ∀ x ∈ ws, va_at D cl x H := by
  constructor
  · intro h x hx
    obtain ⟨k, hk⟩ := List.getElem?_of_mem hx
    exact h k x hk
  · intro h k x hk
    exact h x (List.mem_of_getElem? hk)
theorem va_D_pw {A : Nat → Prop} {ws : va_W} : va_D A ws ↔ ws.Pairwise (fun x y => x.1 ≠ y.1) ∧ ∀ x ∈ ws, A x.1 := by
  rw [List.pairwise_iff_getElem]
  constructor
  · rintro ⟨h1, h2⟩
    refine ⟨fun i j hi hj hij e => ?_, fun x hx => ?_⟩
    · have := h1 i j ws[i] ws[j] (List.getElem?_eq_getElem hi) (List.getElem?_eq_getElem hj) e
      omega
    · obtain ⟨k, hk⟩ := List.getElem?_of_mem hx
      exact h2 k x hk
  · rintro ⟨h1, h2⟩
    refine ⟨fun i j x y hx hy e => ?_, fun k x hk => h2 x (List.mem_of_getElem? hk)⟩
    obtain ⟨hi, rfl⟩ := List.getElem?_eq_some_iff.mp hx
    obtain ⟨hj, rfl⟩ := List.getElem?_eq_some_iff.mp hy
    rcases Nat.lt_trichotomy i j with h | h | h
    · exact absurd e (h1 i j hi hj h)
    · exact h
    · exact absurd e.symm (h1 j i hj hi h)
theorem fl_perm {L L2 : List va_W} (h : L.Perm L2) : L.flatten.Perm L2.flatten := by
  induction h with
  | nil => exact List.Perm.refl _
  | cons a _ ih => exact List.Perm.append_left a ih
  | swap a b l =>
    show (b ++ (a ++ l.flatten)).Perm (a ++ (b ++ l.flatten))
    rw [← List.append_assoc, ← List.append_assoc]
    exact List.Perm.append_right _ List.perm_append_comm
  | trans _ _ h1 h2 => exact h1.trans h2
theorem va_P_perm {D : va_G} {cl : List vw_C} {ws ws2 : va_W} {H : Heap} (h : ws.Perm ws2) (hP : va_P D cl ws H) : va_P D cl ws2 H := va_P_mem.mpr fun x hx => va_P_mem.mp hP x (h.mem_iff.mpr hx)
theorem va_D_perm {A : Nat → Prop} {ws ws2 : va_W} (h : ws.Perm ws2) (hD : va_D A ws) : va_D A ws2 := by
  obtain ⟨h1, h2⟩ := va_D_pw.mp hD
  exact va_D_pw.mpr ⟨(h.pairwise_iff (fun {x y} hxy e => hxy e.symm)).mp h1, fun x hx => h2 x (h.mem_iff.mpr hx)⟩
/-- the groups of L at the places is, all of them -/
def gpick (L L2 : List va_W) (is : List Nat) : Prop := is.map (fun i => L[i]?) = L2.map some ∧ is.Perm (List.range L.length)
theorem gpick.perm {L L2 : List va_W} {is : List Nat} (h : gpick L L2 is) : L.Perm L2 := by
  obtain ⟨h1, h2⟩ := h
  have e1 : L2 = is.filterMap (fun i => L[i]?) := by
    have : (is.map (fun i => L[i]?)).filterMap id = (L2.map some).filterMap id := by rw [h1]
    rw [List.filterMap_map, List.filterMap_map] at this
    have q : L2.filterMap (id ∘ some) = L2 := List.filterMap_some
    rw [q] at this
    exact this.symm
  have e2 : L = (List.range L.length).filterMap (fun i => L[i]?) := by
    apply List.ext_getElem?
    intro i
    clear h1 h2 e1
    have : ∀ L : List va_W, (List.range L.length).filterMap (fun i => L[i]?) = L := by
      intro L
      have e : (List.range L.length).map (fun i => L[i]?) = L.map some := by
        apply List.ext_getElem
        · simp
        · intro i h1 h2
          simp
      have : ((List.range L.length).map (fun i => L[i]?)).filterMap id = (L.map some).filterMap id := by rw [e]
      rw [List.filterMap_map, List.filterMap_map] at this
      have q : L.filterMap (id ∘ some) = L := List.filterMap_some
      rw [q] at this
      exact this
    rw [this]
  rw [e1]
  refine List.Perm.trans ?_ (List.Perm.filterMap _ h2.symm)
  exact List.Perm.of_eq e2
section GBACK
variable {E : EE} {H H1 : Heap} {A : Nat → Prop}
/-- a callee's world taken out -/
theorem g_out {L WC WR : List va_W} {is : List Nat} (hg : gpick L (WC ++ WR) is) (hP : va_P E.1 CL (cat L) H) (hD : va_D A (cat L)) : va_P E.1 CL (cat WC) H ∧ va_D A (cat WC) := by
  have hp : (cat L).Perm (cat WC ++ cat WR) := by
    rw [cat_fl, cat_fl, cat_fl, ← List.flatten_append]
    exact fl_perm hg.perm
  have h1 := va_P_perm hp hP
  have h2 := va_D_perm hp hD
  refine ⟨va_P_mem.mpr fun x hx => va_P_mem.mp h1 x (List.mem_append_left _ hx), va_D_pw.mpr ⟨(List.pairwise_append.mp (va_D_pw.mp h2).1).1, fun x hx => (va_D_pw.mp h2).2 x (List.mem_append_left _ hx)⟩⟩
theorem g_free {L WC WR : List va_W} {is : List Nat} {H0 : Heap} {locs : List Loc} (hg : gpick L (WC ++ WR) is) (hP : va_P E.1 CL (cat L) H) (hD : va_D A (cat L)) (hS : va_S A H0 H locs) (hA : ∀ q, H0.size ≤ q → A q) : ∀ q, va_A (cat WC) H.size q → A q := by
  intro q h
  rcases h with ⟨k, e, hk⟩ | h
  · exact (g_out hg hP hD).2.2 k _ hk
  · exact hA q (Nat.le_trans hS.1 h)
/-- .. and put back -/
theorem g_back {L WC WR W1 W2 : List va_W} {is js : List Nat} (hg : gpick L (WC ++ WR) is) (hg2 : gpick (W1 ++ WR) W2 js) (hP : va_P E.1 CL (cat L) H) (hD : va_D A (cat L)) (hF : ∀ q, va_A (cat WC) H.size q → A q)
    (hk : ∀ q : Nat, q < H.size → ¬ va_A (cat WC) H.size q → H1[q]? = H[q]?) (hP1 : va_P E.1 CL (cat W1) H1) (hD1 : va_D (va_A (cat WC) H.size) (cat W1)) : va_P E.1 CL (cat W2) H1 ∧ va_D A (cat W2) := by
  have hp : (cat L).Perm (cat WC ++ cat WR) := by
    rw [cat_fl, cat_fl, cat_fl, ← List.flatten_append]
    exact fl_perm hg.perm
  have h1 := va_P_mem.mp (va_P_perm hp hP)
  obtain ⟨h2, h3⟩ := va_D_pw.mp (va_D_perm hp hD)
  obtain ⟨h4, h5, h6⟩ := List.pairwise_append.mp h2
  have hlt : ∀ x ∈ cat WC ++ cat WR, x.1 < H.size := fun x hx => (h1 x hx).lt
  have hnot : ∀ x ∈ cat WR, ¬ va_A (cat WC) H.size x.1 := by
    intro x hx h
    rcases h with ⟨k, e, hk⟩ | h
    · exact h6 _ (List.mem_of_getElem? hk) x hx rfl
    · have := hlt x (List.mem_append_right _ hx); omega
  have hR : va_P E.1 CL (cat WR) H1 := va_P.kept (va_P_mem.mpr fun x hx => h1 x (List.mem_append_right _ hx)) (fun k x hkx => hk x.1 (hlt x (List.mem_append_right _ (List.mem_of_getElem? hkx))) (hnot x (List.mem_of_getElem? hkx)))
  obtain ⟨d1, d2⟩ := va_D_pw.mp hD1
  have hD2 : va_D A (cat W1 ++ cat WR) := va_D_pw.mpr ⟨List.pairwise_append.mpr ⟨d1, h5, fun x hx y hy e => by
    have := d2 x hx
    rw [e] at this
    exact hnot y hy this⟩, fun x hx => by
    rcases List.mem_append.mp hx with h | h
    · exact hF _ (d2 x h)
    · exact h3 x (List.mem_append_right _ h)⟩
  have hp2 : (cat W1 ++ cat WR).Perm (cat W2) := by
    rw [cat_fl, cat_fl, cat_fl, ← List.flatten_append]
    exact fl_perm hg2.perm
  exact ⟨va_P_perm hp2 (hP1.app hR), va_D_perm hp2 hD2⟩
end GBACK
