/-! ===== the law: the start ===== -/
def g00 : Int → Int := fun _ => 0
theorem TI_0 : TI g00 := by
  refine ⟨⟨fun _ => 0, fun t k h1 h2 h3 h4 h5 => ?_, fun t h1 h2 => (show (0 : Nat) < 8 by decide)⟩, fun t h1 h2 => ?_, fun t h1 h2 => ?_, fun t h1 h2 => ?_, fun t k h1 h2 h3 h4 => rfl, fun t h1 h2 h3 => rfl, fun t h1 h2 => Or.inl rfl⟩
  · have e : m_of g00 t 2 = 0 := rfl
    omega
  · have e : m_of g00 t 2 = 0 := rfl
    omega
  · have e : m_of g00 t 6 = 0 := rfl
    exact ⟨by omega, by omega, rfl⟩
  · have e : m_of g00 t 1 = 0 := rfl
    omega
theorem RIV_0 {N : Int} (hN : 20 * N < 2147483648) (h0 : 0 ≤ N) : RIV N g00 := by
  have e : ∀ x, g00 x = 0 := fun _ => rfl
  refine ⟨TI_0, ⟨Int.le_refl 0, fun k h1 h2 => ?_, fun x h1 h2 => rfl⟩, TE_rf _, ?_, fun x => ?_, ?_, ?_, ?_⟩
  · rw [e 1] at h2; omega
  · rw [e 1]; decide
  · rw [e x]; decide
  · rw [e 2]; omega
  · rw [e 3]; omega
  · rw [e 4]; omega
theorem CI_0 : CI g00 := by
  have e : ∀ x, g00 x = 0 := fun _ => rfl
  refine ⟨fun t h1 h2 h3 => rfl, fun t j k h1 h2 h3 h4 h5 => ?_, fun k h1 h2 => ?_, fun j k h1 h2 h3 => ?_⟩
  · have q : m_of g00 t 2 = 0 := rfl
    omega
  · rw [e 1] at h2; omega
  · rw [e 1] at h3; omega
theorem SR_0 {f : Int → Int} (hf : ∀ j, 0 ≤ j → j < 8 → f j = -1) : SR g00 (fun _ => 0) (AR8 f) := by
  have e : ∀ x, g00 x = 0 := fun _ => rfl
  refine ⟨fun t h1 h2 => ⟨rfl, ?_, fun h => ?_⟩, ⟨fun t h1 h2 => ?_, fun x h1 h2 => ?_⟩, ⟨⟨rfl, rfl, rfl, rfl⟩, fun k h1 h2 => ?_, fun k h1 h2 => ?_⟩, rfl⟩
  · show f t = _
    rw [hf t h1 h2]
    rfl
  · have hh : m_has g00 t = false := rfl
    rw [hh] at h
    cases h
  · show (0 : Int) ≤ 0 ∧ (0 : Int) < 65536
    decide
  · show (0 : Int) ≤ 0 ∧ (0 : Int) ≤ 1
    decide
  · show (0 : Int) = b2 (m_opened g00 k)
    have h9 := op_bit (g := g00) (Int.le_refl 0) (k := k) (by omega)
    rw [h9]
    show (0 : Int) = b2 (Nat.testBit 0 _)
    rw [Nat.zero_testBit]
    rfl
  · rw [e 1] at h2; omega
theorem LROW_0 {N : Int} (hN : 20 * N < 2147483648) (h0 : 0 ≤ N) {f : Int → Int} (hf : ∀ j, 0 ≤ j → j < 8 → f j = -1) : LROW N g00 (fun _ => 0) (AR8 f) := ⟨RIV_0 hN h0, CI_0, SR_0 hf⟩
def ZPO (u : (Nat → Nat) × (Nat → (Nat → Nat) × (Int → Int)) × (Int → Option Nat)) : Nat → PST := fun k => (ST0 (u.1 (k + 3)) (u.2.1 (k + 3)).1, (fun _ => 0), AR8 (u.2.1 (k + 3)).2)
theorem LINV_0 {E : EE} {al : Nat} {u : (Nat → Nat) × (Nat → (Nat → Nat) × (Int → Int)) × (Int → Option Nat)} (h1 : ∀ k, k < 11 → ∀ j, 0 ≤ j → j < 8 → (u.2.1 k).2 j = -1) (h2 : DQ u.2.2 0 8 8 (fun i => u.1 (i.toNat + 3))) {fq : Int → Option Nat} :
    LINV 24 E al 0 0 0 0 0 0 0 (-1) 0 (fun _ _ => 0) (fun _ => 0) (AR8 (u.2.1 0).2) (fun _ => 0) (AR8 (u.2.1 2).2) 0 0 (fun _ => none) 0 8 u.2.2 16 none [] (LW E al 0 (EX E 71) 0 fq) (ZPO u) := by
  have hB : ∀ (k : Nat) (x : Int), 0 ≤ (fun (_ : Nat) (_ : Int) => (0 : Int)) k x ∧ (fun (_ : Nat) (_ : Int) => (0 : Int)) k x < 2147483648 := fun k x => ⟨Int.le_refl 0, by show (0 : Int) < _; decide⟩
  have hb7 : B7 (fun _ => (0 : Int)) := fun x => ⟨Int.le_refl 0, by show (0 : Int) < _; decide⟩
  refine ⟨LROW_0 (by decide) (by decide) (h1 0 (by decide)), LROW_0 (by decide) (by decide) (h1 2 (by decide)), Or.inl rfl, ⟨fun _ => 0, fun i => u.1 (i.toNat + 3), DQ.new, h2, ⟨fun _ => 0, fun i => i.toNat, ⟨by decide, by decide, by decide⟩, fun i p q => by omega, fun i p q => ⟨(show i.toNat < 8 by omega), rfl⟩, ⟨fun i j p q r => by omega, fun i j p q r => (show ¬ i.toNat = j.toNat by omega), fun i j p q r t => by omega⟩, fun k hk => ⟨g00, SR_0 (h1 (k + 3) (by omega)), ?_⟩⟩, by decide⟩,
    ⟨⟨by decide, by decide⟩, hb7, Or.inl ⟨rfl, by decide, fun _ _ => rfl⟩⟩, ⟨by decide, hb7⟩, by decide, Or.inl ⟨rfl, rfl, rfl, rfl⟩, ⟨hB, rfl, fun x => ⟨Int.le_refl 0, by show (0 : Int) < _; decide⟩⟩, LSTI_of (by decide) (by decide) (fun _ => rfl)⟩
  have e : ∀ x, g00 x = 0 := fun _ => rfl
  exact ⟨Int.le_refl 0, by rw [e 1]; decide, fun k a b => by rw [e 1] at b; omega⟩
theorem cat_pool {L : List va_W} {E : EE} {po : Nat → PST} : cat (L ++ [POW E po]) = cat (L ++ [SW E (po 0).1 (po 0).2.1 (po 0).2.2, SW E (po 1).1 (po 1).2.1 (po 1).2.2, SW E (po 2).1 (po 2).2.1 (po 2).2.2, SW E (po 3).1 (po 3).2.1 (po 3).2.2, SW E (po 4).1 (po 4).2.1 (po 4).2.2, SW E (po 5).1 (po 5).2.1 (po 5).2.2, SW E (po 6).1 (po 6).2.1 (po 6).2.2, SW E (po 7).1 (po 7).2.1 (po 7).2.2]) := by
  rw [cat_fl, cat_fl, List.flatten_append, List.flatten_append]
  congr 1
theorem cat_snoc {L : List va_W} {x : va_W} : cat (L ++ [x]) = cat L ++ x := by
  rw [cat_fl, cat_fl, List.flatten_append, List.flatten_cons, List.flatten_nil, List.append_nil]
theorem va_P_no {D : va_G} {cl : List vw_C} {H : Heap} : va_P D cl (cat ([] : List va_W)) H := fun k x h => by cases (show (none : Option (Nat × va_E)) = some x from h)
theorem va_D_no {A : Nat → Prop} : va_D A (cat ([] : List va_W)) := ⟨fun i j x y h => by cases (show (none : Option (Nat × va_E)) = some x from h), fun k x h => by cases (show (none : Option (Nat × va_E)) = some x from h)⟩
