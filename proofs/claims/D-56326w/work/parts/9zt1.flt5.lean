/-! ===== a float's double is a number ===== -/
theorem vf_f2d {x : UInt32} (h : vf_n32 x) : vf_n64 (FP.f2d x) := by
  unfold vf_n32 at h
  rw [UInt32.le_iff_toNat_le, UInt32.toNat_and] at h
  rw [show (0x7fffffff : UInt32).toNat = 2 ^ 31 - 1 from rfl, Nat.and_two_pow_sub_one_eq_mod] at h
  have h : x.toNat % 2 ^ 31 ≤ 2139095040 := h
  have hd : FP.Core.decode FP.Core.b32 x.toNat ≠ .nan ∧ FR FP.Core.b64 (FP.Core.round FP.Core.b64 (FP.Core.decode FP.Core.b32 x.toNat)) := by
    by_cases hE : x.toNat / 8388608 % 256 = 255
    · have e : FP.Core.decode FP.Core.b32 x.toNat = .inf (FP.Core.fieldS FP.Core.b32 x.toNat) := by
        have e : FP.Core.decode FP.Core.b32 x.toNat = if x.toNat / 8388608 % 256 = 255 then (if x.toNat % 8388608 = 0 then .inf (FP.Core.fieldS FP.Core.b32 x.toNat) else .nan) else if x.toNat / 8388608 % 256 = 0 then .fin (FP.Core.fieldS FP.Core.b32 x.toNat) (x.toNat % 8388608) (-149) else .fin (FP.Core.fieldS FP.Core.b32 x.toNat) (8388608 + x.toNat % 8388608) (-149 + (((x.toNat / 8388608 % 256 : Nat) : Int) - 1)) := rfl
        rw [e, if_pos hE, if_pos (by omega)]
      rw [e]
      exact ⟨(fun q => by cases q), trivial⟩
    · obtain ⟨s, c, q, e, -⟩ := dec32 hE
      rw [e]
      exact ⟨(fun q => by cases q), FR_ratio (by decide) (by decide)⟩
  have e : FP.f2d x = UInt64.ofNat (FP.Core.encode FP.Core.b64 (FP.Core.round FP.Core.b64 (FP.Core.decode FP.Core.b32 x.toNat))) := by
    have h1 : FP.Core.fIsNaN x = false := decide_eq_false hd.1
    unfold FP.f2d
    rw [h1]
    rfl
  rw [e]
  exact fl_n64 (enc64 hd.2)
