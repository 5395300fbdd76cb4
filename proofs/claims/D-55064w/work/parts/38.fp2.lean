/-! QUOTIENTS of ints, on the machine's words -/
theorem fp_lt (f : FP.Core.Fmt) (h2 : 2 ≤ f.exps) (ht : 0 < f.tails) (hq : f.qmax - f.qmin + 2 ≤ (f.exps : Int) - 1) {d : FP.Core.Datum} (hd : fpD f d) : FP.Core.encode f d < 2 * (f.exps * f.tails) := by
  have key : ∀ (s : Bool) (e t : Nat), e < f.exps → t < f.tails → FP.Core.assemble f s e t < 2 * (f.exps * f.tails) := fun s e t he h => by
    unfold FP.Core.assemble
    have h1 : (s.toNat * f.exps + e + 1) * f.tails ≤ (2 * f.exps) * f.tails := Nat.mul_le_mul_right _ (by
      have : s.toNat * f.exps ≤ 1 * f.exps := Nat.mul_le_mul_right _ (by cases s <;> decide)
      omega)
    rw [Nat.add_mul _ 1, Nat.mul_assoc] at h1
    omega
  cases d with
  | nan => exact hd.elim
  | inf s => exact key s _ 0 (by omega) ht
  | fin s c q =>
    obtain ⟨h1, h3, h4⟩ := hd
    simp only [FP.Core.encode]
    split
    · exact key s 0 c (by omega) (by assumption)
    · exact key s _ _ (by omega) (by omega)
theorem fp_ok64 : 2 ≤ FP.Core.b64.exps ∧ 0 < FP.Core.b64.tails ∧ FP.Core.b64.qmax - FP.Core.b64.qmin + 2 ≤ (FP.Core.b64.exps : Int) - 1 ∧ 2 ^ FP.Core.b64.p = 2 * FP.Core.b64.tails ∧ FP.Core.b64.qmin ≤ FP.Core.b64.qmax := by decide +kernel
theorem fp_ok32 : 2 ≤ FP.Core.b32.exps ∧ 0 < FP.Core.b32.tails ∧ FP.Core.b32.qmax - FP.Core.b32.qmin + 2 ≤ (FP.Core.b32.exps : Int) - 1 ∧ 2 ^ FP.Core.b32.p = 2 * FP.Core.b32.tails ∧ FP.Core.b32.qmin ≤ FP.Core.b32.qmax := by decide +kernel
theorem fp_w64 (i : Int) : (UInt64.ofNat (FP.Core.fromInt FP.Core.b64 i)).toNat = FP.Core.fromInt FP.Core.b64 i := by
  have h := fp_lt FP.Core.b64 fp_ok64.1 fp_ok64.2.1 fp_ok64.2.2.1 (fp_rr FP.Core.b64 fp_ok64.2.2.2.1 fp_ok64.2.1 fp_ok64.2.2.2.2 (decide (i < 0)) i.natAbs 1 0)
  rw [fp_tails64, fp_exps64] at h
  rw [UInt64.toNat_ofNat']
  exact Nat.mod_eq_of_lt h
theorem fp_w32 (i : Int) : (UInt32.ofNat (FP.Core.fromInt FP.Core.b32 i)).toNat = FP.Core.fromInt FP.Core.b32 i := by
  have h := fp_lt FP.Core.b32 fp_ok32.1 fp_ok32.2.1 fp_ok32.2.2.1 (fp_rr FP.Core.b32 fp_ok32.2.2.2.1 fp_ok32.2.1 fp_ok32.2.2.2.2 (decide (i < 0)) i.natAbs 1 0)
  rw [fp_tails32, fp_exps32] at h
  rw [UInt32.toNat_ofNat']
  exact Nat.mod_eq_of_lt h
theorem fp_div64 (x : Int32) {n : Nat} (h0 : 0 < n) (hn : n < 21) : vf_n64 (FP.ddiv (FP.i2d x) (FP.i2d (nI n))) := by
  show vf_n64 (UInt64.ofNat (FP.Core.div FP.Core.b64 (UInt64.ofNat (FP.Core.fromInt FP.Core.b64 x.toInt)).toNat (UInt64.ofNat (FP.Core.fromInt FP.Core.b64 (nI n).toInt)).toNat))
  rw [fp_w64, fp_w64, nI_toInt (by omega)]
  obtain ⟨t, c, r, e1, e2⟩ := fpN_of (fp_n64 n hn h0)
  have hd := fp_quo FP.Core.b64 fp_ok64.2.2.2.1 fp_ok64.2.1 fp_ok64.2.2.2.2 (fp_i64 x.toInt) e1 e2
  have hb := fp_enc FP.Core.b64 fp_ok64.1 fp_ok64.2.1 fp_ok64.2.2.1 hd
  unfold fpB at hb
  rw [fp_tails64, fp_exps64] at hb
  unfold vf_n64
  rw [UInt64.le_iff_toNat_le, UInt64.toNat_and, UInt64.toNat_ofNat']
  rw [show (0x7fffffffffffffff : UInt64).toNat = 2 ^ 63 - 1 from rfl, show (0x7ff0000000000000 : UInt64).toNat = (2 ^ 11 - 1) * 2 ^ 52 from rfl, Nat.and_two_pow_sub_one_eq_mod]
  unfold FP.Core.div
  omega
theorem fp_div32 (x : Int32) {n : Nat} (h0 : 0 < n) (hn : n < 2 ^ 24) : vf_n32 (FP.fdiv (FP.i2f x) (FP.i2f (nI n))) := by
  show vf_n32 (UInt32.ofNat (FP.Core.div FP.Core.b32 (UInt32.ofNat (FP.Core.fromInt FP.Core.b32 x.toInt)).toNat (UInt32.ofNat (FP.Core.fromInt FP.Core.b32 (nI n).toInt)).toNat))
  rw [fp_w32, fp_w32, nI_toInt (by omega)]
  obtain ⟨t, c, r, e1, e2⟩ := fpN_of (fp_n32 n h0 hn)
  have hd := fp_quo FP.Core.b32 fp_ok32.2.2.2.1 fp_ok32.2.1 fp_ok32.2.2.2.2 (fp_i32 x.toInt) e1 e2
  have hb := fp_enc FP.Core.b32 fp_ok32.1 fp_ok32.2.1 fp_ok32.2.2.1 hd
  unfold fpB at hb
  rw [fp_tails32, fp_exps32] at hb
  unfold vf_n32
  rw [UInt32.le_iff_toNat_le, UInt32.toNat_and, UInt32.toNat_ofNat']
  rw [show (0x7fffffff : UInt32).toNat = 2 ^ 31 - 1 from rfl, show (0x7f800000 : UInt32).toNat = (2 ^ 8 - 1) * 2 ^ 23 from rfl, Nat.and_two_pow_sub_one_eq_mod]
  unfold FP.Core.div
  omega
