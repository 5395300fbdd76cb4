/-! QUOTIENTS of whole numbers are no NaNs -/
set_option maxRecDepth 100000
/-- the bits of a datum that isn't a NaN -/
def fpB (f : FP.Core.Fmt) (n : Nat) : Prop := n % (f.exps * f.tails) ≤ (f.exps - 1) * f.tails
def fpD (f : FP.Core.Fmt) (d : FP.Core.Datum) : Prop := match d with
  | .nan => False
  | .inf _ => True
  | .fin _ c q => c < 2 * f.tails ∧ f.qmin ≤ q ∧ q ≤ f.qmax
theorem fp_asm (f : FP.Core.Fmt) (s : Bool) {e t : Nat} (he : e < f.exps) (ht : t < f.tails) : FP.Core.assemble f s e t % (f.exps * f.tails) = e * f.tails + t := by
  have hlt : e * f.tails + t < f.exps * f.tails := by
    have h1 : (e + 1) * f.tails ≤ f.exps * f.tails := Nat.mul_le_mul_right _ he
    rw [Nat.add_mul] at h1
    omega
  unfold FP.Core.assemble
  rw [Nat.add_mul, Nat.mul_assoc, Nat.add_assoc, Nat.mul_comm s.toNat, Nat.mul_add_mod]
  exact Nat.mod_eq_of_lt hlt
theorem fp_enc (f : FP.Core.Fmt) (h2 : 2 ≤ f.exps) (ht : 0 < f.tails) (hq : f.qmax - f.qmin + 2 ≤ (f.exps : Int) - 1) {d : FP.Core.Datum} (hd : fpD f d) : fpB f (FP.Core.encode f d) := by
  unfold fpB
  cases d with
  | nan => exact hd.elim
  | inf s =>
    show FP.Core.assemble f s (f.exps - 1) 0 % _ ≤ _
    rw [fp_asm f s (by omega) ht]
    omega
  | fin s c q =>
    obtain ⟨h1, h3, h4⟩ := hd
    simp only [FP.Core.encode]
    split
    · next hc =>
      rw [fp_asm f s (by omega) hc]
      have : 1 * f.tails ≤ (f.exps - 1) * f.tails := Nat.mul_le_mul_right _ (by omega)
      omega
    · next hc =>
      have he : (q - f.qmin).toNat + 1 < f.exps - 1 := by omega
      rw [fp_asm f s (by omega) (by omega)]
      have : ((q - f.qmin).toNat + 1 + 1) * f.tails ≤ (f.exps - 1) * f.tails := Nat.mul_le_mul_right _ (by omega)
      rw [Nat.add_mul _ 1 f.tails] at this
      omega
theorem fp_bound (f : FP.Core.Fmt) (s : Bool) {c : Nat} {q : Int} (hc : c < 2 * f.tails) (hq : f.qmin ≤ q) : fpD f (FP.Core.bound f s c q) := by
  unfold FP.Core.bound
  split
  · next h => exact ⟨hc, hq, h⟩
  · trivial
theorem fp_rr (f : FP.Core.Fmt) (hp : 2 ^ f.p = 2 * f.tails) (ht : 0 < f.tails) (hqm : f.qmin ≤ f.qmax) (s : Bool) (num den : Nat) (e : Int) : fpD f (FP.Core.roundRatio f s num den e) := by
  unfold FP.Core.roundRatio
  split
  · exact ⟨by omega, Int.le_refl _, hqm⟩
  · unfold FP.Core.roundAt FP.Core.settle
    have hq : f.qmin ≤ FP.Core.quantum f num den e := by unfold FP.Core.quantum; omega
    split
    · next h => exact fp_bound f s (hp ▸ h) hq
    · exact fp_bound f s (by omega) (by omega)
theorem fp_dec (f : FP.Core.Fmt) (h2 : 2 ≤ f.exps) (ht : 0 < f.tails) {n : Nat} (h : fpB f n) : FP.Core.decode f n ≠ .nan := by
  unfold FP.Core.decode
  split
  · next he =>
    split
    · intro z; cases z
    · next hT =>
      exfalso
      unfold fpB at h
      unfold FP.Core.fieldE at he
      unfold FP.Core.fieldT at hT
      have e1 : n % (f.exps * f.tails) = n % f.tails + f.tails * (n / f.tails % f.exps) := by
        rw [Nat.mul_comm f.exps f.tails, Nat.mod_mul]
      rw [e1, he, Nat.mul_comm f.tails] at h
      omega
  · split <;> (intro z; cases z)
theorem fp_quo (f : FP.Core.Fmt) (hp : 2 ^ f.p = 2 * f.tails) (ht : 0 < f.tails) (hqm : f.qmin ≤ f.qmax) {x y : FP.Core.Datum} (hx : x ≠ .nan) {t : Bool} {d : Nat} {r : Int} (hy : y = .fin t d r) (hd : d ≠ 0) : fpD f (FP.Core.quotient f x y) := by
  subst hy
  cases x with
  | nan => exact absurd rfl hx
  | inf s => trivial
  | fin s c q =>
    unfold FP.Core.quotient
    simp only [hd, if_false]
    exact fp_rr f hp ht hqm _ _ _ _
theorem fp_tails64 : FP.Core.b64.tails = 2 ^ 52 := by decide +kernel
theorem fp_exps64 : FP.Core.b64.exps = 2 ^ 11 := by decide +kernel
theorem fp_tails32 : FP.Core.b32.tails = 2 ^ 23 := by decide +kernel
theorem fp_exps32 : FP.Core.b32.exps = 2 ^ 8 := by decide +kernel
theorem fp_i64 (i : Int) : FP.Core.decode FP.Core.b64 (FP.Core.fromInt FP.Core.b64 i) ≠ .nan :=
  fp_dec _ (by decide +kernel) (by decide +kernel) (fp_enc _ (by decide +kernel) (by decide +kernel) (by decide +kernel) (fp_rr _ (by decide +kernel) (by decide +kernel) (by decide +kernel) _ _ _ _))
theorem fp_i32 (i : Int) : FP.Core.decode FP.Core.b32 (FP.Core.fromInt FP.Core.b32 i) ≠ .nan :=
  fp_dec _ (by decide +kernel) (by decide +kernel) (fp_enc _ (by decide +kernel) (by decide +kernel) (by decide +kernel) (fp_rr _ (by decide +kernel) (by decide +kernel) (by decide +kernel) _ _ _ _))
/-- whether a datum is a number other than 0 -/
def fpN (d : FP.Core.Datum) : Bool := match d with
  | .fin _ c _ => !(c == 0)
  | _ => false
theorem fpN_of {d : FP.Core.Datum} (h : fpN d = true) : ∃ t c r, d = .fin t c r ∧ c ≠ 0 := by
  cases d with
  | fin t c r => exact ⟨t, c, r, rfl, by simpa [fpN] using h⟩
  | nan => cases h
  | inf s => cases h
theorem fp_n64 : ∀ n : Nat, n < 21 → 0 < n → fpN (FP.Core.decode FP.Core.b64 (FP.Core.fromInt FP.Core.b64 (n : Int))) = true := by decide +kernel
theorem fp_lead (n : Nat) (h : 0 < n) : FP.Core.leading n 1 = (n.log2 : Int) := by
  have h1 : Nat.log2 1 = 0 := by decide +kernel
  have h2 := Nat.log2_self_le (n := n) (by omega)
  unfold FP.Core.leading
  simp only [h1]
  have e1 : (((n.log2 : Int) - ((0 : Nat) : Int)).toNat) = n.log2 := by omega
  have e2 : ((-((n.log2 : Int) - ((0 : Nat) : Int))).toNat) = 0 := by omega
  rw [e1, e2, if_pos (by omega)]
  omega
theorem fp_q32 : FP.Core.b32.qmin = -149 ∧ FP.Core.b32.qmax = 104 ∧ (FP.Core.b32.p : Int) = 24 ∧ FP.Core.b32.p = 24 := by decide +kernel
theorem fp_round32 (n : Nat) (h : 0 < n) (h2 : n < 2 ^ 24) : ∃ (c : Nat) (q : Int), FP.Core.round FP.Core.b32 (FP.Core.ofInt (n : Int)) = .fin false c q ∧ 2 ^ 23 ≤ c ∧ c < 2 ^ 24 ∧ -149 ≤ q ∧ q ≤ 104 := by
  obtain ⟨q1, q2, q3, q4⟩ := fp_q32
  have hl := Nat.log2_self_le (n := n) (by omega)
  have hu := Nat.lt_log2_self (n := n)
  have hlog : n.log2 < 24 := (Nat.log2_lt (by omega)).mpr h2
  refine ⟨n * 2 ^ (23 - n.log2), (n.log2 : Int) - 23, ?_, ?_, ?_, by omega, by omega⟩
  · show FP.Core.roundRatio FP.Core.b32 (decide ((n : Int) < 0)) (n : Int).natAbs 1 0 = _
    have e0 : decide ((n : Int) < 0) = false := decide_eq_false (by omega)
    rw [e0, Int.natAbs_natCast]
    unfold FP.Core.roundRatio
    rw [if_neg (by omega)]
    have eq : FP.Core.quantum FP.Core.b32 n 1 0 = (n.log2 : Int) - 23 := by
      unfold FP.Core.quantum
      rw [fp_lead n h, q1, q3]
      omega
    rw [eq]
    unfold FP.Core.roundAt FP.Core.unitsNum FP.Core.unitsDen
    have e1 : ((0 : Int) - ((n.log2 : Int) - 23)).toNat = 23 - n.log2 := by omega
    have e2 : (((n.log2 : Int) - 23) - 0).toNat = 0 := by omega
    rw [e1, e2]
    have e3 : FP.Core.nearest (n * 2 ^ (23 - n.log2)) (1 * 2 ^ 0) = n * 2 ^ (23 - n.log2) := by
      unfold FP.Core.nearest
      rw [show 1 * 2 ^ 0 = 1 from rfl, Nat.mod_one, if_pos (by decide), Nat.div_one]
    rw [e3]
    unfold FP.Core.settle
    have hx : n * 2 ^ (23 - n.log2) < 2 ^ 24 := by
      have : n * 2 ^ (23 - n.log2) < 2 ^ (n.log2 + 1) * 2 ^ (23 - n.log2) := Nat.mul_lt_mul_of_pos_right hu (Nat.two_pow_pos _)
      rw [← Nat.pow_add, show n.log2 + 1 + (23 - n.log2) = 24 by omega] at this
      exact this
    rw [q4, if_pos hx]
    unfold FP.Core.bound
    rw [if_pos (by omega)]
  · have : 2 ^ n.log2 * 2 ^ (23 - n.log2) ≤ n * 2 ^ (23 - n.log2) := Nat.mul_le_mul_right _ hl
    rw [← Nat.pow_add, show n.log2 + (23 - n.log2) = 23 by omega] at this
    exact this
  · have : n * 2 ^ (23 - n.log2) < 2 ^ (n.log2 + 1) * 2 ^ (23 - n.log2) := Nat.mul_lt_mul_of_pos_right hu (Nat.two_pow_pos _)
    rw [← Nat.pow_add, show n.log2 + 1 + (23 - n.log2) = 24 by omega] at this
    exact this
theorem fp_n32 (n : Nat) (h : 0 < n) (h2 : n < 2 ^ 24) : fpN (FP.Core.decode FP.Core.b32 (FP.Core.fromInt FP.Core.b32 (n : Int))) = true := by
  obtain ⟨q1, q2, q3, q4⟩ := fp_q32
  obtain ⟨c, q, e, h3, h4, h5, h6⟩ := fp_round32 n h h2
  unfold FP.Core.fromInt
  rw [e]
  have ht := fp_tails32
  have he := fp_exps32
  have e1 : FP.Core.encode FP.Core.b32 (.fin false c q) = ((q + 149).toNat + 1) * 2 ^ 23 + (c - 2 ^ 23) := by
    show (if c < FP.Core.b32.tails then FP.Core.assemble FP.Core.b32 false 0 c else FP.Core.assemble FP.Core.b32 false ((q - FP.Core.b32.qmin).toNat + 1) (c - FP.Core.b32.tails)) = _
    rw [ht, if_neg (by omega), q1]
    unfold FP.Core.assemble
    rw [ht, he, show q - -149 = q + 149 by omega]
    simp
  rw [e1]
  have f1 : (((q + 149).toNat + 1) * 2 ^ 23 + (c - 2 ^ 23)) / 2 ^ 23 % 2 ^ 8 = (q + 149).toNat + 1 := by
    have : c - 2 ^ 23 < 2 ^ 23 := by omega
    omega
  unfold FP.Core.decode FP.Core.fieldE
  rw [ht, he, f1, if_neg (by omega), if_neg (by omega)]
  simp [fpN]
