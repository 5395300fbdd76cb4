/-! THE TRADE'S INVARIANT is kept by every order -/
set_option maxRecDepth 100000
theorem ti_add {x y : Int32} (h1 : -2147483648 ≤ x.toInt + y.toInt) (h2 : x.toInt + y.toInt < 2147483648) : (x + y).toInt = x.toInt + y.toInt := by
  rw [Int32.toInt_add]
  exact Int.bmod_eq_of_le (by omega) (by omega)
theorem ti_sub {x y : Int32} (h1 : -2147483648 ≤ x.toInt - y.toInt) (h2 : x.toInt - y.toInt < 2147483648) : (x - y).toInt = x.toInt - y.toInt := by
  rw [Int32.toInt_sub]
  exact Int.bmod_eq_of_le (by omega) (by omega)
theorem ti_inR {x lo hi : Int32} (h : inR x lo hi) : lo.toInt ≤ x.toInt ∧ x.toInt ≤ hi.toInt :=
  ⟨by have := h.1; rw [Int32.lt_iff_toInt_lt] at this; omega, by have := h.2; rw [Int32.lt_iff_toInt_lt] at this; omega⟩
theorem ti_nlt {x y : Int32} (h : ¬ x < y) : y.toInt ≤ x.toInt := by
  rw [Int32.lt_iff_toInt_lt] at h
  omega
theorem ti_ne {x y : Int32} (h : ¬ x = y) : x.toInt ≠ y.toInt := fun z => h (Int32.toInt_inj.mp z)
theorem ti_minI (x y : Int32) : (minI x y).toInt = min x.toInt y.toInt := by
  unfold minI
  split
  · next h => rw [Int32.le_iff_toInt_le] at h; omega
  · next h => rw [Int32.le_iff_toInt_le] at h; omega
theorem ti_maxI (x y : Int32) : (maxI x y).toInt = max x.toInt y.toInt := by
  unfold maxI
  split
  · next h => rw [Int32.le_iff_toInt_le] at h; omega
  · next h => rw [Int32.le_iff_toInt_le] at h; omega
theorem ti_needs (k : Int32) : (needsK k).toInt = 150 ∨ (needsK k).toInt = 160 ∨ (needsK k).toInt = 180 ∨ (needsK k).toInt = 220 := by
  unfold needsK
  split
  · exact Or.inl (by decide)
  · split
    · exact Or.inr (Or.inl (by decide))
    · split
      · exact Or.inr (Or.inr (Or.inl (by decide)))
      · exact Or.inr (Or.inr (Or.inr (by decide)))
abbrev tJ (s : Nat → Int32) (j : Nat) : Prop := rng (s (33 + 4 * j)) 0 2 ∧ rng (s (33 + 4 * j + 1)) 40 100 ∧ rng (s (33 + 4 * j + 2)) 0 900 ∧ 0 ≤ (s (33 + 4 * j + 3)).toInt ∧ (s (33 + 4 * j + 2)).toInt + (s (33 + 4 * j + 3)).toInt ≤ 900
abbrev hJ (s : Nat → Int32) (j : Nat) : Prop := rng (s (73 + 4 * j)) 0 3 ∧ rng (s (73 + 4 * j + 1)) 1 100 ∧ rng (s (73 + 4 * j + 2)) 0 600 ∧ rng (s (73 + 4 * j + 3)) (-1) 9
abbrev bJ (s : Nat → Int32) (j : Nat) : Prop := rng (s (153 + 7 * j)) 0 3 ∧ rng (s (153 + 7 * j + 1)) 0 9 ∧ rng (s (153 + 7 * j + 2)) 0 220 ∧ rng (s (153 + 7 * j + 3)) (-1) 2 ∧ (s (153 + 7 * j + 4) = 0 ∨ s (153 + 7 * j + 4) = 1) ∧ (s (153 + 7 * j + 3) = -1 → s (153 + 7 * j + 2) = 0)
theorem tJ_same {s s' : Nat → Int32} {j : Nat} (h : ∀ i, i < 4 → s' (33 + 4 * j + i) = s (33 + 4 * j + i)) (hJ0 : tJ s j) : tJ s' j := by
  have h0 := h 0 (by decide); have h1 := h 1 (by decide); have h2 := h 2 (by decide); have h3 := h 3 (by decide)
  simp only [Nat.add_zero] at h0
  unfold tJ
  rw [h0, h1, h2, h3]
  exact hJ0
theorem hJ_same {s s' : Nat → Int32} {j k : Nat} (h : ∀ i, i < 4 → s' (73 + 4 * j + i) = s (73 + 4 * k + i)) (hJ0 : hJ s k) : hJ s' j := by
  have h0 := h 0 (by decide); have h1 := h 1 (by decide); have h2 := h 2 (by decide); have h3 := h 3 (by decide)
  simp only [Nat.add_zero] at h0
  unfold hJ
  rw [h0, h1, h2, h3]
  exact hJ0
theorem bJ_same {s s' : Nat → Int32} {j : Nat} (h : ∀ i, i < 5 → s' (153 + 7 * j + i) = s (153 + 7 * j + i)) (hJ0 : bJ s j) : bJ s' j := by
  have h0 := h 0 (by decide); have h1 := h 1 (by decide); have h2 := h 2 (by decide); have h3 := h 3 (by decide); have h4 := h 4 (by decide)
  simp only [Nat.add_zero] at h0
  unfold bJ
  rw [h0, h1, h2, h3, h4]
  exact hJ0
/-- the invariant, the counts read off the row -/
def InvC (s : Nat → Int32) : Prop := Inv s (cn s 3) (cn s 4) (cn s 5) (cn s 6)
theorem InvC.at {s : Nat → Int32} {nt nh nb nc tw : Nat} (h : InvC s) (hC : Cn s nt nh nb nc tw) : Inv s nt nh nb nc := by
  obtain ⟨h2, hw, h3, ht, h4, hh, h5, hb, h6, hc⟩ := hC
  have e3 : cn s 3 = nt := by unfold cn; rw [h3]; exact nI_clamp (by omega)
  have e4 : cn s 4 = nh := by unfold cn; rw [h4]; exact nI_clamp (by omega)
  have e5 : cn s 5 = nb := by unfold cn; rw [h5]; exact nI_clamp (by omega)
  have e6 : cn s 6 = nc := by unfold cn; rw [h6]; exact nI_clamp (by omega)
  unfold InvC at h
  rw [e3, e4, e5, e6] at h
  exact h
theorem InvC.of {s : Nat → Int32} {nt nh nb nc : Nat} (h3 : s 3 = nI nt) (ht : nt ≤ 10) (h4 : s 4 = nI nh) (hh : nh ≤ 20) (h5 : s 5 = nI nb) (hb : nb ≤ 6) (h6 : s 6 = nI nc) (hc : nc ≤ 5) (hT : ∀ j, j < nt → tJ s j) (hH : ∀ j, j < nh → hJ s j) (hB : ∀ j, j < nb → bJ s j) (hK : ∀ j, j < nc → rng (s (28 + j)) 0 40) (h0 : s 18 = 0) (hS : ∀ m, 1 ≤ m → m < 10 → rng (s (18 + m)) 0 20) : InvC s := by
  have e3 : cn s 3 = nt := by unfold cn; rw [h3]; exact nI_clamp (by omega)
  have e4 : cn s 4 = nh := by unfold cn; rw [h4]; exact nI_clamp (by omega)
  have e5 : cn s 5 = nb := by unfold cn; rw [h5]; exact nI_clamp (by omega)
  have e6 : cn s 6 = nc := by unfold cn; rw [h6]; exact nI_clamp (by omega)
  unfold InvC
  rw [e3, e4, e5, e6]
  exact ⟨hT, hH, hB, hK, h0, hS⟩
def opIn (r : opR) : Prop := r.1 = 0 → InvC r.2.2.2
theorem opIn_ite {P : Prop} [Decidable P] {a b : opR} (ha : P → opIn a) (hb : ¬ P → opIn b) : opIn (if P then a else b) := by
  by_cases h : P
  · rw [if_pos h]; exact ha h
  · rw [if_neg h]; exact hb h
theorem opIn_no {r d v : Int32} {s : Nat → Int32} (h : ¬ r = 0) : opIn (r, d, v, s) := fun z => absurd z h
theorem goS_h {s : Nat → Int32} {j n i : Nat} (hj : j < n) (hi : i < n - 1) (h : hJ s (if i < j then i else i + 1)) : hJ (goS s j n) i := by
  refine hJ_same (k := if i < j then i else i + 1) (fun o ho => ?_) h
  unfold goS
  rw [pk_un (by omega)]
  unfold goH
  by_cases z : i < j
  · rw [if_pos z, if_neg (by omega)]
  · rw [if_neg z, if_pos (by omega)]
    congr 1
    omega
theorem goS_all {s : Nat → Int32} {j n : Nat} (hj : j < n) (h : ∀ i, i < n → hJ s i) : ∀ i, i < n - 1 → hJ (goS s j n) i := fun i hi => goS_h hj hi (h _ (by split <;> omega))
theorem loseS_h {s : Nat → Int32} {j n : Nat} {h : Int32} (hj : j < n) (h4 : s 4 = nI n) (hh : ∀ i, i < n → hJ s i) (h1 : 0 ≤ h.toInt) (h2 : h.toInt ≤ (s (73 + 4 * j + 2)).toInt) : ∃ n2 : Nat, n2 ≤ n ∧ loseS s j n h 4 = nI n2 ∧ ∀ i, i < n2 → hJ (loseS s j n h) i := by
  have hk : ∀ i, i < n → hJ (upd s (73 + 4 * j + 2) (s (73 + 4 * j + 2) - h)) i := fun i hi => by
    by_cases z : i = j
    · subst z
      obtain ⟨a, b, c, d⟩ := hh i hi
      unfold hJ
      rw [pk_un (by omega), pk_un (by omega), pk_us, pk_un (by omega)]
      refine ⟨a, b, ?_, d⟩
      unfold rng at c ⊢
      rw [ti_sub (by omega) (by omega)]
      omega
    · exact hJ_same (fun o ho => pk_un (by omega)) (hh i hi)
  unfold loseS
  split
  · exact ⟨n - 1, by omega, goS_4, goS_all hj hk⟩
  · exact ⟨n, by omega, by rw [pk_un (by omega)]; exact h4, hk⟩
theorem opTail_In {s : Nat → Int32} (h : CnE s) (hv : InvC s) (x y z : Int32) : opIn (opTail s x y z) := by
  unfold opTail
  refine opIn_ite (fun hx => opIn_ite (fun hy => opIn_ite (fun hz => opIn_ite (fun _ => opIn_no (by decide)) (fun h10 => opIn_ite (fun _ => opIn_no (by decide)) (fun _ _ => ?_))) (fun _ => opIn_no (by decide))) (fun _ => opIn_no (by decide))) (fun _ => opIn_no (by decide))
  obtain ⟨nt, nh, nb, nc, tw, hC⟩ := h
  obtain ⟨vt, vh, vb, vc, v0, vs⟩ := hv.at hC
  obtain ⟨h2, hw, h3, ht, h4, hh, h5, hb, h6, hc⟩ := hC
  have hn := cn_ne h3 ht h10
  have e : (s 3).toNatClampNeg = nt := by rw [h3]; exact nI_clamp (by omega)
  show InvC (opTailN s (s 3).toNatClampNeg (priceT x z) x y z)
  rw [e]
  refine .of (nt := nt + 1) (nh := nh) (nb := nb) (nc := nc) ?_ hn ?_ hh ?_ hb ?_ hc (fun j hj => ?_) (fun j hj => ?_) (fun j hj => ?_) (fun j hj => ?_) ?_ (fun m hm1 hm2 => ?_) <;> unfold opTailN
  · rw [pk_un (by omega), pk_us]
  · repeat rw [pk_un (by omega)]
    exact h4
  · repeat rw [pk_un (by omega)]
    exact h5
  · repeat rw [pk_un (by omega)]
    exact h6
  · by_cases z9 : j = nt
    · subst z9
      unfold tJ
      have q0 := ti_inR hx; have q1 := ti_inR hy; have q2 := ti_inR hz
      have k0 : (0 : Int32).toInt = 0 := rfl
      have k2 : (2 : Int32).toInt = 2 := rfl
      have k40 : (40 : Int32).toInt = 40 := rfl
      have k100 : (100 : Int32).toInt = 100 := rfl
      have k50 : (50 : Int32).toInt = 50 := rfl
      have k900 : (900 : Int32).toInt = 900 := rfl
      rw [show (upd (upd (upd (upd (upd (upd (upd s 0 (s 0 - priceT x z)) (33 + 4 * j) x) (33 + 4 * j + 1) y) (33 + 4 * j + 2) z) (33 + 4 * j + 3) 0) 3 (nI (j + 1))) 8 (s 8 + z)) (33 + 4 * j) = x from by repeat (first | rw [pk_us] | rw [pk_un (by omega)]),
        show (upd (upd (upd (upd (upd (upd (upd s 0 (s 0 - priceT x z)) (33 + 4 * j) x) (33 + 4 * j + 1) y) (33 + 4 * j + 2) z) (33 + 4 * j + 3) 0) 3 (nI (j + 1))) 8 (s 8 + z)) (33 + 4 * j + 1) = y from by repeat (first | rw [pk_us] | rw [pk_un (by omega)]),
        show (upd (upd (upd (upd (upd (upd (upd s 0 (s 0 - priceT x z)) (33 + 4 * j) x) (33 + 4 * j + 1) y) (33 + 4 * j + 2) z) (33 + 4 * j + 3) 0) 3 (nI (j + 1))) 8 (s 8 + z)) (33 + 4 * j + 2) = z from by repeat (first | rw [pk_us] | rw [pk_un (by omega)]),
        show (upd (upd (upd (upd (upd (upd (upd s 0 (s 0 - priceT x z)) (33 + 4 * j) x) (33 + 4 * j + 1) y) (33 + 4 * j + 2) z) (33 + 4 * j + 3) 0) 3 (nI (j + 1))) 8 (s 8 + z)) (33 + 4 * j + 3) = 0 from by repeat (first | rw [pk_us] | rw [pk_un (by omega)])]
      unfold rng
      omega
    · refine tJ_same (fun i hi => ?_) (vt j (by omega))
      repeat rw [pk_un (by omega)]
  · refine hJ_same (fun i hi => ?_) (vh j hj)
    repeat rw [pk_un (by omega)]
  · refine bJ_same (fun i hi => ?_) (vb j hj)
    repeat rw [pk_un (by omega)]
  · repeat rw [pk_un (by omega)]
    exact vc j hj
  · repeat rw [pk_un (by omega)]
    exact v0
  · repeat rw [pk_un (by omega)]
    exact vs m hm1 hm2
theorem opComb_In {s : Nat → Int32} (h : CnE s) (hv : InvC s) (x y : Int32) : opIn (opComb s x y) := by
  unfold opComb
  refine opIn_ite (fun hx => opIn_ite (fun hy => opIn_ite (fun _ => opIn_no (by decide)) (fun hlt => opIn_ite (fun _ => opIn_no (by decide)) (fun h20 _ => ?_))) (fun _ => opIn_no (by decide))) (fun _ => opIn_no (by decide))
  obtain ⟨nt, nh, nb, nc, tw, hC⟩ := h
  obtain ⟨vt, vh, vb, vc, v0, vs⟩ := hv.at hC
  obtain ⟨h2, hw, h3, ht, h4, hh, h5, hb, h6, hc⟩ := hC
  have hn := cn_ne h4 hh h20
  have e : (s 4).toNatClampNeg = nh := by rw [h4]; exact nI_clamp (by omega)
  obtain ⟨i, hi, rfl⟩ := inR_ix hx h3 (by omega)
  show InvC (opCombN s (s 4).toNatClampNeg (nI i).toNatClampNeg y)
  rw [nI_clamp (n := i) (by omega)] at hlt ⊢
  rw [e]
  have q1 := ti_inR hy; have q2 := ti_nlt hlt
  have k0 : (0 : Int32).toInt = 0 := rfl
  have k1 : (1 : Int32).toInt = 1 := rfl
  have k2 : (2 : Int32).toInt = 2 := rfl
  have k600 : (600 : Int32).toInt = 600 := rfl
  obtain ⟨ta, tb, tc, td, te⟩ := vt i hi
  refine .of (nt := nt) (nh := nh + 1) (nb := nb) (nc := nc) ?_ ht ?_ hn ?_ hb ?_ hc (fun j hj => ?_) (fun j hj => ?_) (fun j hj => ?_) (fun j hj => ?_) ?_ (fun m hm1 hm2 => ?_)
  · unfold opCombN
    repeat rw [pk_un (by omega)]
    exact h3
  · unfold opCombN
    rw [pk_un (by omega), pk_un (by omega), pk_us]
  · unfold opCombN
    repeat rw [pk_un (by omega)]
    exact h5
  · unfold opCombN
    repeat rw [pk_un (by omega)]
    exact h6
  · by_cases z9 : j = i
    · subst z9
      unfold tJ
      rw [show opCombN s nh j y (33 + 4 * j) = s (33 + 4 * j) from by unfold opCombN; repeat (first | rw [pk_us] | rw [pk_un (by omega)]),
        show opCombN s nh j y (33 + 4 * j + 1) = s (33 + 4 * j + 1) from by unfold opCombN; repeat (first | rw [pk_us] | rw [pk_un (by omega)]),
        show opCombN s nh j y (33 + 4 * j + 2) = s (33 + 4 * j + 2) - y from by unfold opCombN; repeat (first | rw [pk_us] | rw [pk_un (by omega)]),
        show opCombN s nh j y (33 + 4 * j + 3) = s (33 + 4 * j + 3) + 1 from by unfold opCombN; repeat (first | rw [pk_us] | rw [pk_un (by omega)])]
      refine ⟨ta, tb, ?_⟩
      unfold rng at tc ⊢
      rw [ti_sub (by omega) (by omega), ti_add (by omega) (by omega)]
      omega
    · refine tJ_same (fun o ho => ?_) (vt j hj)
      unfold opCombN
      repeat rw [pk_un (by omega)]
  · by_cases z9 : j = nh
    · subst z9
      unfold hJ
      rw [show opCombN s j i y (73 + 4 * j) = s (33 + 4 * i) from by unfold opCombN; repeat (first | rw [pk_us] | rw [pk_un (by omega)]),
        show opCombN s j i y (73 + 4 * j + 1) = nextL s i from by unfold opCombN; repeat (first | rw [pk_us] | rw [pk_un (by omega)]),
        show opCombN s j i y (73 + 4 * j + 2) = y from by unfold opCombN; repeat (first | rw [pk_us] | rw [pk_un (by omega)]),
        show opCombN s j i y (73 + 4 * j + 3) = nI i from by unfold opCombN; repeat (first | rw [pk_us] | rw [pk_un (by omega)])]
      unfold rng nextL
      rw [ti_maxI, nI_toInt (by omega)]
      unfold rng at ta tb tc
      have k4 : (2 * s (33 + 4 * i + 3)).toInt = 2 * (s (33 + 4 * i + 3)).toInt := by
        rw [Int32.toInt_mul, k2]
        exact Int.bmod_eq_of_le (by omega) (by omega)
      rw [ti_sub (by omega) (by omega)]
      omega
    · refine hJ_same (fun o ho => ?_) (vh j (by omega))
      unfold opCombN
      repeat rw [pk_un (by omega)]
  · refine bJ_same (fun o ho => ?_) (vb j hj)
    unfold opCombN
    repeat rw [pk_un (by omega)]
  · unfold opCombN
    repeat rw [pk_un (by omega)]
    exact vc j hj
  · unfold opCombN
    repeat rw [pk_un (by omega)]
    exact v0
  · unfold opCombN
    repeat rw [pk_un (by omega)]
    exact vs m hm1 hm2
theorem opTie_In {s : Nat → Int32} (h : CnE s) (hv : InvC s) (x y : Int32) : opIn (opTie s x y) := by
  unfold opTie
  refine opIn_ite (fun hx => opIn_ite (fun hy => opIn_ite (fun _ => opIn_no (by decide)) (fun hne => opIn_ite (fun _ => opIn_no (by decide)) (fun hle _ => ?_))) (fun _ => opIn_no (by decide))) (fun _ => opIn_no (by decide))
  obtain ⟨nt, nh, nb, nc, tw, hC⟩ := h
  obtain ⟨vt, vh, vb, vc, v0, vs⟩ := hv.at hC
  obtain ⟨h2, hw, h3, ht, h4, hh, h5, hb, h6, hc⟩ := hC
  obtain ⟨i, hi, rfl⟩ := inR_ix hx h4 (by omega)
  obtain ⟨j, hj, rfl⟩ := inR_ix hy h4 (by omega)
  have e : (s 4).toNatClampNeg = nh := by rw [h4]; exact nI_clamp (by omega)
  show InvC (opTieN s (nI i).toNatClampNeg (nI j).toNatClampNeg (min (nI i).toNatClampNeg (nI j).toNatClampNeg) (max (nI i).toNatClampNeg (nI j).toNatClampNeg) (s 4).toNatClampNeg)
  rw [nI_clamp (n := i) (by omega), nI_clamp (n := j) (by omega)] at hle ⊢
  rw [e]
  have q2 := ti_nlt hle
  have k600 : (600 : Int32).toInt = 600 := rfl
  have hm : max i j < nh := by omega
  have hm2 : min i j < nh := by omega
  obtain ⟨t, et⟩ : ∃ t, t = min i j := ⟨_, rfl⟩
  obtain ⟨f, ef⟩ : ∃ f, f = max i j := ⟨_, rfl⟩
  rw [← et] at hm2 ⊢
  rw [← ef] at hm ⊢
  have hi4 := vh i hi; have hj4 := vh j hj
  have hp : ∀ k, k < nh → hJ (upd (upd (upd (upd s (73 + 4 * t + 2) (s (73 + 4 * i + 2) + s (73 + 4 * j + 2))) (73 + 4 * t + 1) (minI (s (73 + 4 * t + 1)) (s (73 + 4 * f + 1)))) (73 + 4 * t) (if s (73 + 4 * t) = s (73 + 4 * f) then s (73 + 4 * t) else 3)) (73 + 4 * t + 3) (if s (73 + 4 * t + 3) = s (73 + 4 * f + 3) then s (73 + 4 * t + 3) else (-1))) k := fun k hk => by
    by_cases z9 : k = t
    · subst z9
      have a1 := vh k hk; have a2 := vh f hm
      unfold rng at a1 a2 hi4 hj4
      unfold hJ
      rw [pk_un (by omega), pk_us, pk_un (by omega), pk_un (by omega), pk_us, pk_un (by omega), pk_un (by omega), pk_un (by omega), pk_us, pk_us]
      unfold rng
      rw [ti_minI, ti_add (by omega) (by omega)]
      rw [ti_add (by omega) (by omega)] at q2
      refine ⟨?_, by omega, by omega, ?_⟩
      · split
        · exact a1.1
        · exact ⟨by decide, by decide⟩
      · split
        · exact a1.2.2.2
        · exact ⟨by decide, by decide⟩
    · refine hJ_same (fun o ho => ?_) (vh k hk)
      repeat rw [pk_un (by omega)]
  unfold opTieN
  refine .of (nt := nt) (nh := nh - 1) (nb := nb) (nc := nc) ?_ ht goS_4 (by omega) ?_ hb ?_ hc (fun k hk => ?_) (goS_all hm hp) (fun k hk => ?_) (fun k hk => ?_) ?_ (fun m hm1 hm2 => ?_)
  · rw [goS_far hh hm (by omega) (by omega)]
    repeat rw [pk_un (by omega)]
    exact h3
  · rw [goS_far hh hm (by omega) (by omega)]
    repeat rw [pk_un (by omega)]
    exact h5
  · rw [goS_far hh hm (by omega) (by omega)]
    repeat rw [pk_un (by omega)]
    exact h6
  · refine tJ_same (fun o ho => ?_) (vt k hk)
    rw [goS_far hh hm (by omega) (by omega)]
    repeat rw [pk_un (by omega)]
  · refine bJ_same (fun o ho => ?_) (vb k hk)
    rw [goS_far hh hm (by omega) (by omega)]
    repeat rw [pk_un (by omega)]
  · rw [goS_far hh hm (by omega) (by omega)]
    repeat rw [pk_un (by omega)]
    exact vc k hk
  · rw [goS_far hh hm (by omega) (by omega)]
    repeat rw [pk_un (by omega)]
    exact v0
  · rw [goS_far hh hm (by omega) (by omega)]
    repeat rw [pk_un (by omega)]
    exact vs m hm1 hm2
theorem opWeave_In {s : Nat → Int32} (h : CnE s) (hv : InvC s) (x y : Int32) : opIn (opWeave s x y) := by
  unfold opWeave
  refine opIn_ite (fun hx => opIn_ite (fun hy => opIn_ite (fun _ => opIn_no (by decide)) (fun _ => opIn_ite (fun _ => opIn_no (by decide)) (fun hlt => opIn_ite (fun _ => opIn_no (by decide)) (fun hne _ => ?_)))) (fun _ => opIn_no (by decide))) (fun _ => opIn_no (by decide))
  obtain ⟨nt, nh, nb, nc, tw, hC⟩ := h
  obtain ⟨vt, vh, vb, vc, v0, vs⟩ := hv.at hC
  obtain ⟨h2, hw, h3, ht, h4, hh, h5, hb, h6, hc⟩ := hC
  obtain ⟨i, hi, rfl⟩ := inR_ix hx h4 (by omega)
  obtain ⟨m, hm1, hm2, rfl⟩ := inR_lit (a := 1) (b := 9) hy rfl rfl (by decide) (by decide)
  have e : (s 4).toNatClampNeg = nh := by rw [h4]; exact nI_clamp (by omega)
  show InvC (opWeaveN (loseS s (nI i).toNatClampNeg (s 4).toNatClampNeg (nI (40 * (nI m).toNatClampNeg))) (nI m).toNatClampNeg)
  rw [nI_clamp (n := i) (by omega), nI_clamp (n := m) (by omega)] at hlt
  rw [nI_clamp (n := m) (by omega)] at hne
  rw [e, nI_clamp (n := i) (by omega), nI_clamp (n := m) (by omega)]
  have q1 := ti_nlt hlt
  have km : (nI (40 * m)).toInt = 40 * m := by rw [nI_toInt (by omega)]; omega
  have k20 : (20 : Int32).toInt = 20 := rfl
  have k1 : (1 : Int32).toInt = 1 := rfl
  have q2 := ti_ne hne
  obtain ⟨n2, hn2, e4, hall⟩ := loseS_h (h := nI (40 * m)) hi h4 vh (by omega) q1
  obtain ⟨w, ew⟩ : ∃ w, w = loseS s i nh (nI (40 * m)) := ⟨_, rfl⟩
  have hf : ∀ x, x ≠ 4 → (x < 73 ∨ 153 ≤ x) → w x = s x := fun x h1 h2 => by rw [ew]; exact loseS_far hh hi h1 h2
  rw [← ew] at e4 hall ⊢
  unfold opWeaveN
  refine .of (nt := nt) (nh := n2) (nb := nb) (nc := nc) ?_ ht ?_ (by omega) ?_ hb ?_ hc (fun k hk => ?_) (fun k hk => ?_) (fun k hk => ?_) (fun k hk => ?_) ?_ (fun k hk1 hk2 => ?_)
  · rw [pk_un (by omega), pk_un (by omega), hf _ (by omega) (by omega)]; exact h3
  · rw [pk_un (by omega), pk_un (by omega)]; exact e4
  · rw [pk_un (by omega), pk_un (by omega), hf _ (by omega) (by omega)]; exact h5
  · rw [pk_un (by omega), pk_un (by omega), hf _ (by omega) (by omega)]; exact h6
  · refine tJ_same (fun o ho => ?_) (vt k hk)
    rw [pk_un (by omega), pk_un (by omega), hf _ (by omega) (by omega)]
  · refine hJ_same (fun o ho => ?_) (hall k hk)
    rw [pk_un (by omega), pk_un (by omega)]
  · refine bJ_same (fun o ho => ?_) (vb k hk)
    rw [pk_un (by omega), pk_un (by omega), hf _ (by omega) (by omega)]
  · rw [pk_un (by omega), pk_un (by omega), hf _ (by omega) (by omega)]
    exact vc k hk
  · rw [pk_un (by omega), pk_un (by omega), hf _ (by omega) (by omega)]
    exact v0
  · by_cases z9 : k = m
    · subst z9
      rw [pk_us, hf _ (by omega) (by omega)]
      have q3 := vs k hk1 hk2
      unfold rng at q3 ⊢
      rw [ti_add (by omega) (by omega)]
      omega
    · rw [pk_un (by omega), pk_un (by omega), hf _ (by omega) (by omega)]
      exact vs k hk1 hk2
theorem opBow_In {s : Nat → Int32} (h : CnE s) (hv : InvC s) (x : Int32) : opIn (opBow s x) := by
  unfold opBow
  refine opIn_ite (fun hx => opIn_ite (fun _ => opIn_no (by decide)) (fun h20 _ => ?_)) (fun _ => opIn_no (by decide))
  obtain ⟨nt, nh, nb, nc, tw, hC⟩ := h
  obtain ⟨vt, vh, vb, vc, v0, vs⟩ := hv.at hC
  obtain ⟨h2, hw, h3, ht, h4, hh, h5, hb, h6, hc⟩ := hC
  have hn := cn_ne h5 hb h20
  have e : (s 5).toNatClampNeg = nb := by rw [h5]; exact nI_clamp (by omega)
  show InvC (opBowN s (s 5).toNatClampNeg x)
  rw [e]
  refine .of (nt := nt) (nh := nh) (nb := nb + 1) (nc := nc) ?_ ht ?_ hh ?_ hn ?_ hc (fun k hk => ?_) (fun k hk => ?_) (fun k hk => ?_) (fun k hk => ?_) ?_ (fun k hk1 hk2 => ?_)
  · unfold opBowN
    repeat rw [pk_un (by omega)]
    exact h3
  · unfold opBowN
    repeat rw [pk_un (by omega)]
    exact h4
  · unfold opBowN
    rw [pk_us]
  · unfold opBowN
    repeat rw [pk_un (by omega)]
    exact h6
  · refine tJ_same (fun o ho => ?_) (vt k hk)
    unfold opBowN
    repeat rw [pk_un (by omega)]
  · refine hJ_same (fun o ho => ?_) (vh k hk)
    unfold opBowN
    repeat rw [pk_un (by omega)]
  · by_cases z9 : k = nb
    · subst z9
      unfold bJ
      rw [show opBowN s k x (153 + 7 * k) = x from by unfold opBowN; repeat (first | rw [pk_us] | rw [pk_un (by omega)]),
        show opBowN s k x (153 + 7 * k + 1) = 0 from by unfold opBowN; repeat (first | rw [pk_us] | rw [pk_un (by omega)]),
        show opBowN s k x (153 + 7 * k + 2) = 0 from by unfold opBowN; repeat (first | rw [pk_us] | rw [pk_un (by omega)]),
        show opBowN s k x (153 + 7 * k + 3) = -1 from by unfold opBowN; repeat (first | rw [pk_us] | rw [pk_un (by omega)]),
        show opBowN s k x (153 + 7 * k + 4) = 0 from by unfold opBowN; repeat (first | rw [pk_us] | rw [pk_un (by omega)])]
      have q := ti_inR hx
      exact ⟨q, ⟨by decide, by decide⟩, ⟨by decide, by decide⟩, ⟨by decide, by decide⟩, Or.inl rfl, fun _ => rfl⟩
    · refine bJ_same (fun o ho => ?_) (vb k (by omega))
      unfold opBowN
      repeat rw [pk_un (by omega)]
  · unfold opBowN
    repeat rw [pk_un (by omega)]
    exact vc k hk
  · unfold opBowN
    repeat rw [pk_un (by omega)]
    exact v0
  · unfold opBowN
    repeat rw [pk_un (by omega)]
    exact vs k hk1 hk2
theorem rng_grade (s : Nat → Int32) (i : Nat) : rng (grade s i) (-1) 2 ∧ ¬ grade s i = -1 := by
  unfold grade
  split
  · split
    · exact ⟨⟨by decide, by decide⟩, by decide⟩
    · exact ⟨⟨by decide, by decide⟩, by decide⟩
  · split
    · exact ⟨⟨by decide, by decide⟩, by decide⟩
    · exact ⟨⟨by decide, by decide⟩, by decide⟩
theorem opHair_In {s : Nat → Int32} (h : CnE s) (hv : InvC s) (x y : Int32) : opIn (opHair s x y) := by
  unfold opHair
  refine opIn_ite (fun hx => opIn_ite (fun hy => opIn_ite (fun _ => opIn_no (by decide)) (fun _ => opIn_ite (fun _ => opIn_no (by decide)) (fun hlt _ => ?_))) (fun _ => opIn_no (by decide))) (fun _ => opIn_no (by decide))
  obtain ⟨nt, nh, nb, nc, tw, hC⟩ := h
  obtain ⟨vt, vh, vb, vc, v0, vs⟩ := hv.at hC
  obtain ⟨h2, hw, h3, ht, h4, hh, h5, hb, h6, hc⟩ := hC
  obtain ⟨j, hj, rfl⟩ := inR_ix hx h5 (by omega)
  obtain ⟨i, hi, rfl⟩ := inR_ix hy h4 (by omega)
  have e : (s 4).toNatClampNeg = nh := by rw [h4]; exact nI_clamp (by omega)
  show InvC (opHairN s (nI j).toNatClampNeg (nI i).toNatClampNeg (s 4).toNatClampNeg)
  rw [nI_clamp (n := j) (by omega), nI_clamp (n := i) (by omega)] at hlt ⊢
  rw [e]
  have q1 := ti_nlt hlt
  have kn := ti_needs (s (153 + 7 * j))
  unfold opHairN
  obtain ⟨p, ep⟩ : ∃ p, p = upd (upd (upd (upd (upd s 11 (s 11 + s (153 + 7 * j + 2))) (153 + 7 * j + 2) (needsK (s (153 + 7 * j)))) (153 + 7 * j + 1) 0) (153 + 7 * j + 3) (grade s i)) (153 + 7 * j + 6) (s (73 + 4 * i + 3)) := ⟨_, rfl⟩
  have hp : ∀ x, x ≠ 11 → x < 153 → p x = s x := fun x h1 h2 => by
    rw [ep]
    repeat rw [pk_un (by omega)]
  rw [← ep]
  obtain ⟨n2, hn2, e4, hall⟩ := loseS_h (s := p) (h := needsK (s (153 + 7 * j))) hi (by rw [hp _ (by omega) (by omega)]; exact h4) (fun k hk => hJ_same (fun o ho => hp _ (by omega) (by omega)) (vh k hk)) (by omega) (by rw [hp _ (by omega) (by omega)]; exact q1)
  obtain ⟨w, ew⟩ : ∃ w, w = loseS p i nh (needsK (s (153 + 7 * j))) := ⟨_, rfl⟩
  have hf : ∀ x, x ≠ 4 → (x < 73 ∨ 153 ≤ x) → w x = p x := fun x h1 h2 => by rw [ew]; exact loseS_far hh hi h1 h2
  rw [← ew] at e4 hall ⊢
  refine .of (nt := nt) (nh := n2) (nb := nb) (nc := nc) ?_ ht e4 (by omega) ?_ hb ?_ hc (fun k hk => ?_) hall (fun k hk => ?_) (fun k hk => ?_) ?_ (fun k hk1 hk2 => ?_)
  · rw [hf _ (by omega) (by omega), hp _ (by omega) (by omega)]; exact h3
  · rw [hf _ (by omega) (by omega), hp _ (by omega) (by omega)]; exact h5
  · rw [hf _ (by omega) (by omega), hp _ (by omega) (by omega)]; exact h6
  · refine tJ_same (fun o ho => ?_) (vt k hk)
    rw [hf _ (by omega) (by omega), hp _ (by omega) (by omega)]
  · refine bJ_same (s := p) (fun o ho => hf _ (by omega) (by omega)) ?_
    rw [ep]
    by_cases z9 : k = j
    · subst z9
      obtain ⟨ba, bb, bc, bd, be, bf⟩ := vb k hk
      obtain ⟨g1, g2⟩ := rng_grade s i
      unfold bJ
      rw [pk_un (by omega), pk_un (by omega), pk_un (by omega), pk_un (by omega), pk_un (by omega), pk_un (by omega), pk_un (by omega), pk_us, pk_un (by omega), pk_un (by omega), pk_un (by omega), pk_us, pk_un (by omega), pk_us, pk_un (by omega), pk_un (by omega), pk_un (by omega), pk_un (by omega), pk_un (by omega)]
      exact ⟨ba, ⟨by decide, by decide⟩, ⟨by omega, by omega⟩, g1, be, fun z => absurd z g2⟩
    · refine bJ_same (fun o ho => ?_) (vb k hk)
      repeat rw [pk_un (by omega)]
  · rw [hf _ (by omega) (by omega), hp _ (by omega) (by omega)]
    exact vc k hk
  · rw [hf _ (by omega) (by omega), hp _ (by omega) (by omega)]
    exact v0
  · rw [hf _ (by omega) (by omega), hp _ (by omega) (by omega)]
    exact vs k hk1 hk2
theorem opCake_In {s : Nat → Int32} (h : CnE s) (hv : InvC s) (x : Int32) : opIn (opCake s x) := by
  unfold opCake
  refine opIn_ite (fun hx => opIn_ite (fun _ => opIn_no (by decide)) (fun h20 => opIn_ite (fun _ => opIn_no (by decide)) (fun _ _ => ?_))) (fun _ => opIn_no (by decide))
  obtain ⟨nt, nh, nb, nc, tw, hC⟩ := h
  obtain ⟨vt, vh, vb, vc, v0, vs⟩ := hv.at hC
  obtain ⟨h2, hw, h3, ht, h4, hh, h5, hb, h6, hc⟩ := hC
  have hn := cn_ne h6 hc h20
  have e : (s 6).toNatClampNeg = nc := by rw [h6]; exact nI_clamp (by omega)
  show InvC (opCakeN s (s 6).toNatClampNeg (x / 10 + 1) x)
  rw [e]
  unfold opCakeN
  refine .of (nt := nt) (nh := nh) (nb := nb) (nc := nc + 1) ?_ ht ?_ hh ?_ hb ?_ hn (fun k hk => ?_) (fun k hk => ?_) (fun k hk => ?_) (fun k hk => ?_) ?_ (fun k hk1 hk2 => ?_)
  · repeat rw [pk_un (by omega)]
    exact h3
  · repeat rw [pk_un (by omega)]
    exact h4
  · repeat rw [pk_un (by omega)]
    exact h5
  · rw [pk_us]
  · refine tJ_same (fun o ho => ?_) (vt k hk)
    repeat rw [pk_un (by omega)]
  · refine hJ_same (fun o ho => ?_) (vh k hk)
    repeat rw [pk_un (by omega)]
  · refine bJ_same (fun o ho => ?_) (vb k hk)
    repeat rw [pk_un (by omega)]
  · by_cases z9 : k = nc
    · subst z9
      rw [pk_un (by omega), pk_us]
      have q := ti_inR hx
      have k1 : (1 : Int32).toInt = 1 := rfl
      have k40 : (40 : Int32).toInt = 40 := rfl
      exact ⟨by omega, by omega⟩
    · repeat rw [pk_un (by omega)]
      exact vc k (by omega)
  · repeat rw [pk_un (by omega)]
    exact v0
  · repeat rw [pk_un (by omega)]
    exact vs k hk1 hk2
theorem opRosin_In {s : Nat → Int32} (h : CnE s) (hv : InvC s) (x y : Int32) : opIn (opRosin s x y) := by
  unfold opRosin
  refine opIn_ite (fun hx => opIn_ite (fun hy => opIn_ite (fun _ => opIn_no (by decide)) (fun _ => opIn_ite (fun _ => opIn_no (by decide)) (fun _ => opIn_ite (fun _ => opIn_no (by decide)) (fun _ _ => ?_)))) (fun _ => opIn_no (by decide))) (fun _ => opIn_no (by decide))
  obtain ⟨nt, nh, nb, nc, tw, hC⟩ := h
  obtain ⟨vt, vh, vb, vc, v0, vs⟩ := hv.at hC
  obtain ⟨h2, hw, h3, ht, h4, hh, h5, hb, h6, hc⟩ := hC
  obtain ⟨j, hj, rfl⟩ := inR_ix hx h5 (by omega)
  obtain ⟨i, hi, rfl⟩ := inR_ix hy h6 (by omega)
  show InvC (opRosinN s (nI j).toNatClampNeg (nI i).toNatClampNeg)
  rw [nI_clamp (n := j) (by omega), nI_clamp (n := i) (by omega)]
  obtain ⟨ba, bb, bc, bd, be, bf⟩ := vb j hj
  have ci := vc i hi
  have k9 : (9 : Int32).toInt = 9 := rfl
  unfold rng at bb ci
  have e9 : (9 - s (153 + 7 * j + 1)).toInt = 9 - (s (153 + 7 * j + 1)).toInt := by rw [ti_sub (by omega) (by omega), k9]
  have em := ti_minI (9 - s (153 + 7 * j + 1)) (s (28 + i))
  rw [e9] at em
  unfold opRosinN
  refine .of (nt := nt) (nh := nh) (nb := nb) (nc := nc) ?_ ht ?_ hh ?_ hb ?_ hc (fun k hk => ?_) (fun k hk => ?_) (fun k hk => ?_) (fun k hk => ?_) ?_ (fun k hk1 hk2 => ?_)
  · repeat rw [pk_un (by omega)]
    exact h3
  · repeat rw [pk_un (by omega)]
    exact h4
  · repeat rw [pk_un (by omega)]
    exact h5
  · repeat rw [pk_un (by omega)]
    exact h6
  · refine tJ_same (fun o ho => ?_) (vt k hk)
    repeat rw [pk_un (by omega)]
  · refine hJ_same (fun o ho => ?_) (vh k hk)
    repeat rw [pk_un (by omega)]
  · by_cases z9 : k = j
    · subst z9
      unfold bJ
      rw [pk_un (by omega), pk_un (by omega), pk_us, pk_un (by omega), pk_un (by omega), pk_un (by omega), pk_un (by omega), pk_un (by omega), pk_un (by omega)]
      refine ⟨ba, ?_, bc, bd, be, bf⟩
      unfold rng
      rw [ti_add (by omega) (by omega)]
      omega
    · refine bJ_same (fun o ho => ?_) (vb k hk)
      repeat rw [pk_un (by omega)]
  · by_cases z9 : k = i
    · subst z9
      rw [pk_un (by omega), pk_us]
      unfold rng
      rw [ti_sub (by omega) (by omega)]
      omega
    · repeat rw [pk_un (by omega)]
      exact vc k hk
  · repeat rw [pk_un (by omega)]
    exact v0
  · repeat rw [pk_un (by omega)]
    exact vs k hk1 hk2
/-- a row whose things stay, but for one bow -/
theorem InvC.bow {s s' : Nat → Int32} (h : CnE s) (hv : InvC s) (j : Nat) (hf : ∀ x, 3 ≤ x → x < 195 → (x < 7 ∨ 18 ≤ x) → (x < 153 + 7 * j ∨ 153 + 7 * j + 7 ≤ x) → s' x = s x) (hB : bJ s j → bJ s' j) : InvC s' := by
  obtain ⟨nt, nh, nb, nc, tw, hC⟩ := h
  obtain ⟨vt, vh, vb, vc, v0, vs⟩ := hv.at hC
  obtain ⟨h2, hw, h3, ht, h4, hh, h5, hb, h6, hc⟩ := hC
  refine .of (nt := nt) (nh := nh) (nb := nb) (nc := nc) ?_ ht ?_ hh ?_ hb ?_ hc (fun k hk => ?_) (fun k hk => ?_) (fun k hk => ?_) (fun k hk => ?_) ?_ (fun k hk1 hk2 => ?_)
  · rw [hf _ (by omega) (by omega) (by omega) (by omega)]; exact h3
  · rw [hf _ (by omega) (by omega) (by omega) (by omega)]; exact h4
  · rw [hf _ (by omega) (by omega) (by omega) (by omega)]; exact h5
  · rw [hf _ (by omega) (by omega) (by omega) (by omega)]; exact h6
  · exact tJ_same (fun o ho => hf _ (by omega) (by omega) (by omega) (by omega)) (vt k hk)
  · exact hJ_same (fun o ho => hf _ (by omega) (by omega) (by omega) (by omega)) (vh k hk)
  · by_cases z : k = j
    · subst z
      exact hB (vb k hk)
    · exact bJ_same (fun o ho => hf _ (by omega) (by omega) (by omega) (by omega)) (vb k hk)
  · rw [hf _ (by omega) (by omega) (by omega) (by omega)]
    exact vc k hk
  · rw [hf _ (by omega) (by omega) (by omega) (by omega)]
    exact v0
  · rw [hf _ (by omega) (by omega) (by omega) (by omega)]
    exact vs k hk1 hk2
theorem hourS_bJ {s : Nat → Int32} {j : Nat} (h : bJ s j) : bJ (hourS s (153 + 7 * j)) j := by
  obtain ⟨ba, bb, bc, bd, be, bf⟩ := h
  have k0 : (0 : Int32).toInt = 0 := rfl
  have k1 : (1 : Int32).toInt = 1 := rfl
  have k2 : (2 : Int32).toInt = 2 := rfl
  have k7 : (7 : Int32).toInt = 7 := rfl
  unfold rng at bb bc
  have eq : 0 ≤ ((if s (153 + 7 * j + 1) ≤ 0 then 7 else 2 : Int32)).toInt := by
    split
    · decide
    · decide
  have em : (lostH s (153 + 7 * j)).toInt = min (s (153 + 7 * j + 2)).toInt (if s (153 + 7 * j + 1) ≤ 0 then 7 else 2 : Int32).toInt := ti_minI _ _
  have es : (s (153 + 7 * j + 2) - lostH s (153 + 7 * j)).toInt = (s (153 + 7 * j + 2)).toInt - (lostH s (153 + 7 * j)).toInt := ti_sub (by omega) (by omega)
  have er : (s (153 + 7 * j + 1) - 1).toInt = (s (153 + 7 * j + 1)).toInt - 1 := by rw [ti_sub (by omega) (by omega), k1]
  have ex := ti_maxI 0 (s (153 + 7 * j + 1) - 1)
  unfold bJ
  rw [show hourS s (153 + 7 * j) (153 + 7 * j) = s (153 + 7 * j) from by unfold hourS; repeat (first | rw [pk_us] | rw [pk_un (by omega)]),
    show hourS s (153 + 7 * j) (153 + 7 * j + 1) = maxI 0 (s (153 + 7 * j + 1) - 1) from by unfold hourS; repeat (first | rw [pk_us] | rw [pk_un (by omega)]),
    show hourS s (153 + 7 * j) (153 + 7 * j + 2) = s (153 + 7 * j + 2) - lostH s (153 + 7 * j) from by unfold hourS; repeat (first | rw [pk_us] | rw [pk_un (by omega)]),
    show hourS s (153 + 7 * j) (153 + 7 * j + 3) = s (153 + 7 * j + 3) from by unfold hourS; repeat (first | rw [pk_us] | rw [pk_un (by omega)]),
    show hourS s (153 + 7 * j) (153 + 7 * j + 4) = s (153 + 7 * j + 4) from by unfold hourS; repeat (first | rw [pk_us] | rw [pk_un (by omega)])]
  refine ⟨ba, ?_, ?_, bd, be, fun z => ?_⟩
  · unfold rng
    omega
  · unfold rng
    omega
  · have q := bf z
    apply Int32.toInt_inj.mp
    rw [q] at em es
    rw [q, k0]
    omega
theorem hourS_bf {s : Nat → Int32} {b x : Nat} (h : x ≠ 10) (h2 : x < b ∨ b + 7 ≤ x) : hourS s b x = s x := by
  unfold hourS
  repeat rw [pk_un (by omega)]
theorem playE_all {j : Nat} : ∀ (k : Nat) (s : Nat → Int32), (bJ s j → bJ (playE (153 + 7 * j) k s) j) ∧ ∀ x, x ≠ 10 → (x < 153 + 7 * j ∨ 153 + 7 * j + 7 ≤ x) → playE (153 + 7 * j) k s x = s x
  | 0, s => ⟨fun h => h, fun _ _ _ => rfl⟩
  | k + 1, s => by
    obtain ⟨h1, h2⟩ := playE_all (j := j) k (hourS s (153 + 7 * j))
    unfold playE
    split
    · exact ⟨fun h => h1 (hourS_bJ h), fun x a b => (h2 x a b).trans (hourS_bf a b)⟩
    · exact ⟨fun h => h, fun _ _ _ => rfl⟩
theorem opPlay_In {s : Nat → Int32} (h : CnE s) (hv : InvC s) (x y : Int32) : opIn (opPlay s x y) := by
  unfold opPlay
  refine opIn_ite (fun hx => opIn_ite (fun hy => opIn_ite (fun _ _ => ?_) (fun _ => opIn_no (by decide))) (fun _ => opIn_no (by decide))) (fun _ => opIn_no (by decide))
  have h5 := h
  obtain ⟨nt, nh, nb, nc, tw, -, -, -, -, -, -, h5, hb, -, -⟩ := h5
  obtain ⟨j, hj, rfl⟩ := inR_ix hx h5 (by omega)
  rw [nI_clamp (n := j) (by omega)]
  obtain ⟨a1, a2⟩ := playE_all (j := j) y.toNatClampNeg s
  refine InvC.bow h hv j (fun q c1 c2 c3 c4 => ?_) (fun hJ0 => bJ_same (fun o ho => pk_un (by omega)) (a1 hJ0))
  show upd _ _ _ q = s q
  rw [pk_un (by omega)]
  exact a2 q (by omega) c4
theorem opRoad_In {s : Nat → Int32} (h : CnE s) (hv : InvC s) (x y : Int32) : opIn (opRoad s x y) := by
  unfold opRoad
  refine opIn_ite (fun hx => opIn_ite (fun _ _ => ?_) (fun _ => opIn_no (by decide))) (fun _ => opIn_no (by decide))
  obtain ⟨k, -, hk, rfl⟩ := inR_lit (a := 0) (b := 5) hx rfl rfl (by decide) (by decide)
  rw [nI_clamp (n := k) (by omega)]
  exact InvC.bow h hv 6 (fun q c1 c2 c3 c4 => pk_un (by omega)) (bJ_same (fun o ho => pk_un (by omega)))
theorem opWalk_In {s : Nat → Int32} (h : CnE s) (hv : InvC s) (x : Int32) : opIn (opWalk s x) := by
  unfold opWalk
  refine opIn_ite (fun _ _ => ?_) (fun _ => opIn_no (by decide))
  exact InvC.bow h hv 6 (fun q c1 c2 c3 c4 => walkE_far (by omega) (by omega) _) (bJ_same (fun o ho => walkE_far (by omega) (by omega) _))
theorem opPaid_In {s : Nat → Int32} (h : CnE s) (hv : InvC s) (x : Int32) : opIn (opPaid s x) := by
  unfold opPaid
  refine opIn_ite (fun hx => opIn_ite (fun _ => opIn_no (by decide)) (fun _ => opIn_ite (fun _ => opIn_no (by decide)) (fun _ _ => ?_))) (fun _ => opIn_no (by decide))
  have h5 := h
  obtain ⟨nt, nh, nb, nc, tw, -, -, -, -, -, -, h5, hb, -, -⟩ := h5
  obtain ⟨j, hj, rfl⟩ := inR_ix hx h5 (by omega)
  rw [nI_clamp (n := j) (by omega)]
  refine InvC.bow h hv j (fun q c1 c2 c3 c4 => ?_) (fun hJ0 => ?_)
  · show upd _ _ _ q = s q
    rw [pk_un (by omega), pk_un (by omega)]
  · obtain ⟨ba, bb, bc, bd, be, bf⟩ := hJ0
    show bJ (upd (upd s (153 + 7 * j + 4) 1) 0 _) j
    unfold bJ
    rw [pk_un (by omega), pk_un (by omega), pk_un (by omega), pk_un (by omega), pk_un (by omega), pk_un (by omega), pk_un (by omega), pk_un (by omega), pk_un (by omega), pk_us]
    exact ⟨ba, bb, bc, bd, Or.inr rfl, bf⟩
theorem opSell_In {s : Nat → Int32} (h : CnE s) (hv : InvC s) (x : Int32) : opIn (opSell s x) := by
  unfold opSell
  refine opIn_ite (fun hx => opIn_ite (fun _ => opIn_no (by decide)) (fun hne _ => ?_)) (fun _ => opIn_no (by decide))
  obtain ⟨m, hm1, hm2, rfl⟩ := inR_lit (a := 1) (b := 9) hx rfl rfl (by decide) (by decide)
  show InvC (opSellN s (nI m).toNatClampNeg)
  rw [nI_clamp (n := m) (by omega)] at hne ⊢
  obtain ⟨nt, nh, nb, nc, tw, hC⟩ := h
  obtain ⟨vt, vh, vb, vc, v0, vs⟩ := hv.at hC
  obtain ⟨h2, hw, h3, ht, h4, hh, h5, hb, h6, hc⟩ := hC
  unfold opSellN
  refine .of (nt := nt) (nh := nh) (nb := nb) (nc := nc) ?_ ht ?_ hh ?_ hb ?_ hc (fun k hk => ?_) (fun k hk => ?_) (fun k hk => ?_) (fun k hk => ?_) ?_ (fun k hk1 hk2 => ?_)
  · repeat rw [pk_un (by omega)]
    exact h3
  · repeat rw [pk_un (by omega)]
    exact h4
  · repeat rw [pk_un (by omega)]
    exact h5
  · repeat rw [pk_un (by omega)]
    exact h6
  · refine tJ_same (fun o ho => ?_) (vt k hk)
    repeat rw [pk_un (by omega)]
  · refine hJ_same (fun o ho => ?_) (vh k hk)
    repeat rw [pk_un (by omega)]
  · refine bJ_same (fun o ho => ?_) (vb k hk)
    repeat rw [pk_un (by omega)]
  · repeat rw [pk_un (by omega)]
    exact vc k hk
  · repeat rw [pk_un (by omega)]
    exact v0
  · by_cases z9 : k = m
    · subst z9
      rw [pk_un (by omega), pk_un (by omega), pk_us]
      have q := vs k hk1 hk2
      have q2 := ti_ne hne
      have k0 : (0 : Int32).toInt = 0 := rfl
      have k1 : (1 : Int32).toInt = 1 := rfl
      unfold rng at q ⊢
      rw [ti_sub (by omega) (by omega)]
      omega
    · repeat rw [pk_un (by omega)]
      exact vs k hk1 hk2
