/-! THE COUNTS stay within their bounds, order by order -/
set_option maxRecDepth 100000
def CnE (s : Nat → Int32) : Prop := ∃ nt nh nb nc tw : Nat, Cn s nt nh nb nc tw
theorem CnE.of {s' : Nat → Int32} {nt nh nb nc tw : Nat} (h2 : s' 2 = nI tw) (hw : tw < 6) (h3 : s' 3 = nI nt) (ht : nt ≤ 10) (h4 : s' 4 = nI nh) (hh : nh ≤ 20) (h5 : s' 5 = nI nb) (hb : nb ≤ 6) (h6 : s' 6 = nI nc) (hc : nc ≤ 5) : CnE s' := ⟨nt, nh, nb, nc, tw, h2, hw, h3, ht, h4, hh, h5, hb, h6, hc⟩
theorem CnE.same {s s' : Nat → Int32} (h : CnE s) (he : ∀ x, 2 ≤ x → x ≤ 6 → s' x = s x) : CnE s' := by
  obtain ⟨nt, nh, nb, nc, tw, h2, hw, h3, ht, h4, hh, h5, hb, h6, hc⟩ := h
  exact .of ((he 2 (by decide) (by decide)).trans h2) hw ((he 3 (by decide) (by decide)).trans h3) ht ((he 4 (by decide) (by decide)).trans h4) hh ((he 5 (by decide) (by decide)).trans h5) hb ((he 6 (by decide) (by decide)).trans h6) hc
/-- a count that is not the greatest yet can grow -/
theorem cn_ne {x : Int32} {n m : Nat} (hx : x = nI n) (hn : n ≤ m) (hne : ¬ x = nI m) : n + 1 ≤ m := by
  rcases Nat.lt_or_ge n m with z | z
  · exact z
  · exact absurd (by rw [hx, Nat.le_antisymm hn z]) hne
def opCn (r : opR) : Prop := r.1 = 0 → CnE r.2.2.2
theorem opCn_ite {P : Prop} [Decidable P] {a b : opR} (ha : P → opCn a) (hb : ¬ P → opCn b) : opCn (if P then a else b) := by
  by_cases h : P
  · rw [if_pos h]; exact ha h
  · rw [if_neg h]; exact hb h
theorem opCn_no {r d v : Int32} {s : Nat → Int32} (h : ¬ r = 0) : opCn (r, d, v, s) := fun z => absurd z h
theorem upd_far {f : Nat → Int32} {k x : Nat} {v : Int32} (h : ¬ x = k) : upd f k v x = f x := pk_un h
theorem goS_4 {s : Nat → Int32} {j n : Nat} : goS s j n 4 = nI (n - 1) := pk_us
theorem loseS_4 {s : Nat → Int32} {j n : Nat} {h : Int32} (hs : s 4 = nI n) : ∃ n2 : Nat, n2 ≤ n ∧ loseS s j n h 4 = nI n2 := by
  unfold loseS
  split
  · exact ⟨n - 1, by omega, goS_4⟩
  · exact ⟨n, by omega, by rw [pk_un (by omega)]; exact hs⟩
theorem opTail_Cn {s : Nat → Int32} (h : CnE s) (x y z : Int32) : opCn (opTail s x y z) := by
  unfold opTail
  refine opCn_ite (fun _ => opCn_ite (fun _ => opCn_ite (fun _ => opCn_ite (fun _ => opCn_no (by decide)) (fun h10 => opCn_ite (fun _ => opCn_no (by decide)) (fun _ _ => ?_))) (fun _ => opCn_no (by decide))) (fun _ => opCn_no (by decide))) (fun _ => opCn_no (by decide))
  obtain ⟨nt, nh, nb, nc, tw, h2, hw, h3, ht, h4, hh, h5, hb, h6, hc⟩ := h
  have hn := cn_ne h3 ht h10
  have e : (s 3).toNatClampNeg = nt := by rw [h3]; exact nI_clamp (by omega)
  show CnE (opTailN s (s 3).toNatClampNeg (priceT x z) x y z)
  rw [e]
  refine .of (nt := nt + 1) (nh := nh) (nb := nb) (nc := nc) (tw := tw) ?_ hw ?_ hn ?_ hh ?_ hb ?_ hc <;> unfold opTailN
  · repeat rw [pk_un (by omega)]
    exact h2
  · rw [pk_un (by omega), pk_us]
  · repeat rw [pk_un (by omega)]
    exact h4
  · repeat rw [pk_un (by omega)]
    exact h5
  · repeat rw [pk_un (by omega)]
    exact h6
theorem opComb_Cn {s : Nat → Int32} (h : CnE s) (x y : Int32) : opCn (opComb s x y) := by
  unfold opComb
  refine opCn_ite (fun _ => opCn_ite (fun _ => opCn_ite (fun _ => opCn_no (by decide)) (fun _ => opCn_ite (fun _ => opCn_no (by decide)) (fun h20 _ => ?_))) (fun _ => opCn_no (by decide))) (fun _ => opCn_no (by decide))
  obtain ⟨nt, nh, nb, nc, tw, h2, hw, h3, ht, h4, hh, h5, hb, h6, hc⟩ := h
  have hn := cn_ne h4 hh h20
  have e : (s 4).toNatClampNeg = nh := by rw [h4]; exact nI_clamp (by omega)
  show CnE (opCombN s (s 4).toNatClampNeg x.toNatClampNeg y)
  rw [e]
  refine .of (nt := nt) (nh := nh + 1) (nb := nb) (nc := nc) (tw := tw) ?_ hw ?_ ht ?_ hn ?_ hb ?_ hc <;> unfold opCombN
  · repeat rw [pk_un (by omega)]
    exact h2
  · repeat rw [pk_un (by omega)]
    exact h3
  · rw [pk_un (by omega), pk_un (by omega), pk_us]
  · repeat rw [pk_un (by omega)]
    exact h5
  · repeat rw [pk_un (by omega)]
    exact h6
theorem opTie_Cn {s : Nat → Int32} (h : CnE s) (x y : Int32) : opCn (opTie s x y) := by
  unfold opTie
  refine opCn_ite (fun hx => opCn_ite (fun hy => opCn_ite (fun _ => opCn_no (by decide)) (fun hne => opCn_ite (fun _ => opCn_no (by decide)) (fun _ _ => ?_))) (fun _ => opCn_no (by decide))) (fun _ => opCn_no (by decide))
  obtain ⟨nt, nh, nb, nc, tw, h2, hw, h3, ht, h4, hh, h5, hb, h6, hc⟩ := h
  obtain ⟨i, hi, rfl⟩ := inR_ix hx h4 (by omega)
  obtain ⟨j, hj, rfl⟩ := inR_ix hy h4 (by omega)
  have e : (s 4).toNatClampNeg = nh := by rw [h4]; exact nI_clamp (by omega)
  show CnE (opTieN s (nI i).toNatClampNeg (nI j).toNatClampNeg (min (nI i).toNatClampNeg (nI j).toNatClampNeg) (max (nI i).toNatClampNeg (nI j).toNatClampNeg) (s 4).toNatClampNeg)
  rw [e, nI_clamp (by omega), nI_clamp (by omega)]
  have hm : max i j < nh := by omega
  refine .of (nt := nt) (nh := nh - 1) (nb := nb) (nc := nc) (tw := tw) ?_ hw ?_ ht goS_4 (by omega) ?_ hb ?_ hc <;> unfold opTieN <;> rw [goS_far hh hm (by omega) (by omega)]
  · repeat rw [pk_un (by omega)]
    exact h2
  · repeat rw [pk_un (by omega)]
    exact h3
  · repeat rw [pk_un (by omega)]
    exact h5
  · repeat rw [pk_un (by omega)]
    exact h6
theorem opWeave_Cn {s : Nat → Int32} (h : CnE s) (x y : Int32) : opCn (opWeave s x y) := by
  unfold opWeave
  refine opCn_ite (fun hx => opCn_ite (fun hy => opCn_ite (fun _ => opCn_no (by decide)) (fun _ => opCn_ite (fun _ => opCn_no (by decide)) (fun _ => opCn_ite (fun _ => opCn_no (by decide)) (fun _ _ => ?_)))) (fun _ => opCn_no (by decide))) (fun _ => opCn_no (by decide))
  obtain ⟨nt, nh, nb, nc, tw, h2, hw, h3, ht, h4, hh, h5, hb, h6, hc⟩ := h
  obtain ⟨i, hi, rfl⟩ := inR_ix hx h4 (by omega)
  obtain ⟨m, hm1, hm2, rfl⟩ := inR_lit (a := 1) (b := 9) hy rfl rfl (by decide) (by decide)
  have e : (s 4).toNatClampNeg = nh := by rw [h4]; exact nI_clamp (by omega)
  show CnE (opWeaveN (loseS s (nI i).toNatClampNeg (s 4).toNatClampNeg (nI (40 * (nI m).toNatClampNeg))) (nI m).toNatClampNeg)
  rw [e, nI_clamp (n := i) (by omega), nI_clamp (n := m) (by omega)]
  obtain ⟨n2, hn2, e2⟩ := loseS_4 (j := i) (h := nI (40 * m)) h4
  refine .of (nt := nt) (nh := n2) (nb := nb) (nc := nc) (tw := tw) ?_ hw ?_ ht ?_ (by omega) ?_ hb ?_ hc <;> unfold opWeaveN <;> rw [pk_un (by omega), pk_un (by omega)]
  · rw [loseS_far hh hi (by omega) (by omega)]; exact h2
  · rw [loseS_far hh hi (by omega) (by omega)]; exact h3
  · exact e2
  · rw [loseS_far hh hi (by omega) (by omega)]; exact h5
  · rw [loseS_far hh hi (by omega) (by omega)]; exact h6
theorem opBow_Cn {s : Nat → Int32} (h : CnE s) (x : Int32) : opCn (opBow s x) := by
  unfold opBow
  refine opCn_ite (fun _ => opCn_ite (fun _ => opCn_no (by decide)) (fun h20 _ => ?_)) (fun _ => opCn_no (by decide))
  obtain ⟨nt, nh, nb, nc, tw, h2, hw, h3, ht, h4, hh, h5, hb, h6, hc⟩ := h
  have hn := cn_ne h5 hb h20
  have e : (s 5).toNatClampNeg = nb := by rw [h5]; exact nI_clamp (by omega)
  show CnE (opBowN s (s 5).toNatClampNeg x)
  rw [e]
  refine .of (nt := nt) (nh := nh) (nb := nb + 1) (nc := nc) (tw := tw) ?_ hw ?_ ht ?_ hh ?_ hn ?_ hc <;> unfold opBowN
  · repeat rw [pk_un (by omega)]
    exact h2
  · repeat rw [pk_un (by omega)]
    exact h3
  · repeat rw [pk_un (by omega)]
    exact h4
  · rw [pk_us]
  · repeat rw [pk_un (by omega)]
    exact h6
theorem opHair_Cn {s : Nat → Int32} (h : CnE s) (x y : Int32) : opCn (opHair s x y) := by
  unfold opHair
  refine opCn_ite (fun hx => opCn_ite (fun hy => opCn_ite (fun _ => opCn_no (by decide)) (fun _ => opCn_ite (fun _ => opCn_no (by decide)) (fun _ _ => ?_))) (fun _ => opCn_no (by decide))) (fun _ => opCn_no (by decide))
  obtain ⟨nt, nh, nb, nc, tw, h2, hw, h3, ht, h4, hh, h5, hb, h6, hc⟩ := h
  obtain ⟨j, hj, rfl⟩ := inR_ix hx h5 (by omega)
  obtain ⟨i, hi, rfl⟩ := inR_ix hy h4 (by omega)
  have e : (s 4).toNatClampNeg = nh := by rw [h4]; exact nI_clamp (by omega)
  show CnE (opHairN s (nI j).toNatClampNeg (nI i).toNatClampNeg (s 4).toNatClampNeg)
  rw [e, nI_clamp (n := j) (by omega), nI_clamp (n := i) (by omega)]
  have e4 : ∀ x, x < 10 → (upd (upd (upd (upd (upd s 11 (s 11 + s (153 + 7 * j + 2))) (153 + 7 * j + 2) (needsK (s (153 + 7 * j)))) (153 + 7 * j + 1) 0) (153 + 7 * j + 3) (grade s i)) (153 + 7 * j + 6) (s (73 + 4 * i + 3))) x = s x := fun x hx => by
    repeat rw [pk_un (by omega)]
  obtain ⟨n2, hn2, e2⟩ := loseS_4 (j := i) (h := needsK (s (153 + 7 * j))) ((e4 4 (by decide)).trans h4)
  refine .of (nt := nt) (nh := n2) (nb := nb) (nc := nc) (tw := tw) ?_ hw ?_ ht e2 (by omega) ?_ hb ?_ hc <;> unfold opHairN <;> rw [loseS_far hh hi (by omega) (by omega), e4 _ (by decide)]
  · exact h2
  · exact h3
  · exact h5
  · exact h6
theorem opCake_Cn {s : Nat → Int32} (h : CnE s) (x : Int32) : opCn (opCake s x) := by
  unfold opCake
  refine opCn_ite (fun _ => opCn_ite (fun _ => opCn_no (by decide)) (fun h20 => opCn_ite (fun _ => opCn_no (by decide)) (fun _ _ => ?_))) (fun _ => opCn_no (by decide))
  obtain ⟨nt, nh, nb, nc, tw, h2, hw, h3, ht, h4, hh, h5, hb, h6, hc⟩ := h
  have hn := cn_ne h6 hc h20
  have e : (s 6).toNatClampNeg = nc := by rw [h6]; exact nI_clamp (by omega)
  show CnE (opCakeN s (s 6).toNatClampNeg (x / 10 + 1) x)
  rw [e]
  refine .of (nt := nt) (nh := nh) (nb := nb) (nc := nc + 1) (tw := tw) ?_ hw ?_ ht ?_ hh ?_ hb ?_ hn <;> unfold opCakeN
  · repeat rw [pk_un (by omega)]
    exact h2
  · repeat rw [pk_un (by omega)]
    exact h3
  · repeat rw [pk_un (by omega)]
    exact h4
  · repeat rw [pk_un (by omega)]
    exact h5
  · rw [pk_us]
theorem opRosin_Cn {s : Nat → Int32} (h : CnE s) (x y : Int32) : opCn (opRosin s x y) := by
  unfold opRosin
  refine opCn_ite (fun _ => opCn_ite (fun _ => opCn_ite (fun _ => opCn_no (by decide)) (fun _ => opCn_ite (fun _ => opCn_no (by decide)) (fun _ => opCn_ite (fun _ => opCn_no (by decide)) (fun _ _ => ?_)))) (fun _ => opCn_no (by decide))) (fun _ => opCn_no (by decide))
  refine h.same (fun q hq1 hq2 => ?_)
  show opRosinN s x.toNatClampNeg y.toNatClampNeg q = s q
  unfold opRosinN
  rw [pk_un (by omega), pk_un (by omega)]
theorem playE_far (b : Nat) (hb : 12 ≤ b) : ∀ (k : Nat) (s : Nat → Int32) (x : Nat), x < 10 → playE b k s x = s x
  | 0, s, x, _ => rfl
  | k + 1, s, x, hx => by
    unfold playE
    split
    · rw [playE_far b hb k (hourS s b) x hx]
      unfold hourS
      rw [pk_un (by omega), pk_un (by omega), pk_un (by omega)]
    · rfl
theorem opPlay_Cn {s : Nat → Int32} (h : CnE s) (x y : Int32) : opCn (opPlay s x y) := by
  unfold opPlay
  refine opCn_ite (fun _ => opCn_ite (fun _ => opCn_ite (fun _ _ => ?_) (fun _ => opCn_no (by decide))) (fun _ => opCn_no (by decide))) (fun _ => opCn_no (by decide))
  refine h.same (fun q hq1 hq2 => ?_)
  show upd _ _ _ q = s q
  rw [pk_un (by omega), playE_far _ (by omega) _ _ _ (by omega)]
theorem opRoad_Cn {s : Nat → Int32} (h : CnE s) (x y : Int32) : opCn (opRoad s x y) := by
  unfold opRoad
  refine opCn_ite (fun _ => opCn_ite (fun _ _ => ?_) (fun _ => opCn_no (by decide))) (fun _ => opCn_no (by decide))
  refine h.same (fun q hq1 hq2 => ?_)
  show upd _ _ _ q = s q
  rw [pk_un (by omega)]
theorem walkE_far {s : Nat → Int32} {tw x : Nat} (h1 : x ≠ 1) (h2 : x ≠ 2) : ∀ k, walkE s tw k x = s x
  | 0 => rfl
  | k + 1 => by
    unfold walkE
    rw [pk_un h2, pk_un h1, walkE_far h1 h2 k]
theorem opWalk_Cn {s : Nat → Int32} (h : CnE s) (x : Int32) : opCn (opWalk s x) := by
  unfold opWalk
  refine opCn_ite (fun _ _ => ?_) (fun _ => opCn_no (by decide))
  obtain ⟨nt, nh, nb, nc, tw, h2, hw, h3, ht, h4, hh, h5, hb, h6, hc⟩ := h
  have e : (s 2).toNatClampNeg = tw := by rw [h2]; exact nI_clamp (by omega)
  show CnE (walkE s (s 2).toNatClampNeg x.toNatClampNeg)
  rw [e]
  exact .of (walkE_tw h2 hw _) (Nat.mod_lt _ (by decide)) ((walkE_far (by decide) (by decide) _).trans h3) ht ((walkE_far (by decide) (by decide) _).trans h4) hh ((walkE_far (by decide) (by decide) _).trans h5) hb ((walkE_far (by decide) (by decide) _).trans h6) hc
theorem opSell_Cn {s : Nat → Int32} (h : CnE s) (x : Int32) : opCn (opSell s x) := by
  unfold opSell
  refine opCn_ite (fun _ => opCn_ite (fun _ => opCn_no (by decide)) (fun _ _ => ?_)) (fun _ => opCn_no (by decide))
  refine h.same (fun q hq1 hq2 => ?_)
  show opSellN s x.toNatClampNeg q = s q
  unfold opSellN
  rw [pk_un (by omega), pk_un (by omega), pk_un (by omega)]
theorem opPaid_Cn {s : Nat → Int32} (h : CnE s) (x : Int32) : opCn (opPaid s x) := by
  unfold opPaid
  refine opCn_ite (fun _ => opCn_ite (fun _ => opCn_no (by decide)) (fun _ => opCn_ite (fun _ => opCn_no (by decide)) (fun _ _ => ?_))) (fun _ => opCn_no (by decide))
  refine h.same (fun q hq1 hq2 => ?_)
  show upd _ _ _ q = s q
  rw [pk_un (by omega), pk_un (by omega)]
theorem opDoes_Cn {s : Nat → Int32} (h : CnE s) (w x y : Int32) : opCn (opDoes s w x y) := by
  unfold opDoes
  exact opCn_ite (fun _ => opComb_Cn h x y) fun _ => opCn_ite (fun _ => opTie_Cn h x y) fun _ => opCn_ite (fun _ => opWeave_Cn h x y) fun _ => opCn_ite (fun _ => opHair_Cn h x y) fun _ => opCn_ite (fun _ => opRosin_Cn h x y) fun _ => opCn_ite (fun _ => opPlay_Cn h x y) fun _ => opCn_ite (fun _ => opWalk_Cn h x) fun _ => opSell_Cn h x
