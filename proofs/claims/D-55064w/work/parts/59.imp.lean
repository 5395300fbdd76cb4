/-! CONTRACTS: weaker ones out of stronger, larger rooms -/
set_option maxRecDepth 100000
theorem im_room {s : State} {pl : Platform} {r r' : Room} (hf : r.frames ≤ r'.frames) (hl : r.locals ≤ r'.locals) (hc : r.cells ≤ r'.cells) (hs : r.slots ≤ r'.slots) (h : s.hasRoom pl r' = true) : s.hasRoom pl r = true := by
  simp only [State.hasRoom, Bool.and_eq_true, decide_eq_true_eq] at h ⊢
  obtain ⟨⟨⟨⟨y, a, b, c, d, e⟩, f⟩, g⟩, i⟩ := h
  exact ⟨⟨⟨⟨by omega, by omega, by omega, by omega, by omega, e⟩, by omega⟩, by omega⟩, i⟩
theorem im_A {ws ws' : va_W} (hsub : ∀ q ∈ ws, ∃ q' ∈ ws', q'.1 = q.1) (sz : Nat) : ∀ q, va_A ws sz q → va_A ws' sz q := by
  intro q h
  rcases h with ⟨k, e, h⟩ | h
  · obtain ⟨q', h1, h2⟩ := hsub _ (List.mem_of_getElem? h)
    obtain ⟨j, hj⟩ := List.getElem?_of_mem h1
    refine Or.inl ⟨j, q'.2, ?_⟩
    rw [hj]
    have h2' : q'.1 = q := h2
    rw [← h2']
  · exact Or.inr h
theorem im_F {A B : Nat → Prop} {st t : State} (h : ∀ q, A q → B q) (hF : va_F A st t) : va_F B st t := ⟨hF.1, fun q h1 h2 => hF.2 q h1 (fun z => h2 (h q z))⟩
theorem MM.imp {l : Launch} {y : MethodName} {cc : ByteArray} {L : Nat} {ret : Option FieldType} {fr lo mc ms fr' lo' mc' ms' : Nat} {av : List Value} {g : hG} {E : hEnv} {ws ws' : va_W} {S S' : Type} {vf : S → Option Value} {post : S → Prop} {W1 : S → va_W} {vf' : S' → Option Value} {post' : S' → Prop} {W1' : S' → va_W}
    (hg : hGo E) (hM : MM l y cc L ret fr lo mc ms av g E ws vf post W1) (h1 : fr ≤ fr') (h2 : lo ≤ lo') (h3 : mc ≤ mc') (h4 : ms ≤ ms') (hP : ∀ H, va_P (gD g) Cl ws' H → va_P (gD g) Cl ws H) (hD : ∀ A, va_D A ws' → va_D A ws) (hsub : ∀ q ∈ ws, ∃ q' ∈ ws', q'.1 = q.1)
    (hi : ∀ u, post u → ∃ u', vf' u' = vf u ∧ post' u' ∧ (∀ H, va_P (gD g) Cl (W1 u) H → va_P (gD g) Cl (W1' u') H) ∧ ∀ A, va_D A (W1 u) → va_D A (W1' u')) : MM l y cc L ret fr' lo' mc' ms' av g E ws' vf' post' W1' := by
  intro sz p e ha hc hk s m args below hfr happ hPp _
  obtain ⟨q0, q1, q2, q3, q4⟩ := hPp
  obtain ⟨a1, a2, a3, a4, a5, a6, a7, a8⟩ := (Spec.appliesLoose_iff hfr).mp happ
  obtain ⟨n, o, b1, b2, b3, ⟨⟨u, c1, c2, c3, c4⟩, c5⟩, Ls, c6, c7⟩ := hM sz p e ha hc hk s m args below hfr ((Spec.appliesLoose_iff hfr).mpr ⟨a1, a2, a3, a4, a5, a6, im_room (r' := ({ frames := fr', cells := mc', slots := ms', locals := lo' } : Room)) h1 h2 h3 h4 a7, a8⟩) ⟨q0, q1, hP _ q2, hD _ q3, hg.2 (va_A ws' sz) (va_A ws sz) s s s.heap s.heap (State.WarmedH.refl s) (fun _ _ _ => rfl) (im_A hsub sz) q4⟩ trivial
  obtain ⟨u', d1, d2, d3, d4⟩ := hi u c2
  exact ⟨n, o, b1, b2, b3, ⟨⟨u', by rw [c1, d1], d2, d3 _ c3, (d4 _ c4).weaken (fun _ q _ h => im_A hsub sz _ h)⟩, im_F (im_A hsub sz) c5⟩, Ls, ⟨c6.1, c6.2.1, c6.2.2.mono h3 h4⟩, fun q hq => im_A hsub sz _ (c7 q hq)⟩
theorem XM.imp {l : Launch} {y : MethodName} {cc : ByteArray} {L : Nat} {ret : Option FieldType} {fr lo mc ms fr' lo' mc' ms' : Nat} {av : List Value} {g : hG} {E : hEnv} {ws ws' : va_W} {S S' : Type} {vf : S → Option Value} {post : S → Prop} {W1 : S → va_W} {vf' : S' → Option Value} {post' : S' → Prop} {W1' : S' → va_W} {SX SX' : Type} {pX : String → SX → Prop} {WX : SX → Nat → va_W} {pX' : String → SX' → Prop} {WX' : SX' → Nat → va_W}
    (hg : hGo E) (hM : XM l y cc L ret fr lo mc ms av g E ws vf post W1 pX WX) (h1 : fr ≤ fr') (h2 : lo ≤ lo') (h3 : mc ≤ mc') (h4 : ms ≤ ms') (hP : ∀ H, va_P (gD g) Cl ws' H → va_P (gD g) Cl ws H) (hD : ∀ A, va_D A ws' → va_D A ws) (hsub : ∀ q ∈ ws, ∃ q' ∈ ws', q'.1 = q.1)
    (hi : ∀ u, post u → ∃ u', vf' u' = vf u ∧ post' u' ∧ (∀ H, va_P (gD g) Cl (W1 u) H → va_P (gD g) Cl (W1' u') H) ∧ ∀ A, va_D A (W1 u) → va_D A (W1' u'))
    (hj : ∀ En u q, pX En u → ∃ u', pX' En u' ∧ (∀ H, va_P (gD g) Cl (WX u q) H → va_P (gD g) Cl (WX' u' q) H) ∧ ∀ A, va_D A (WX u q) → va_D A (WX' u' q)) : XM l y cc L ret fr' lo' mc' ms' av g E ws' vf' post' W1' pX' WX' := by
  intro sz p e ha hc hk s m args below hfr happ hPp _
  obtain ⟨q0, q1, q2, q3, q4⟩ := hPp
  obtain ⟨a1, a2, a3, a4, a5, a6, a7, a8⟩ := (Spec.appliesLoose_iff hfr).mp happ
  obtain ⟨n, o, b1, b2, b3, hq⟩ := hM sz p e ha hc hk s m args below hfr ((Spec.appliesLoose_iff hfr).mpr ⟨a1, a2, a3, a4, a5, a6, im_room (r' := ({ frames := fr', cells := mc', slots := ms', locals := lo' } : Room)) h1 h2 h3 h4 a7, a8⟩) ⟨q0, q1, hP _ q2, hD _ q3, hg.2 (va_A ws' sz) (va_A ws sz) s s s.heap s.heap (State.WarmedH.refl s) (fun _ _ _ => rfl) (im_A hsub sz) q4⟩ trivial
  refine ⟨n, o, b1, b2, b3, ?_⟩
  rcases hq with ⟨⟨⟨u, c1, c2, c3, c4⟩, c5⟩, Ls, c6, c7⟩ | ⟨q, c0, En, ce, Ls, ⟨⟨u, c1, c3, c4⟩, c5⟩, c6, c7, c8, c9, c10, c11⟩
  · obtain ⟨u', d1, d2, d3, d4⟩ := hi u c2
    exact Or.inl ⟨⟨⟨u', by rw [c1, d1], d2, d3 _ c3, (d4 _ c4).weaken (fun _ q _ h => im_A hsub sz _ h)⟩, im_F (im_A hsub sz) c5⟩, Ls, ⟨c6.1, c6.2.1, c6.2.2.mono h3 h4⟩, fun q hq => im_A hsub sz _ (c7 q hq)⟩
  · obtain ⟨u', d2, d3, d4⟩ := hj En u q c1
    exact Or.inr ⟨q, c0, En, ce, Ls, ⟨⟨u', d2, d3 _ c3, (d4 _ c4).weaken (fun _ q _ h => im_A hsub sz _ h)⟩, im_F (im_A hsub sz) c5⟩, c6, c7, c8, c9, c10.mono h3 h4, fun q hq => im_A hsub sz _ (c11 q hq)⟩
