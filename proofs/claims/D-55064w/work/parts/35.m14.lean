/-! THE REFERENCE: texts -/
set_option maxRecDepth 100000
/-! A TEXT, as a function -/
def textF (T : Nat → Int32) (n : Nat) : Nat → txR → txR
  | 0, q => q
  | f + 1, q => if ¬ q.1 = 0 ∧ sgn T n q.2.1 = 59 then textF T n f (ordR T n (q.2.1 + 1) q.2.2.1 q.2.2.2.1 q.2.2.2.2) else q
def textR (T : Nat → Int32) (n : Nat) (td : Int32) (O : Nat → Int32) : txR := textF T n 11 (ordR T n 0 0 td O)
abbrev txOk (n : Nat) (q : txR) : Int32 := if q.1 = 0 then 0 else if q.2.1 = n then 1 else 0
/-- an order that stands: five signs at least; all of it within the tape -/
theorem ordR_in (T : Nat → Int32) (n h om : Nat) (td : Int32) (O : Nat → Int32) (hh : h ≤ n) : ((ordR T n h om td O).1 = 0 ∨ ((ordR T n h om td O).1 = 1 ∧ h + 5 ≤ (ordR T n h om td O).2.1 ∧ (ordR T n h om td O).2.2.1 = om + 1)) ∧ (ordR T n h om td O).2.1 ≤ n ∧ (ordR T n h om td O).2.2.1 ≤ om + 1 := by
  have r1 := rdW_ix T n h 8 h
  have r2 := rdW_len T n h 8 h
  have r3 := r1.2.2 hh
  unfold ordR
  split
  · exact ⟨Or.inl rfl, r3, Nat.le_succ _⟩
  · next q =>
    have r4 := r2.resolve_left (fun z => q (by rw [z]; decide))
    have d1 := dgN_in T n (rdW T n h 8 h).2 r3 (dig1 (rdW T n h 8 h).1)
    unfold ordB
    split
    · next q1 =>
      unfold ordC
      split
      · split
        · next q3 =>
          have d3 : (rdW T n h 8 h).2 + dgN T n (rdW T n h 8 h).2 (dig1 (rdW T n h 8 h).1) < n := by
            rcases Nat.lt_or_ge ((rdW T n h 8 h).2 + dgN T n (rdW T n h 8 h).2 (dig1 (rdW T n h 8 h).1)) n with z | z
            · exact z
            · exfalso
              unfold sgn at q3
              rw [if_neg (by omega)] at q3
              exact h_sgo _ q3
          have d2 := dgN_in T n ((rdW T n h 8 h).2 + dgN T n (rdW T n h 8 h).2 (dig1 (rdW T n h 8 h).1) + 1) d3 (dig2 (rdW T n h 8 h).1)
          split
          · exact ⟨Or.inr ⟨rfl, by show h + 5 ≤ _ + 1 + _; omega, rfl⟩, d2, Nat.le_refl _⟩
          · exact ⟨Or.inl rfl, d2, Nat.le_refl _⟩
        · exact ⟨Or.inl rfl, d1, Nat.le_refl _⟩
      · exact ⟨Or.inr ⟨rfl, by show h + 5 ≤ _ + _; omega, rfl⟩, d1, Nat.le_refl _⟩
    · exact ⟨Or.inl rfl, d1, Nat.le_succ _⟩

theorem mX4_isOrderG (l : Launch) (g : hG) (E : hEnv) (ho : jOk g E) (h0 : Nat) (a : Nat → Nat) (I : Nat → Int32) (F : Nat → Nat → Int32) (tp : Nat) (hr0 : Nat) (T : Nat → Int32) (om : Nat) (td : Int32) (O : Nat → Int32) (q : txR) (hI7 : I 7 = nI tp) (ht60 : tp ≤ 60) (hI8 : I 8 = nI hr0) (hh60 : hr0 ≤ 60) (hT : F 4 = T) (hht : hr0 ≤ tp) (hI9 : I 9 = nI om) (hom6 : 6 * om ≤ hr0) (htd : I 10 = td) (hO : F 5 = O) (hq : ordR T tp hr0 om td O = q) : MM l yX4_isOrder cX4_isOrder 3 (some .boolean) 6 132 0 0 [.ref h0] g E (mW g h0 a I F) (S := Unit) (fun _ => (some (.int q.1))) (fun _ => True) (fun _ => mW g h0 a (txI I q) (txF F q)) := by
  subst htd
  subst hO
  subst hq
  exact mX4_isOrder l g E ho h0 a I F tp hr0 T om hI7 ht60 hI8 hh60 hT hht hI9 hom6
theorem kX4_isText : hkV RX4 yX4_isText cX4_isText 2 (some .boolean) 0 := ⟨q2640, qs51, q78, q2641, rfl, by decide +kernel⟩
set_option maxHeartbeats 4000000 in
theorem mX4_isText (l : Launch) (g : hG) (E : hEnv) (ho : jOk g E) (h0 : Nat) (a : Nat → Nat) (I : Nat → Int32) (F : Nat → Nat → Int32) (tp : Nat) (T : Nat → Int32) (hI7 : I 7 = nI tp) (ht60 : tp ≤ 60) (hT : F 4 = T) : MM l yX4_isText cX4_isText 2 (some .boolean) 7 154 0 0 [.ref h0] g E (mW g h0 a I F) (S := Unit) (fun _ => (some (.int (txOk tp (textR T tp (I 10) (F 5)))))) (fun _ => True) (fun _ => mW g h0 a (txI I (textR T tp (I 10) (F 5))) (txF F (textR T tp (I 10) (F 5)))) := by
  refine MM.mk (by decide) (Nat.le_of_ble_eq_true rfl) ?_
  intro p e R s m args below meth c Q A H locs ls hX hRc hRs hP hD hE hS hA hnm hl hQ
  obtain ⟨hx, hb, hr, hlk, hml, hown, hts, hRf, hRl⟩ := hX
  have hown : s.vm.findClass RX4 = some m.cls := hown
  have hj := ho.2 _ _ _ hE
  have hK := hj.kn
  have hl : lv_has ls 2 [(0, .ref h0)] := hl
  subst hT
  have e0 : upd (upd (upd I 8 (I 8)) 9 (I 9)) 10 (I 10) = I := by rw [h_usame rfl, h_usame rfl, h_usame rfl]
  rw [← e0, ← hup_id F 5] at hP hD
  have hP : va_P (gD g) Cl (mW g h0 a (upd (upd (upd I 8 (I 8)) 9 (I 9)) 10 (I 10)) (va_up F 5 (F 5))) H := hP
  have hD : va_D A (mW g h0 a (upd (upd (upd I 8 (I 8)) 9 (I 9)) 10 (I 10)) (va_up F 5 (F 5))) := hD
  refine lv_aload_n hx hb dX4_isText_0 rfl (lv_at hl 0 rfl) ?_
  refine lv_iconst (v := 0) hx hb dX4_isText_1 (by decide) ?_
  refine va_put (D := gD g) (ci := 0) (v := .int 0) (ty := .int) (C := RX4) (T := TX4) (N := 21) hx hb hts in_X4 tyX4 tyX4_ok nmX4 hown hK hP hD hS 0 rfl rfl 15 (by decide) (hts _ q2329) (fun _ h9 => h9) rfl (by decide +kernel) rfl rfl (Nat.le_of_ble_eq_true rfl) dX4_isText_2 (fun H locs hP hD hS => ?_)
  have hP : va_P (gD g) Cl (mW g h0 a (upd (upd (upd I 9 (I 9)) 10 (I 10)) 8 0) (va_up F 5 (F 5))) H := hP
  have hD : va_D A (mW g h0 a (upd (upd (upd I 9 (I 9)) 10 (I 10)) 8 0) (va_up F 5 (F 5))) := hD
  refine lv_aload_n hx hb dX4_isText_5 rfl (lv_at hl 0 rfl) ?_
  refine lv_iconst (v := 0) hx hb dX4_isText_6 (by decide) ?_
  refine va_put (D := gD g) (ci := 0) (v := .int 0) (ty := .int) (C := RX4) (T := TX4) (N := 21) hx hb hts in_X4 tyX4 tyX4_ok nmX4 hown hK hP hD hS 0 rfl rfl 16 (by decide) (hts _ q2330) (fun _ h9 => h9) rfl (by decide +kernel) rfl rfl (Nat.le_of_ble_eq_true rfl) dX4_isText_7 (fun H locs hP hD hS => ?_)
  have hP : va_P (gD g) Cl (mW g h0 a (upd (upd (upd I 10 (I 10)) 8 0) 9 0) (va_up F 5 (F 5))) H := hP
  have hD : va_D A (mW g h0 a (upd (upd (upd I 10 (I 10)) 8 0) 9 0) (va_up F 5 (F 5))) := hD
  obtain ⟨q0, hq0⟩ : ∃ q0, ordR (F 4) tp 0 0 (I 10) (F 5) = q0 := ⟨_, rfl⟩
  refine lv_aload_n hx hb dX4_isText_10 rfl (lv_at hl 0 rfl) ?_
  refine mcV (As := []) (rest := []) (wr := []) (mX4_isOrderG l g E ho h0 a (upd (upd (upd I 10 (I 10)) 8 0) 9 0) (va_up F 5 (F 5)) tp 0 (F 4) 0 (I 10) (F 5) q0 hI7 ht60 rfl (by omega) rfl (by omega) rfl (by omega) rfl rfl hq0) kX4_isOrder q2642 hx hb hml hown hts hRf hRl ho.1.1 hE hS hP hD hA [0, 1, 2, 3, 4, 5, 6, 7, 8] [] rfl (by decide) rfl (by decide) (by decide) ⟨Nat.zero_le _, Nat.zero_le _⟩ (va_recv hK hP (ci := 0) (q0 := 0) rfl rfl) hl ⟨rfl, rfl⟩ rfl rfl (Nat.le_of_ble_eq_true rfl) dX4_isText_11 (fun _ H locs _ hP hD hS _ _ => ?_)
  have hP : va_P (gD g) Cl (mW g h0 a (upd (upd (upd I 10 q0.2.2.2.1) 8 (nI q0.2.1)) 9 (nI q0.2.2.1)) (va_up F 5 (q0.2.2.2.2))) H := hP
  have hD : va_D A (mW g h0 a (upd (upd (upd I 10 q0.2.2.2.1) 8 (nI q0.2.1)) 9 (nI q0.2.2.1)) (va_up F 5 (q0.2.2.2.2))) := hD
  refine lv_istore_n (lv' := [(1, .int q0.1), (0, .ref h0)]) hx hb dX4_isText_14 rfl hl (by decide) rfl (fun ls hl => ?_)
  have loop_15 : ∀ (k : Nat) (q : txR), (1 ≤ k ∧ q.2.1 ≤ tp ∧ (¬ q.1 = 0 → 66 < q.2.1 + 6 * k ∧ 6 * q.2.2.1 ≤ q.2.1 + 1) ∧ textR (F 4) tp (I 10) (F 5) = textF (F 4) tp k q) → ∀ (H : Heap) (locs : List Loc), va_P (gD g) Cl (mW g h0 a (upd (upd (upd I 8 (nI q.2.1)) 9 (nI q.2.2.1)) 10 q.2.2.2.1) (va_up F 5 (q.2.2.2.2))) H → va_D A (mW g h0 a (upd (upd (upd I 8 (nI q.2.1)) 9 (nI q.2.2.1)) 10 q.2.2.2.1) (va_up F 5 (q.2.2.2.2))) → va_S A s.heap H locs → ∀ (ls : Array Slot), lv_has ls 2 [(1, .int q.1), (0, .ref h0)] → W p l e R s m args below meth c H locs 0 0 Q (F0 m 15 ls []) := by
    intro k
    induction k with
    | zero =>
      intro q hi H locs hP hD hS ls hl
      exact absurd hi.1 (by omega)
    | succ k ih_15 =>
      intro q hi H locs hP hD hS ls hl
      obtain ⟨hi1, hi2, hi3, hi4⟩ := hi
      refine lv_iload_n hx hb dX4_isText_15 rfl (lv_at hl 0 rfl) ?_
      refine lv_if_eq (tgt := 36) hx hb dX4_isText_16 (by decide) (fun c_1 => ?_) (fun c_1 => ?_)
      · have htx : textR (F 4) tp (I 10) (F 5) = q := by rw [hi4]; exact if_neg (fun z => z.1 c_1)
        refine lv_iload_n hx hb dX4_isText_36 rfl (lv_at hl 0 rfl) ?_
        refine lv_if_eq (tgt := 55) hx hb dX4_isText_37 (by decide) (fun c_2 => ?_) (fun c_2 => ?_)
        · refine lv_iconst (v := 0) hx hb dX4_isText_55 (by decide) ?_
          have hW1 : (mW g h0 a (upd (upd (upd I 8 (nI q.2.1)) 9 (nI q.2.2.1)) 10 q.2.2.2.1) (va_up F 5 (q.2.2.2.2))) = mW g h0 a (txI I (textR (F 4) tp (I 10) (F 5))) (txF F (textR (F 4) tp (I 10) (F 5))) := by
              rw [htx]
              try rfl
          rw [hW1] at hP hD
          exact hm_i hQ hx hb hr hlk rfl () (by rw [htx]; simp [txOk, *]) trivial hP hD hS (by decide) (by decide) dX4_isText_56
        exact (c_2 c_1).elim
      have hk6 := hi3 c_1
      by_cases hsg : sgn (F 4) tp q.2.1 = 59
      · have hsl : q.2.1 < tp := by
          rcases Nat.lt_or_ge q.2.1 tp with z | z
          · exact z
          · exfalso
            unfold sgn at hsg
            rw [if_neg (by omega)] at hsg
            exact absurd hsg (by decide)
        obtain ⟨q1, hq1⟩ : ∃ q1, ordR (F 4) tp (q.2.1 + 1) q.2.2.1 q.2.2.2.1 q.2.2.2.2 = q1 := ⟨_, rfl⟩
        have hbb := ordR_in (F 4) tp (q.2.1 + 1) q.2.2.1 q.2.2.2.1 q.2.2.2.2 hsl
        rw [hq1] at hbb
        obtain ⟨hb1, hb2, hb3⟩ := hbb
        refine lv_aload_n hx hb dX4_isText_19 rfl (lv_at hl 1 rfl) ?_
        refine lv_bipush (v := 59) hx hb dX4_isText_20 (by decide) ?_
        refine mcV (As := [.int 59]) (rest := []) (wr := []) (mX4_isSignY l g E ho.1 h0 a (upd (upd (upd I 8 (nI q.2.1)) 9 (nI q.2.2.1)) 10 q.2.2.2.1) (va_up F 5 (q.2.2.2.2)) 59 tp q.2.1 (F 4) hI7 ht60 rfl (by omega) rfl hsg) kX4_isSign q2667 hx hb hml hown hts hRf hRl ho.1.1 hE hS hP hD hA [0, 1, 2, 3, 4, 5, 6, 7, 8] [] rfl (by decide) rfl (by decide) (by decide) ⟨Nat.zero_le _, Nat.zero_le _⟩ (va_recv hK hP (ci := 0) (q0 := 0) rfl rfl) hl ⟨rfl, rfl⟩ rfl rfl (Nat.le_of_ble_eq_true rfl) dX4_isText_22 (fun _ H locs _ hP hD hS _ _ => ?_)
        have hP : va_P (gD g) Cl (mW g h0 a (upd (upd (upd I 8 (nI (q.2.1 + 1))) 9 (nI q.2.2.1)) 10 q.2.2.2.1) (va_up F 5 (q.2.2.2.2))) H := hP
        have hD : va_D A (mW g h0 a (upd (upd (upd I 8 (nI (q.2.1 + 1))) 9 (nI q.2.2.1)) 10 q.2.2.2.1) (va_up F 5 (q.2.2.2.2))) := hD
        refine lv_if_eq (tgt := 36) hx hb dX4_isText_25 (by decide) (fun c => absurd c (by decide)) (fun _ => ?_)
        refine lv_aload_n hx hb dX4_isText_28 rfl (lv_at hl 1 rfl) ?_
        refine mcV (As := []) (rest := []) (wr := []) (mX4_isOrderG l g E ho h0 a (upd (upd (upd I 8 (nI (q.2.1 + 1))) 9 (nI q.2.2.1)) 10 q.2.2.2.1) (va_up F 5 (q.2.2.2.2)) tp (q.2.1 + 1) (F 4) q.2.2.1 q.2.2.2.1 q.2.2.2.2 q1 hI7 ht60 rfl (by omega) rfl (by omega) rfl (by omega) rfl rfl hq1) kX4_isOrder q2642 hx hb hml hown hts hRf hRl ho.1.1 hE hS hP hD hA [0, 1, 2, 3, 4, 5, 6, 7, 8] [] rfl (by decide) rfl (by decide) (by decide) ⟨Nat.zero_le _, Nat.zero_le _⟩ (va_recv hK hP (ci := 0) (q0 := 0) rfl rfl) hl ⟨rfl, rfl⟩ rfl rfl (Nat.le_of_ble_eq_true rfl) dX4_isText_29 (fun _ H locs _ hP hD hS _ _ => ?_)
        have hP : va_P (gD g) Cl (mW g h0 a (upd (upd (upd I 8 (nI q1.2.1)) 9 (nI q1.2.2.1)) 10 q1.2.2.2.1) (va_up F 5 (q1.2.2.2.2))) H := hP
        have hD : va_D A (mW g h0 a (upd (upd (upd I 8 (nI q1.2.1)) 9 (nI q1.2.2.1)) 10 q1.2.2.2.1) (va_up F 5 (q1.2.2.2.2))) := hD
        refine lv_istore_n (lv' := [(1, .int q1.1), (0, .ref h0)]) hx hb dX4_isText_32 rfl hl (by decide) rfl (fun ls hl => ?_)
        refine lv_goto (tgt := 15) hx hb dX4_isText_33 (by decide) ?_
        exact ih_15 q1 ⟨by omega, hb2, fun z => ⟨by have := hb1.resolve_left z; omega, by have := hb1.resolve_left z; omega⟩, by rw [hi4, ← hq1]; exact if_pos ⟨c_1, hsg⟩⟩ H locs hP hD hS ls (lv_sub hl [0, 1] rfl)
      · have htx : textR (F 4) tp (I 10) (F 5) = q := by rw [hi4]; exact if_neg (fun z => hsg z.2)
        refine lv_aload_n hx hb dX4_isText_19 rfl (lv_at hl 1 rfl) ?_
        refine lv_bipush (v := 59) hx hb dX4_isText_20 (by decide) ?_
        refine mcV (As := [.int 59]) (rest := []) (wr := []) (mX4_isSignN l g E ho.1 h0 a (upd (upd (upd I 8 (nI q.2.1)) 9 (nI q.2.2.1)) 10 q.2.2.2.1) (va_up F 5 (q.2.2.2.2)) 59 tp q.2.1 (F 4) hI7 ht60 rfl (by omega) rfl hsg) kX4_isSign q2667 hx hb hml hown hts hRf hRl ho.1.1 hE hS hP hD hA [0, 1, 2, 3, 4, 5, 6, 7, 8] [] rfl (by decide) rfl (by decide) (by decide) ⟨Nat.zero_le _, Nat.zero_le _⟩ (va_recv hK hP (ci := 0) (q0 := 0) rfl rfl) hl ⟨rfl, rfl⟩ rfl rfl (Nat.le_of_ble_eq_true rfl) dX4_isText_22 (fun _ H locs _ hP hD hS _ _ => ?_)
        have hP : va_P (gD g) Cl (mW g h0 a (upd (upd (upd I 8 (nI q.2.1)) 9 (nI q.2.2.1)) 10 q.2.2.2.1) (va_up F 5 (q.2.2.2.2))) H := hP
        have hD : va_D A (mW g h0 a (upd (upd (upd I 8 (nI q.2.1)) 9 (nI q.2.2.1)) 10 q.2.2.2.1) (va_up F 5 (q.2.2.2.2))) := hD
        refine lv_if_eq (tgt := 36) hx hb dX4_isText_25 (by decide) (fun _ => ?_) (fun c => absurd c (by decide))
        refine lv_iload_n hx hb dX4_isText_36 rfl (lv_at hl 0 rfl) ?_
        refine lv_if_eq (tgt := 55) hx hb dX4_isText_37 (by decide) (fun c_3 => ?_) (fun c_3 => ?_)
        · exact (c_1 c_3).elim
        refine lv_aload_n hx hb dX4_isText_40 rfl (lv_at hl 1 rfl) ?_
        refine va_get (D := gD g) (ci := 0) (v := .int (nI q.2.1)) (C := RX4) (T := TX4) (N := 21) hx hb hts in_X4 hown hK hP 0 rfl rfl 15 (by decide) (hts _ q2329) (fun _ h9 => h9) rfl dX4_isText_41 ?_
        refine lv_aload_n hx hb dX4_isText_44 rfl (lv_at hl 1 rfl) ?_
        refine va_get (D := gD g) (ci := 0) (v := .int (I 7)) (C := RX4) (T := TX4) (N := 21) hx hb hts in_X4 hown hK hP 0 rfl rfl 14 (by decide) (hts _ q2328) (fun _ h9 => h9) rfl dX4_isText_45 ?_
        refine h_topi (v := nI tp) (hI7) ?_
        refine lv_icmp_ne (tgt := 55) hx hb dX4_isText_48 (by decide) (fun c_4 => ?_) (fun c_4 => ?_)
        · have hqt : ¬ q.2.1 = tp := fun z => c_4 (by rw [z])
          refine lv_iconst (v := 0) hx hb dX4_isText_55 (by decide) ?_
          have hW1 : (mW g h0 a (upd (upd (upd I 8 (nI q.2.1)) 9 (nI q.2.2.1)) 10 q.2.2.2.1) (va_up F 5 (q.2.2.2.2))) = mW g h0 a (txI I (textR (F 4) tp (I 10) (F 5))) (txF F (textR (F 4) tp (I 10) (F 5))) := by
              rw [htx]
              try rfl
          rw [hW1] at hP hD
          exact hm_i hQ hx hb hr hlk rfl () (by rw [htx]; simp [txOk, *]) trivial hP hD hS (by decide) (by decide) dX4_isText_56
        have hqt :  q.2.1 = tp := (nI_eq (by omega) (by omega)).mp c_4
        refine lv_iconst (v := 1) hx hb dX4_isText_51 (by decide) ?_
        refine lv_goto (tgt := 56) hx hb dX4_isText_52 (by decide) ?_
        have hW1 : (mW g h0 a (upd (upd (upd I 8 (nI q.2.1)) 9 (nI q.2.2.1)) 10 q.2.2.2.1) (va_up F 5 (q.2.2.2.2))) = mW g h0 a (txI I (textR (F 4) tp (I 10) (F 5))) (txF F (textR (F 4) tp (I 10) (F 5))) := by
            rw [htx]
            try rfl
        rw [hW1] at hP hD
        exact hm_i hQ hx hb hr hlk rfl () (by rw [htx]; simp [txOk, *]) trivial hP hD hS (by decide) (by decide) dX4_isText_56
  have hbb := ordR_in (F 4) tp 0 0 (I 10) (F 5) (Nat.zero_le _)
  rw [hq0] at hbb
  obtain ⟨hb1, hb2, hb3⟩ := hbb
  exact loop_15 11 q0 ⟨by omega, hb2, fun z => ⟨by have := hb1.resolve_left z; omega, by have := hb1.resolve_left z; omega⟩, by rw [← hq0]; rfl⟩ H locs hP hD hS ls (lv_sub hl [0, 1] rfl)
