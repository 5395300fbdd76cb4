/-! THE REFERENCE: sums, going back, the tape -/
set_option maxRecDepth 100000
theorem kX4_ofAll : hkV RX4 yX4_ofAll cX4_ofAll 7 (some .int) 4 := ⟨q2705, qs61, q78, q2706, rfl, by decide +kernel⟩
set_option maxHeartbeats 4000000 in
theorem mX4_ofAll (l : Launch) (g : hG) (E : hEnv) (ho : mOk g E) (h0 : Nat) (a : Nat → Nat) (I : Nat → Int32) (F : Nat → Nat → Int32) (mn : Nat) (bg : Nat) (sz : Nat) (wh : Nat) (hm0 : mn ≤ 20) (hb0 : ∀ i : Nat, i < mn → bg + sz * i + wh < 195) : RM l yX4_ofAll cX4_ofAll 7 (some .int) 0 0 [.ref h0, .int (nI mn), .int (nI bg), .int (nI sz), .int (nI wh)] g E (mW g h0 a I F) (some (.int (sumS (F 0) bg sz wh mn))) := by
  refine RM.mk (by decide) (Nat.le_of_ble_eq_true rfl) ?_
  intro p e R s m args below meth c Q ls hX hP hE hS hl hQ
  obtain ⟨hx, hb, hr, hlk, hml, hown, hts, hRf, hRl⟩ := hX
  have hown : s.vm.findClass RX4 = some m.cls := hown
  have hK := ho.2 _ _ _ hE
  have hl : lv_has ls 7 [(0, .ref h0), (1, .int (nI mn)), (2, .int (nI bg)), (3, .int (nI sz)), (4, .int (nI wh))] := hl
  refine lv_iconst (v := 0) hx hb dX4_ofAll_0 (by decide) ?_
  refine lv_istore (lv' := [(5, .int 0), (0, .ref h0), (1, .int (nI mn)), (2, .int (nI bg)), (3, .int (nI sz)), (4, .int (nI wh))]) hx hb dX4_ofAll_1 hl (by decide) rfl (fun ls hl => ?_)
  refine lv_iconst (v := 0) hx hb dX4_ofAll_3 (by decide) ?_
  refine lv_istore (lv' := [(6, .int 0), (5, .int 0), (0, .ref h0), (1, .int (nI mn)), (2, .int (nI bg)), (3, .int (nI sz)), (4, .int (nI wh))]) hx hb dX4_ofAll_4 hl (by decide) rfl (fun ls hl => ?_)
  have loop_6 : ∀ (k : Nat) (i : Nat) (v0 : Int32), (mn < i + k ∧ i ≤ mn ∧ v0 = sumS (F 0) bg sz wh i) → ∀ (ls : Array Slot), lv_has ls 7 [(6, .int (nI i)), (5, .int v0), (0, .ref h0), (1, .int (nI mn)), (2, .int (nI bg)), (3, .int (nI sz)), (4, .int (nI wh))] → W p l e R s m args below meth c s.heap [] 0 0 Q (F0 m 6 ls []) := by
    intro k
    induction k with
    | zero =>
      intro i v0 hi  ls hl
      exact absurd hi.1 (by omega)
    | succ k ih_6 =>
      intro i v0 hi  ls hl
      obtain ⟨hi1, hi2, hi3⟩ := hi
      refine lv_iload hx hb dX4_ofAll_6 (lv_at hl 0 rfl) ?_
      refine lv_iload_n hx hb dX4_ofAll_8 rfl (lv_at hl 3 rfl) ?_
      refine lv_icmp_ge (tgt := 37) hx hb dX4_ofAll_9 (by decide) (fun c_1 => ?_) (fun c_1 => ?_)
      · have hiq : i = mn := by
          rcases Nat.lt_or_ge i mn with z | z
          · exact absurd c_1 (nI_ge (a := i) (b := mn) z (by omega))
          · omega
        rw [hiq] at hi3
        refine lv_iload hx hb dX4_ofAll_37 (lv_at hl 1 rfl) ?_
        exact hr_i hQ hx hb hr hlk rfl (by rw [hi3]) dX4_ofAll_39
      have hlt : i < mn := by
        rcases Nat.lt_or_ge i mn with z | z
        · exact z
        · exact absurd (nI_le (a := mn) (b := i) z (by omega)) c_1
      have hbi := hb0 i hlt
      refine lv_iload hx hb dX4_ofAll_12 (lv_at hl 1 rfl) ?_
      refine lv_aload_n hx hb dX4_ofAll_14 rfl (lv_at hl 2 rfl) ?_
      refine va_get (D := gD g) (ci := 0) (v := .ref (a 0)) (C := RX4) (T := TX4) (N := 21) hx hb hts in_X4 hown hK hP 0 rfl rfl 0 (by decide) (hts _ q2314) (fun _ h9 => h9) rfl dX4_ofAll_15 ?_
      refine lv_iload_n hx hb dX4_ofAll_18 rfl (lv_at hl 4 rfl) ?_
      refine lv_iload_n hx hb dX4_ofAll_19 rfl (lv_at hl 5 rfl) ?_
      refine lv_iload hx hb dX4_ofAll_20 (lv_at hl 0 rfl) ?_
      refine lv_imul hx hb dX4_ofAll_22 ?_
      refine h_topi (v := nI (sz * i)) (h_nmul (a := sz) (b := i) (rfl) (rfl)) ?_
      refine lv_iadd hx hb dX4_ofAll_23 ?_
      refine h_topi (v := nI (bg + (sz * i))) (h_nadd (a := bg) (b := sz * i) (rfl) (rfl)) ?_
      refine lv_iload hx hb dX4_ofAll_24 (lv_at hl 6 rfl) ?_
      refine lv_iadd hx hb dX4_ofAll_26 ?_
      refine h_topi (v := nI (bg + (sz * i) + wh)) (h_nadd (a := bg + (sz * i)) (b := wh) (rfl) (rfl)) ?_
      refine h_iald (f := (F 0)) hx hb hK hP 1 0 rfl rfl (bg + (sz * i) + wh) rfl (by omega) (by decide) dX4_ofAll_27 ?_
      refine lv_iadd hx hb dX4_ofAll_28 ?_
      refine lv_istore (lv' := [(5, .int (v0 + (F 0 (bg + (sz * i) + wh)))), (6, .int (nI i)), (0, .ref h0), (1, .int (nI mn)), (2, .int (nI bg)), (3, .int (nI sz)), (4, .int (nI wh))]) hx hb dX4_ofAll_29 hl (by decide) rfl (fun ls hl => ?_)
      refine lv_iinc (v := nI (i + 1)) (lv' := [(6, .int (nI (i + 1))), (5, .int (v0 + (F 0 (bg + (sz * i) + wh)))), (0, .ref h0), (1, .int (nI mn)), (2, .int (nI bg)), (3, .int (nI sz)), (4, .int (nI wh))]) hx hb dX4_ofAll_31 hl (k := 1) rfl (h_ninc (a := i) (k := 1) (rfl)) (by decide) rfl (fun ls hl => ?_)
      refine lv_goto (tgt := 6) hx hb dX4_ofAll_34 (by decide) ?_
      exact ih_6 (i + 1) (v0 + (F 0 (bg + (sz * i) + wh))) ⟨by omega, by omega, by rw [hi3]; rfl⟩  ls (lv_sub hl [0, 1, 2, 3, 4, 5, 6] rfl)
  exact loop_6 (mn + 1) 0 0 ⟨by omega, by omega, rfl⟩  ls (lv_sub hl [0, 1, 2, 3, 4, 5, 6] rfl)
theorem kX4_mixed : hkV RX4 yX4_mixed cX4_mixed 3 (some .int) 0 := ⟨q2717, qs62, q78, q2718, rfl, by decide +kernel⟩
set_option maxHeartbeats 4000000 in
theorem mX4_mixed (l : Launch) (g : hG) (E : hEnv) (ho : mOk g E) (h0 : Nat) (a : Nat → Nat) (I : Nat → Int32) (F : Nat → Nat → Int32) (nt : Nat) (nh : Nat) (nb : Nat) (nc : Nat) (tw : Nat) (hc : Cn (F 0) nt nh nb nc tw) : RM l yX4_mixed cX4_mixed 3 (some .int) 2 43 [.ref h0] g E (mW g h0 a I F) (some (.int (nI (mixN (F 0) nh)))) := by
  refine RM.mk (by decide) (Nat.le_of_ble_eq_true rfl) ?_
  intro p e R s m args below meth c Q ls hX hP hE hS hl hQ
  obtain ⟨hx, hb, hr, hlk, hml, hown, hts, hRf, hRl⟩ := hX
  have hown : s.vm.findClass RX4 = some m.cls := hown
  have hK := ho.2 _ _ _ hE
  have hl : lv_has ls 3 [(0, .ref h0)] := hl
  have hc0 := hc
  obtain ⟨htw, htw6, ht, ht10, hh, hh20, hb6, hb6l, hk5, hk5l⟩ := hc
  have htc : (nI nt).toNatClampNeg = nt := nI_clamp (by omega)
  have hhc : (nI nh).toNatClampNeg = nh := nI_clamp (by omega)
  have hbc : (nI nb).toNatClampNeg = nb := nI_clamp (by omega)
  have hkc : (nI nc).toNatClampNeg = nc := nI_clamp (by omega)
  have htwc : (nI tw).toNatClampNeg = tw := nI_clamp (by omega)
  refine lv_iconst (v := 0) hx hb dX4_mixed_0 (by decide) ?_
  refine lv_istore_n (lv' := [(1, .int 0), (0, .ref h0)]) hx hb dX4_mixed_1 rfl hl (by decide) rfl (fun ls hl => ?_)
  refine lv_iconst (v := 0) hx hb dX4_mixed_2 (by decide) ?_
  refine lv_istore_n (lv' := [(2, .int 0), (1, .int 0), (0, .ref h0)]) hx hb dX4_mixed_3 rfl hl (by decide) rfl (fun ls hl => ?_)
  have loop_4 : ∀ (k : Nat) (i v0 : Nat), (nh < i + k ∧ i ≤ nh ∧ v0 = mixN (F 0) i ∧ v0 ≤ i) → ∀ (ls : Array Slot), lv_has ls 3 [(2, .int (nI i)), (1, .int (nI v0)), (0, .ref h0)] → W p l e R s m args below meth c s.heap [] 0 0 Q (F0 m 4 ls []) := by
    intro k
    induction k with
    | zero =>
      intro i v0 hi  ls hl
      exact absurd hi.1 (by omega)
    | succ k ih_4 =>
      intro i v0 hi  ls hl
      obtain ⟨hi1, hi2, hi3, hi4⟩ := hi
      refine lv_iload_n hx hb dX4_mixed_4 rfl (lv_at hl 0 rfl) ?_
      refine lv_aload_n hx hb dX4_mixed_5 rfl (lv_at hl 2 rfl) ?_
      refine va_get (D := gD g) (ci := 0) (v := .ref (a 0)) (C := RX4) (T := TX4) (N := 21) hx hb hts in_X4 hown hK hP 0 rfl rfl 0 (by decide) (hts _ q2314) (fun _ h9 => h9) rfl dX4_mixed_6 ?_
      refine lv_iconst (v := 4) hx hb dX4_mixed_9 (by decide) ?_
      refine h_iald (f := (F 0)) hx hb hK hP 1 0 rfl rfl 4 rfl (by decide) (by decide) dX4_mixed_10 ?_
      refine h_topi (v := nI nh) (hh) ?_
      refine lv_icmp_ge (tgt := 37) hx hb dX4_mixed_11 (by decide) (fun c_1 => ?_) (fun c_1 => ?_)
      · have hiq : i = nh := by
          rcases Nat.lt_or_ge i nh with z | z
          · exact absurd c_1 (nI_ge (a := i) (b := nh) z (by first | decide | omega))
          · omega
        rw [hiq] at hi3
        refine lv_iload_n hx hb dX4_mixed_37 rfl (lv_at hl 1 rfl) ?_
        exact hr_i hQ hx hb hr hlk rfl (by rw [hi3]) dX4_mixed_38
      have hlt : i < nh := by
        rcases Nat.lt_or_ge i nh with z | z
        · exact z
        · exact absurd (nI_le (a := nh) (b := i) z (by omega)) c_1
      refine lv_iload_n hx hb dX4_mixed_14 rfl (lv_at hl 1 rfl) ?_
      refine lv_aload_n hx hb dX4_mixed_15 rfl (lv_at hl 2 rfl) ?_
      refine lv_iload_n hx hb dX4_mixed_16 rfl (lv_at hl 0 rfl) ?_
      refine lv_iconst (v := 3) hx hb dX4_mixed_17 (by decide) ?_
      refine rcV (As := [.int (nI i), .int 3]) (rest := [.int (nI v0)]) (st1 := [.int (F 0 (73 + 4 * i + 3)), .int (nI v0)]) (mX4_ofHank l g E ho h0 a I F i 3 (by omega)) kX4_ofHank q2453 hx hb hml hown hts hRf hRl ho.1 hE hS hP (va_recv hK hP (ci := 0) (q0 := 0) rfl rfl) ⟨Nat.zero_le _, Nat.zero_le _⟩ hl ⟨rfl, rfl⟩ rfl rfl (Nat.le_of_ble_eq_true rfl) rfl dX4_mixed_18 ?_
      refine lv_if_ge (tgt := 28) hx hb dX4_mixed_21 (by decide) (fun c_2 => ?_) (fun c_2 => ?_)
      · refine lv_iconst (v := 0) hx hb dX4_mixed_28 (by decide) ?_
        refine lv_iadd hx hb dX4_mixed_29 ?_
        refine h_topi (v := nI v0) (h_nadd (a := v0) (b := 0) (rfl) (rfl)) ?_
        refine lv_istore_n (lv' := [(1, .int (nI v0)), (2, .int (nI i)), (0, .ref h0)]) hx hb dX4_mixed_30 rfl hl (by decide) rfl (fun ls hl => ?_)
        refine lv_iinc (v := nI (i + 1)) (lv' := [(2, .int (nI (i + 1))), (1, .int (nI v0)), (0, .ref h0)]) hx hb dX4_mixed_31 hl (k := 1) rfl (h_ninc (a := i) (k := 1) (rfl)) (by decide) rfl (fun ls hl => ?_)
        refine lv_goto (tgt := 4) hx hb dX4_mixed_34 (by decide) ?_
        exact ih_4 (i + 1) (v0) ⟨by omega, by omega, by simp only [mixN, ← hi3, eq_false c_1, eq_true (Int32.not_le.mp c_1), eq_true c_2, eq_false (Int32.not_lt.mpr c_2), if_true, if_false, not_true_eq_false, not_false_eq_true, ite_true, ite_false, reduceIte, Nat.add_zero, Nat.add_sub_cancel], by omega⟩  ls (lv_sub hl [0, 1, 2] rfl)
      refine lv_iconst (v := 1) hx hb dX4_mixed_24 (by decide) ?_
      refine lv_goto (tgt := 29) hx hb dX4_mixed_25 (by decide) ?_
      refine lv_iadd hx hb dX4_mixed_29 ?_
      refine h_topi (v := nI (v0 + 1)) (h_nadd (a := v0) (b := 1) (rfl) (rfl)) ?_
      refine lv_istore_n (lv' := [(1, .int (nI (v0 + 1))), (2, .int (nI i)), (0, .ref h0)]) hx hb dX4_mixed_30 rfl hl (by decide) rfl (fun ls hl => ?_)
      refine lv_iinc (v := nI (i + 1)) (lv' := [(2, .int (nI (i + 1))), (1, .int (nI (v0 + 1))), (0, .ref h0)]) hx hb dX4_mixed_31 hl (k := 1) rfl (h_ninc (a := i) (k := 1) (rfl)) (by decide) rfl (fun ls hl => ?_)
      refine lv_goto (tgt := 4) hx hb dX4_mixed_34 (by decide) ?_
      exact ih_4 (i + 1) (v0 + 1) ⟨by omega, by omega, by simp only [mixN, ← hi3, eq_false c_1, eq_true (Int32.not_le.mp c_1), eq_false c_2, eq_true (Int32.not_le.mp c_2), if_true, if_false, not_true_eq_false, not_false_eq_true, ite_true, ite_false, reduceIte, Nat.add_zero, Nat.add_sub_cancel], by omega⟩  ls (lv_sub hl [0, 1, 2] rfl)
  exact loop_4 (nh + 1) 0 0 ⟨by omega, by omega, rfl, by omega⟩  ls (lv_sub hl [0, 1, 2] rfl)
theorem kX4_inTails : hkV RX4 yX4_inTails cX4_inTails 1 (some .int) 0 := ⟨q2721, qs63, q78, q2722, rfl, by decide +kernel⟩
set_option maxHeartbeats 4000000 in
theorem mX4_inTails (l : Launch) (g : hG) (E : hEnv) (ho : mOk g E) (h0 : Nat) (a : Nat → Nat) (I : Nat → Int32) (F : Nat → Nat → Int32) (nt : Nat) (nh : Nat) (nb : Nat) (nc : Nat) (tw : Nat) (hc : Cn (F 0) nt nh nb nc tw) : RM l yX4_inTails cX4_inTails 1 (some .int) 1 26 [.ref h0] g E (mW g h0 a I F) (some (.int (sumS (F 0) 33 4 2 nt))) := by
  refine RM.mk (by decide) (Nat.le_of_ble_eq_true rfl) ?_
  intro p e R s m args below meth c Q ls hX hP hE hS hl hQ
  obtain ⟨hx, hb, hr, hlk, hml, hown, hts, hRf, hRl⟩ := hX
  have hown : s.vm.findClass RX4 = some m.cls := hown
  have hK := ho.2 _ _ _ hE
  have hl : lv_has ls 1 [(0, .ref h0)] := hl
  have hc0 := hc
  obtain ⟨htw, htw6, ht, ht10, hh, hh20, hb6, hb6l, hk5, hk5l⟩ := hc
  have htc : (nI nt).toNatClampNeg = nt := nI_clamp (by omega)
  have hhc : (nI nh).toNatClampNeg = nh := nI_clamp (by omega)
  have hbc : (nI nb).toNatClampNeg = nb := nI_clamp (by omega)
  have hkc : (nI nc).toNatClampNeg = nc := nI_clamp (by omega)
  have htwc : (nI tw).toNatClampNeg = tw := nI_clamp (by omega)
  refine lv_aload_n hx hb dX4_inTails_0 rfl (lv_at hl 0 rfl) ?_
  refine lv_aload_n hx hb dX4_inTails_1 rfl (lv_at hl 0 rfl) ?_
  refine va_get (D := gD g) (ci := 0) (v := .ref (a 0)) (C := RX4) (T := TX4) (N := 21) hx hb hts in_X4 hown hK hP 0 rfl rfl 0 (by decide) (hts _ q2314) (fun _ h9 => h9) rfl dX4_inTails_2 ?_
  refine lv_iconst (v := 3) hx hb dX4_inTails_5 (by decide) ?_
  refine h_iald (f := (F 0)) hx hb hK hP 1 0 rfl rfl 3 rfl (by decide) (by decide) dX4_inTails_6 ?_
  refine h_topi (v := nI nt) (ht) ?_
  refine lv_bipush (v := 33) hx hb dX4_inTails_7 (by decide) ?_
  refine lv_iconst (v := 4) hx hb dX4_inTails_9 (by decide) ?_
  refine lv_iconst (v := 2) hx hb dX4_inTails_10 (by decide) ?_
  refine rcV (As := [.int (nI nt), .int 33, .int 4, .int 2]) (rest := []) (st1 := [.int (sumS (F 0) 33 4 2 nt)]) (mX4_ofAll l g E ho h0 a I F nt 33 4 2 (by omega) (fun i h => by omega)) kX4_ofAll q2703 hx hb hml hown hts hRf hRl ho.1 hE hS hP (va_recv hK hP (ci := 0) (q0 := 0) rfl rfl) ⟨Nat.zero_le _, Nat.zero_le _⟩ hl ⟨rfl, rfl⟩ rfl rfl (Nat.le_of_ble_eq_true rfl) rfl dX4_inTails_11 ?_
  exact hr_i hQ hx hb hr hlk rfl (rfl) dX4_inTails_14
theorem kX4_inHanks : hkV RX4 yX4_inHanks cX4_inHanks 1 (some .int) 0 := ⟨q2725, qs64, q78, q2726, rfl, by decide +kernel⟩
set_option maxHeartbeats 4000000 in
theorem mX4_inHanks (l : Launch) (g : hG) (E : hEnv) (ho : mOk g E) (h0 : Nat) (a : Nat → Nat) (I : Nat → Int32) (F : Nat → Nat → Int32) (nt : Nat) (nh : Nat) (nb : Nat) (nc : Nat) (tw : Nat) (hc : Cn (F 0) nt nh nb nc tw) : RM l yX4_inHanks cX4_inHanks 1 (some .int) 1 26 [.ref h0] g E (mW g h0 a I F) (some (.int (sumS (F 0) 73 4 2 nh))) := by
  refine RM.mk (by decide) (Nat.le_of_ble_eq_true rfl) ?_
  intro p e R s m args below meth c Q ls hX hP hE hS hl hQ
  obtain ⟨hx, hb, hr, hlk, hml, hown, hts, hRf, hRl⟩ := hX
  have hown : s.vm.findClass RX4 = some m.cls := hown
  have hK := ho.2 _ _ _ hE
  have hl : lv_has ls 1 [(0, .ref h0)] := hl
  have hc0 := hc
  obtain ⟨htw, htw6, ht, ht10, hh, hh20, hb6, hb6l, hk5, hk5l⟩ := hc
  have htc : (nI nt).toNatClampNeg = nt := nI_clamp (by omega)
  have hhc : (nI nh).toNatClampNeg = nh := nI_clamp (by omega)
  have hbc : (nI nb).toNatClampNeg = nb := nI_clamp (by omega)
  have hkc : (nI nc).toNatClampNeg = nc := nI_clamp (by omega)
  have htwc : (nI tw).toNatClampNeg = tw := nI_clamp (by omega)
  refine lv_aload_n hx hb dX4_inHanks_0 rfl (lv_at hl 0 rfl) ?_
  refine lv_aload_n hx hb dX4_inHanks_1 rfl (lv_at hl 0 rfl) ?_
  refine va_get (D := gD g) (ci := 0) (v := .ref (a 0)) (C := RX4) (T := TX4) (N := 21) hx hb hts in_X4 hown hK hP 0 rfl rfl 0 (by decide) (hts _ q2314) (fun _ h9 => h9) rfl dX4_inHanks_2 ?_
  refine lv_iconst (v := 4) hx hb dX4_inHanks_5 (by decide) ?_
  refine h_iald (f := (F 0)) hx hb hK hP 1 0 rfl rfl 4 rfl (by decide) (by decide) dX4_inHanks_6 ?_
  refine h_topi (v := nI nh) (hh) ?_
  refine lv_bipush (v := 73) hx hb dX4_inHanks_7 (by decide) ?_
  refine lv_iconst (v := 4) hx hb dX4_inHanks_9 (by decide) ?_
  refine lv_iconst (v := 2) hx hb dX4_inHanks_10 (by decide) ?_
  refine rcV (As := [.int (nI nh), .int 73, .int 4, .int 2]) (rest := []) (st1 := [.int (sumS (F 0) 73 4 2 nh)]) (mX4_ofAll l g E ho h0 a I F nh 73 4 2 (by omega) (fun i h => by omega)) kX4_ofAll q2703 hx hb hml hown hts hRf hRl ho.1 hE hS hP (va_recv hK hP (ci := 0) (q0 := 0) rfl rfl) ⟨Nat.zero_le _, Nat.zero_le _⟩ hl ⟨rfl, rfl⟩ rfl rfl (Nat.le_of_ble_eq_true rfl) rfl dX4_inHanks_11 ?_
  exact hr_i hQ hx hb hr hlk rfl (rfl) dX4_inHanks_14
theorem kX4_inBows : hkV RX4 yX4_inBows cX4_inBows 1 (some .int) 0 := ⟨q2729, qs65, q78, q2730, rfl, by decide +kernel⟩
set_option maxHeartbeats 4000000 in
theorem mX4_inBows (l : Launch) (g : hG) (E : hEnv) (ho : mOk g E) (h0 : Nat) (a : Nat → Nat) (I : Nat → Int32) (F : Nat → Nat → Int32) (nt : Nat) (nh : Nat) (nb : Nat) (nc : Nat) (tw : Nat) (hc : Cn (F 0) nt nh nb nc tw) : RM l yX4_inBows cX4_inBows 1 (some .int) 1 26 [.ref h0] g E (mW g h0 a I F) (some (.int (sumS (F 0) 153 7 2 nb))) := by
  refine RM.mk (by decide) (Nat.le_of_ble_eq_true rfl) ?_
  intro p e R s m args below meth c Q ls hX hP hE hS hl hQ
  obtain ⟨hx, hb, hr, hlk, hml, hown, hts, hRf, hRl⟩ := hX
  have hown : s.vm.findClass RX4 = some m.cls := hown
  have hK := ho.2 _ _ _ hE
  have hl : lv_has ls 1 [(0, .ref h0)] := hl
  have hc0 := hc
  obtain ⟨htw, htw6, ht, ht10, hh, hh20, hb6, hb6l, hk5, hk5l⟩ := hc
  have htc : (nI nt).toNatClampNeg = nt := nI_clamp (by omega)
  have hhc : (nI nh).toNatClampNeg = nh := nI_clamp (by omega)
  have hbc : (nI nb).toNatClampNeg = nb := nI_clamp (by omega)
  have hkc : (nI nc).toNatClampNeg = nc := nI_clamp (by omega)
  have htwc : (nI tw).toNatClampNeg = tw := nI_clamp (by omega)
  refine lv_aload_n hx hb dX4_inBows_0 rfl (lv_at hl 0 rfl) ?_
  refine lv_aload_n hx hb dX4_inBows_1 rfl (lv_at hl 0 rfl) ?_
  refine va_get (D := gD g) (ci := 0) (v := .ref (a 0)) (C := RX4) (T := TX4) (N := 21) hx hb hts in_X4 hown hK hP 0 rfl rfl 0 (by decide) (hts _ q2314) (fun _ h9 => h9) rfl dX4_inBows_2 ?_
  refine lv_iconst (v := 5) hx hb dX4_inBows_5 (by decide) ?_
  refine h_iald (f := (F 0)) hx hb hK hP 1 0 rfl rfl 5 rfl (by decide) (by decide) dX4_inBows_6 ?_
  refine h_topi (v := nI nb) (hb6) ?_
  refine lv_sipush (v := 153) hx hb dX4_inBows_7 (by decide) ?_
  refine lv_bipush (v := 7) hx hb dX4_inBows_10 (by decide) ?_
  refine lv_iconst (v := 2) hx hb dX4_inBows_12 (by decide) ?_
  refine rcV (As := [.int (nI nb), .int 153, .int 7, .int 2]) (rest := []) (st1 := [.int (sumS (F 0) 153 7 2 nb)]) (mX4_ofAll l g E ho h0 a I F nb 153 7 2 (by omega) (fun i h => by omega)) kX4_ofAll q2703 hx hb hml hown hts hRf hRl ho.1 hE hS hP (va_recv hK hP (ci := 0) (q0 := 0) rfl rfl) ⟨Nat.zero_le _, Nat.zero_le _⟩ hl ⟨rfl, rfl⟩ rfl rfl (Nat.le_of_ble_eq_true rfl) rfl dX4_inBows_13 ?_
  exact hr_i hQ hx hb hr hlk rfl (rfl) dX4_inBows_16
theorem kX4_account : hkV RX4 yX4_account cX4_account 2 (some .int) 1 := ⟨q2712, q2713, q78, q2714, rfl, by decide +kernel⟩
set_option maxHeartbeats 4000000 in
theorem mX4_account (l : Launch) (g : hG) (E : hEnv) (ho : mOk g E) (h0 : Nat) (a : Nat → Nat) (I : Nat → Int32) (F : Nat → Nat → Int32) (p0 : Int32) (nt : Nat) (nh : Nat) (nb : Nat) (nc : Nat) (tw : Nat) (hc : Cn (F 0) nt nh nb nc tw) : MM l yX4_account cX4_account 2 (some .int) 3 65 0 0 [.ref h0, .int p0] g E (mW g h0 a I F) (S := Unit) (fun _ => (some (.int ((gAccount I (F 0) p0).2)))) (fun _ => True) (fun _ => mW g h0 a (upd I 1 (gAccount I (F 0) p0).1) F) := by
  refine MM.mk (by decide) (Nat.le_of_ble_eq_true rfl) ?_
  intro p e R s m args below meth c Q A H locs ls hX hRc hRs hP hD hE hS hA hnm hl hQ
  obtain ⟨hx, hb, hr, hlk, hml, hown, hts, hRf, hRl⟩ := hX
  have hown : s.vm.findClass RX4 = some m.cls := hown
  have hK := ho.2 _ _ _ hE
  have hl : lv_has ls 2 [(0, .ref h0), (1, .int p0)] := hl
  have hc0 := hc
  obtain ⟨htw, htw6, ht, ht10, hh, hh20, hb6, hb6l, hk5, hk5l⟩ := hc
  have htc : (nI nt).toNatClampNeg = nt := nI_clamp (by omega)
  have hhc : (nI nh).toNatClampNeg = nh := nI_clamp (by omega)
  have hbc : (nI nb).toNatClampNeg = nb := nI_clamp (by omega)
  have hkc : (nI nc).toNatClampNeg = nc := nI_clamp (by omega)
  have htwc : (nI tw).toNatClampNeg = tw := nI_clamp (by omega)
  refine lv_aload_n hx hb dX4_account_0 rfl (lv_at hl 0 rfl) ?_
  refine lv_iload_n hx hb dX4_account_1 rfl (lv_at hl 1 rfl) ?_
  refine lv_iconst (v := 0) hx hb dX4_account_2 (by decide) ?_
  refine lv_bipush (v := 19) hx hb dX4_account_3 (by decide) ?_
  refine rcS (As := [.int p0, .int 0, .int 19]) (rest := [.ref h0]) (st1 := [.int (if inR p0 0 19 then 1 else 0), .ref h0]) (mX4_isIn l g E ho p0 0 19) kX4_isIn q2397 hx hb hml hown hts hRf hRl ho.1 hE hS (hP.sub [] rfl) ⟨Nat.zero_le _, Nat.zero_le _⟩ hl ⟨rfl, rfl⟩ rfl rfl (Nat.le_of_ble_eq_true rfl) rfl dX4_account_5 ?_
  refine h_ifne_b (tgt := 15) hx hb dX4_account_8 (by decide) (fun c_1 => ?_) (fun c_1 => ?_)
  · refine lv_iconst (v := 0) hx hb dX4_account_15 (by decide) ?_
    refine lv_iconst (v := 1) hx hb dX4_account_16 (by decide) ?_
    refine mcV (As := [.int 0, .int 1]) (rest := []) (wr := []) (mX4_isThrown0 l g E ho h0 a I F 1) kX4_isThrown q2574 hx hb hml hown hts hRf hRl ho.1 hE hS hP hD hA [0, 1, 2, 3, 4, 5, 6, 7, 8] [] rfl (by decide) rfl (by decide) (by decide) ⟨Nat.zero_le _, Nat.zero_le _⟩ (va_recv hK hP (ci := 0) (q0 := 0) rfl rfl) hl ⟨rfl, rfl⟩ rfl rfl (Nat.le_of_ble_eq_true rfl) dX4_account_17 (fun _ H locs _ hP hD hS _ _ => ?_)
    have hP : va_P (gD g) Cl (mW g h0 a (upd I 1 0) F) H := hP
    have hD : va_D A (mW g h0 a (upd I 1 0) F) := hD
    refine lv_if_eq (tgt := 25) hx hb dX4_account_20 (by decide) (fun _ => ?_) (fun c => absurd c (by decide))
    refine lv_iload_n hx hb dX4_account_25 rfl (lv_at hl 1 rfl) ?_
    by_cases c_2 : p0 = 0
    · refine h_tsw (x := p0) (k := 0) (off := 90) (tgt := 116) hx hb dX4_account_26 (by rw [c_2]; decide) (by decide) (by decide) rfl (by decide) ?_
      refine lv_aload_n hx hb dX4_account_116 rfl (lv_at hl 0 rfl) ?_
      refine va_get (D := gD g) (ci := 0) (v := .ref (a 0)) (C := RX4) (T := TX4) (N := 21) hx hb hts in_X4 hown hK hP 0 rfl rfl 0 (by decide) (hts _ q2314) (fun _ h9 => h9) rfl dX4_account_117 ?_
      refine lv_iconst (v := 3) hx hb dX4_account_120 (by decide) ?_
      refine h_iald (f := (F 0)) hx hb hK hP 1 0 rfl rfl 3 rfl (by decide) (by decide) dX4_account_121 ?_
      refine h_topi (v := nI nt) (ht) ?_
      have hop : gAccount I (F 0) p0 = (0, nI nt) := by simp only [htw, htwc, ht, htc, hh, hhc, hb6, hbc, hk5, hkc, gAccount, eq_true c_1, eq_true c_2, if_true, if_false, not_true_eq_false, not_false_eq_true, ite_true, ite_false, reduceIte, Nat.add_zero, Nat.add_sub_cancel]
      have hW1 : (mW g h0 a (upd I 1 0) F) = mW g h0 a (upd I 1 (gAccount I (F 0) p0).1) F := by
        rw [hop]
      rw [hW1] at hP hD
      exact hm_i hQ hx hb hr hlk rfl () (by rw [hop]) trivial hP hD hS (by decide) (by decide) dX4_account_122
    by_cases c_3 : p0 = 1
    · refine h_tsw (x := p0) (k := 1) (off := 97) (tgt := 123) hx hb dX4_account_26 (by rw [c_3]; decide) (by decide) (by decide) rfl (by decide) ?_
      refine lv_aload_n hx hb dX4_account_123 rfl (lv_at hl 0 rfl) ?_
      refine va_get (D := gD g) (ci := 0) (v := .ref (a 0)) (C := RX4) (T := TX4) (N := 21) hx hb hts in_X4 hown hK hP 0 rfl rfl 0 (by decide) (hts _ q2314) (fun _ h9 => h9) rfl dX4_account_124 ?_
      refine lv_iconst (v := 4) hx hb dX4_account_127 (by decide) ?_
      refine h_iald (f := (F 0)) hx hb hK hP 1 0 rfl rfl 4 rfl (by decide) (by decide) dX4_account_128 ?_
      refine h_topi (v := nI nh) (hh) ?_
      have hop : gAccount I (F 0) p0 = (0, nI nh) := by simp only [htw, htwc, ht, htc, hh, hhc, hb6, hbc, hk5, hkc, gAccount, eq_true c_1, eq_false c_2, eq_true c_3, if_true, if_false, not_true_eq_false, not_false_eq_true, ite_true, ite_false, reduceIte, Nat.add_zero, Nat.add_sub_cancel]
      have hW1 : (mW g h0 a (upd I 1 0) F) = mW g h0 a (upd I 1 (gAccount I (F 0) p0).1) F := by
        rw [hop]
      rw [hW1] at hP hD
      exact hm_i hQ hx hb hr hlk rfl () (by rw [hop]) trivial hP hD hS (by decide) (by decide) dX4_account_129
    by_cases c_4 : p0 = 2
    · refine h_tsw (x := p0) (k := 2) (off := 104) (tgt := 130) hx hb dX4_account_26 (by rw [c_4]; decide) (by decide) (by decide) rfl (by decide) ?_
      refine lv_aload_n hx hb dX4_account_130 rfl (lv_at hl 0 rfl) ?_
      refine rcV (As := []) (rest := []) (st1 := [.int (nI (mixN (F 0) nh))]) (mX4_mixed l g E ho h0 a (upd I 1 0) F nt nh nb nc tw hc0) kX4_mixed q2715 hx hb hml hown hts hRf hRl ho.1 hE hS hP (va_recv hK hP (ci := 0) (q0 := 0) rfl rfl) ⟨Nat.zero_le _, Nat.zero_le _⟩ hl ⟨rfl, rfl⟩ rfl rfl (Nat.le_of_ble_eq_true rfl) rfl dX4_account_131 ?_
      have hop : gAccount I (F 0) p0 = (0, nI (mixN (F 0) nh)) := by simp only [htw, htwc, ht, htc, hh, hhc, hb6, hbc, hk5, hkc, gAccount, eq_true c_1, eq_false c_2, eq_false c_3, eq_true c_4, if_true, if_false, not_true_eq_false, not_false_eq_true, ite_true, ite_false, reduceIte, Nat.add_zero, Nat.add_sub_cancel]
      have hW1 : (mW g h0 a (upd I 1 0) F) = mW g h0 a (upd I 1 (gAccount I (F 0) p0).1) F := by
        rw [hop]
      rw [hW1] at hP hD
      exact hm_i hQ hx hb hr hlk rfl () (by rw [hop]) trivial hP hD hS (by decide) (by decide) dX4_account_134
    by_cases c_5 : p0 = 3
    · refine h_tsw (x := p0) (k := 3) (off := 109) (tgt := 135) hx hb dX4_account_26 (by rw [c_5]; decide) (by decide) (by decide) rfl (by decide) ?_
      refine lv_aload_n hx hb dX4_account_135 rfl (lv_at hl 0 rfl) ?_
      refine va_get (D := gD g) (ci := 0) (v := .ref (a 0)) (C := RX4) (T := TX4) (N := 21) hx hb hts in_X4 hown hK hP 0 rfl rfl 0 (by decide) (hts _ q2314) (fun _ h9 => h9) rfl dX4_account_136 ?_
      refine lv_iconst (v := 5) hx hb dX4_account_139 (by decide) ?_
      refine h_iald (f := (F 0)) hx hb hK hP 1 0 rfl rfl 5 rfl (by decide) (by decide) dX4_account_140 ?_
      refine h_topi (v := nI nb) (hb6) ?_
      have hop : gAccount I (F 0) p0 = (0, nI nb) := by simp only [htw, htwc, ht, htc, hh, hhc, hb6, hbc, hk5, hkc, gAccount, eq_true c_1, eq_false c_2, eq_false c_3, eq_false c_4, eq_true c_5, if_true, if_false, not_true_eq_false, not_false_eq_true, ite_true, ite_false, reduceIte, Nat.add_zero, Nat.add_sub_cancel]
      have hW1 : (mW g h0 a (upd I 1 0) F) = mW g h0 a (upd I 1 (gAccount I (F 0) p0).1) F := by
        rw [hop]
      rw [hW1] at hP hD
      exact hm_i hQ hx hb hr hlk rfl () (by rw [hop]) trivial hP hD hS (by decide) (by decide) dX4_account_141
    by_cases c_6 : p0 = 4
    · refine h_tsw (x := p0) (k := 4) (off := 116) (tgt := 142) hx hb dX4_account_26 (by rw [c_6]; decide) (by decide) (by decide) rfl (by decide) ?_
      refine lv_aload_n hx hb dX4_account_142 rfl (lv_at hl 0 rfl) ?_
      refine va_get (D := gD g) (ci := 0) (v := .ref (a 0)) (C := RX4) (T := TX4) (N := 21) hx hb hts in_X4 hown hK hP 0 rfl rfl 0 (by decide) (hts _ q2314) (fun _ h9 => h9) rfl dX4_account_143 ?_
      refine lv_bipush (v := 6) hx hb dX4_account_146 (by decide) ?_
      refine h_iald (f := (F 0)) hx hb hK hP 1 0 rfl rfl 6 rfl (by decide) (by decide) dX4_account_148 ?_
      refine h_topi (v := nI nc) (hk5) ?_
      have hop : gAccount I (F 0) p0 = (0, nI nc) := by simp only [htw, htwc, ht, htc, hh, hhc, hb6, hbc, hk5, hkc, gAccount, eq_true c_1, eq_false c_2, eq_false c_3, eq_false c_4, eq_false c_5, eq_true c_6, if_true, if_false, not_true_eq_false, not_false_eq_true, ite_true, ite_false, reduceIte, Nat.add_zero, Nat.add_sub_cancel]
      have hW1 : (mW g h0 a (upd I 1 0) F) = mW g h0 a (upd I 1 (gAccount I (F 0) p0).1) F := by
        rw [hop]
      rw [hW1] at hP hD
      exact hm_i hQ hx hb hr hlk rfl () (by rw [hop]) trivial hP hD hS (by decide) (by decide) dX4_account_149
    by_cases c_7 : p0 = 5
    · refine h_tsw (x := p0) (k := 5) (off := 124) (tgt := 150) hx hb dX4_account_26 (by rw [c_7]; decide) (by decide) (by decide) rfl (by decide) ?_
      refine lv_aload_n hx hb dX4_account_150 rfl (lv_at hl 0 rfl) ?_
      refine lv_bipush (v := 9) hx hb dX4_account_151 (by decide) ?_
      refine lv_bipush (v := 19) hx hb dX4_account_153 (by decide) ?_
      refine lv_iconst (v := 1) hx hb dX4_account_155 (by decide) ?_
      refine lv_iconst (v := 0) hx hb dX4_account_156 (by decide) ?_
      refine rcV (As := [.int 9, .int 19, .int 1, .int 0]) (rest := []) (st1 := [.int (sumS (F 0) 19 1 0 9)]) (mX4_ofAll l g E ho h0 a (upd I 1 0) F 9 19 1 0 (by omega) (fun i h => by omega)) kX4_ofAll q2703 hx hb hml hown hts hRf hRl ho.1 hE hS hP (va_recv hK hP (ci := 0) (q0 := 0) rfl rfl) ⟨Nat.zero_le _, Nat.zero_le _⟩ hl ⟨rfl, rfl⟩ rfl rfl (Nat.le_of_ble_eq_true rfl) rfl dX4_account_157 ?_
      have hop : gAccount I (F 0) p0 = (0, sumS (F 0) 19 1 0 9) := by simp only [htw, htwc, ht, htc, hh, hhc, hb6, hbc, hk5, hkc, gAccount, eq_true c_1, eq_false c_2, eq_false c_3, eq_false c_4, eq_false c_5, eq_false c_6, eq_true c_7, if_true, if_false, not_true_eq_false, not_false_eq_true, ite_true, ite_false, reduceIte, Nat.add_zero, Nat.add_sub_cancel]
      have hW1 : (mW g h0 a (upd I 1 0) F) = mW g h0 a (upd I 1 (gAccount I (F 0) p0).1) F := by
        rw [hop]
      rw [hW1] at hP hD
      exact hm_i hQ hx hb hr hlk rfl () (by rw [hop]) trivial hP hD hS (by decide) (by decide) dX4_account_160
    by_cases c_8 : p0 = 6
    · refine h_tsw (x := p0) (k := 6) (off := 135) (tgt := 161) hx hb dX4_account_26 (by rw [c_8]; decide) (by decide) (by decide) rfl (by decide) ?_
      refine lv_aload_n hx hb dX4_account_161 rfl (lv_at hl 0 rfl) ?_
      refine va_get (D := gD g) (ci := 0) (v := .ref (a 0)) (C := RX4) (T := TX4) (N := 21) hx hb hts in_X4 hown hK hP 0 rfl rfl 0 (by decide) (hts _ q2314) (fun _ h9 => h9) rfl dX4_account_162 ?_
      refine lv_bipush (v := 7) hx hb dX4_account_165 (by decide) ?_
      refine h_iald (f := (F 0)) hx hb hK hP 1 0 rfl rfl 7 rfl (by decide) (by decide) dX4_account_167 ?_
      have hop : gAccount I (F 0) p0 = (0, F 0 7) := by simp only [htw, htwc, ht, htc, hh, hhc, hb6, hbc, hk5, hkc, gAccount, eq_true c_1, eq_false c_2, eq_false c_3, eq_false c_4, eq_false c_5, eq_false c_6, eq_false c_7, eq_true c_8, if_true, if_false, not_true_eq_false, not_false_eq_true, ite_true, ite_false, reduceIte, Nat.add_zero, Nat.add_sub_cancel]
      have hW1 : (mW g h0 a (upd I 1 0) F) = mW g h0 a (upd I 1 (gAccount I (F 0) p0).1) F := by
        rw [hop]
      rw [hW1] at hP hD
      exact hm_i hQ hx hb hr hlk rfl () (by rw [hop]) trivial hP hD hS (by decide) (by decide) dX4_account_168
    by_cases c_9 : p0 = 7
    · refine h_tsw (x := p0) (k := 7) (off := 143) (tgt := 169) hx hb dX4_account_26 (by rw [c_9]; decide) (by decide) (by decide) rfl (by decide) ?_
      refine lv_aload_n hx hb dX4_account_169 rfl (lv_at hl 0 rfl) ?_
      refine va_get (D := gD g) (ci := 0) (v := .ref (a 0)) (C := RX4) (T := TX4) (N := 21) hx hb hts in_X4 hown hK hP 0 rfl rfl 0 (by decide) (hts _ q2314) (fun _ h9 => h9) rfl dX4_account_170 ?_
      refine lv_bipush (v := 8) hx hb dX4_account_173 (by decide) ?_
      refine h_iald (f := (F 0)) hx hb hK hP 1 0 rfl rfl 8 rfl (by decide) (by decide) dX4_account_175 ?_
      have hop : gAccount I (F 0) p0 = (0, F 0 8) := by simp only [htw, htwc, ht, htc, hh, hhc, hb6, hbc, hk5, hkc, gAccount, eq_true c_1, eq_false c_2, eq_false c_3, eq_false c_4, eq_false c_5, eq_false c_6, eq_false c_7, eq_false c_8, eq_true c_9, if_true, if_false, not_true_eq_false, not_false_eq_true, ite_true, ite_false, reduceIte, Nat.add_zero, Nat.add_sub_cancel]
      have hW1 : (mW g h0 a (upd I 1 0) F) = mW g h0 a (upd I 1 (gAccount I (F 0) p0).1) F := by
        rw [hop]
      rw [hW1] at hP hD
      exact hm_i hQ hx hb hr hlk rfl () (by rw [hop]) trivial hP hD hS (by decide) (by decide) dX4_account_176
    by_cases c_10 : p0 = 8
    · refine h_tsw (x := p0) (k := 8) (off := 151) (tgt := 177) hx hb dX4_account_26 (by rw [c_10]; decide) (by decide) (by decide) rfl (by decide) ?_
      refine lv_aload_n hx hb dX4_account_177 rfl (lv_at hl 0 rfl) ?_
      refine rcV (As := []) (rest := []) (st1 := [.int (sumS (F 0) 33 4 2 nt)]) (mX4_inTails l g E ho h0 a (upd I 1 0) F nt nh nb nc tw hc0) kX4_inTails q2719 hx hb hml hown hts hRf hRl ho.1 hE hS hP (va_recv hK hP (ci := 0) (q0 := 0) rfl rfl) ⟨Nat.zero_le _, Nat.zero_le _⟩ hl ⟨rfl, rfl⟩ rfl rfl (Nat.le_of_ble_eq_true rfl) rfl dX4_account_178 ?_
      have hop : gAccount I (F 0) p0 = (0, sumS (F 0) 33 4 2 nt) := by simp only [htw, htwc, ht, htc, hh, hhc, hb6, hbc, hk5, hkc, gAccount, eq_true c_1, eq_false c_2, eq_false c_3, eq_false c_4, eq_false c_5, eq_false c_6, eq_false c_7, eq_false c_8, eq_false c_9, eq_true c_10, if_true, if_false, not_true_eq_false, not_false_eq_true, ite_true, ite_false, reduceIte, Nat.add_zero, Nat.add_sub_cancel]
      have hW1 : (mW g h0 a (upd I 1 0) F) = mW g h0 a (upd I 1 (gAccount I (F 0) p0).1) F := by
        rw [hop]
      rw [hW1] at hP hD
      exact hm_i hQ hx hb hr hlk rfl () (by rw [hop]) trivial hP hD hS (by decide) (by decide) dX4_account_181
    by_cases c_11 : p0 = 9
    · refine h_tsw (x := p0) (k := 9) (off := 156) (tgt := 182) hx hb dX4_account_26 (by rw [c_11]; decide) (by decide) (by decide) rfl (by decide) ?_
      refine lv_aload_n hx hb dX4_account_182 rfl (lv_at hl 0 rfl) ?_
      refine rcV (As := []) (rest := []) (st1 := [.int (sumS (F 0) 73 4 2 nh)]) (mX4_inHanks l g E ho h0 a (upd I 1 0) F nt nh nb nc tw hc0) kX4_inHanks q2723 hx hb hml hown hts hRf hRl ho.1 hE hS hP (va_recv hK hP (ci := 0) (q0 := 0) rfl rfl) ⟨Nat.zero_le _, Nat.zero_le _⟩ hl ⟨rfl, rfl⟩ rfl rfl (Nat.le_of_ble_eq_true rfl) rfl dX4_account_183 ?_
      have hop : gAccount I (F 0) p0 = (0, sumS (F 0) 73 4 2 nh) := by simp only [htw, htwc, ht, htc, hh, hhc, hb6, hbc, hk5, hkc, gAccount, eq_true c_1, eq_false c_2, eq_false c_3, eq_false c_4, eq_false c_5, eq_false c_6, eq_false c_7, eq_false c_8, eq_false c_9, eq_false c_10, eq_true c_11, if_true, if_false, not_true_eq_false, not_false_eq_true, ite_true, ite_false, reduceIte, Nat.add_zero, Nat.add_sub_cancel]
      have hW1 : (mW g h0 a (upd I 1 0) F) = mW g h0 a (upd I 1 (gAccount I (F 0) p0).1) F := by
        rw [hop]
      rw [hW1] at hP hD
      exact hm_i hQ hx hb hr hlk rfl () (by rw [hop]) trivial hP hD hS (by decide) (by decide) dX4_account_186
    by_cases c_12 : p0 = 10
    · refine h_tsw (x := p0) (k := 10) (off := 161) (tgt := 187) hx hb dX4_account_26 (by rw [c_12]; decide) (by decide) (by decide) rfl (by decide) ?_
      refine lv_aload_n hx hb dX4_account_187 rfl (lv_at hl 0 rfl) ?_
      refine va_get (D := gD g) (ci := 0) (v := .ref (a 0)) (C := RX4) (T := TX4) (N := 21) hx hb hts in_X4 hown hK hP 0 rfl rfl 0 (by decide) (hts _ q2314) (fun _ h9 => h9) rfl dX4_account_188 ?_
      refine lv_bipush (v := 9) hx hb dX4_account_191 (by decide) ?_
      refine h_iald (f := (F 0)) hx hb hK hP 1 0 rfl rfl 9 rfl (by decide) (by decide) dX4_account_193 ?_
      have hop : gAccount I (F 0) p0 = (0, F 0 9) := by simp only [htw, htwc, ht, htc, hh, hhc, hb6, hbc, hk5, hkc, gAccount, eq_true c_1, eq_false c_2, eq_false c_3, eq_false c_4, eq_false c_5, eq_false c_6, eq_false c_7, eq_false c_8, eq_false c_9, eq_false c_10, eq_false c_11, eq_true c_12, if_true, if_false, not_true_eq_false, not_false_eq_true, ite_true, ite_false, reduceIte, Nat.add_zero, Nat.add_sub_cancel]
      have hW1 : (mW g h0 a (upd I 1 0) F) = mW g h0 a (upd I 1 (gAccount I (F 0) p0).1) F := by
        rw [hop]
      rw [hW1] at hP hD
      exact hm_i hQ hx hb hr hlk rfl () (by rw [hop]) trivial hP hD hS (by decide) (by decide) dX4_account_194
    by_cases c_13 : p0 = 11
    · refine h_tsw (x := p0) (k := 11) (off := 169) (tgt := 195) hx hb dX4_account_26 (by rw [c_13]; decide) (by decide) (by decide) rfl (by decide) ?_
      refine lv_aload_n hx hb dX4_account_195 rfl (lv_at hl 0 rfl) ?_
      refine rcV (As := []) (rest := []) (st1 := [.int (sumS (F 0) 153 7 2 nb)]) (mX4_inBows l g E ho h0 a (upd I 1 0) F nt nh nb nc tw hc0) kX4_inBows q2727 hx hb hml hown hts hRf hRl ho.1 hE hS hP (va_recv hK hP (ci := 0) (q0 := 0) rfl rfl) ⟨Nat.zero_le _, Nat.zero_le _⟩ hl ⟨rfl, rfl⟩ rfl rfl (Nat.le_of_ble_eq_true rfl) rfl dX4_account_196 ?_
      have hop : gAccount I (F 0) p0 = (0, sumS (F 0) 153 7 2 nb) := by simp only [htw, htwc, ht, htc, hh, hhc, hb6, hbc, hk5, hkc, gAccount, eq_true c_1, eq_false c_2, eq_false c_3, eq_false c_4, eq_false c_5, eq_false c_6, eq_false c_7, eq_false c_8, eq_false c_9, eq_false c_10, eq_false c_11, eq_false c_12, eq_true c_13, if_true, if_false, not_true_eq_false, not_false_eq_true, ite_true, ite_false, reduceIte, Nat.add_zero, Nat.add_sub_cancel]
      have hW1 : (mW g h0 a (upd I 1 0) F) = mW g h0 a (upd I 1 (gAccount I (F 0) p0).1) F := by
        rw [hop]
      rw [hW1] at hP hD
      exact hm_i hQ hx hb hr hlk rfl () (by rw [hop]) trivial hP hD hS (by decide) (by decide) dX4_account_199
    by_cases c_14 : p0 = 12
    · refine h_tsw (x := p0) (k := 12) (off := 174) (tgt := 200) hx hb dX4_account_26 (by rw [c_14]; decide) (by decide) (by decide) rfl (by decide) ?_
      refine lv_aload_n hx hb dX4_account_200 rfl (lv_at hl 0 rfl) ?_
      refine va_get (D := gD g) (ci := 0) (v := .ref (a 0)) (C := RX4) (T := TX4) (N := 21) hx hb hts in_X4 hown hK hP 0 rfl rfl 0 (by decide) (hts _ q2314) (fun _ h9 => h9) rfl dX4_account_201 ?_
      refine lv_bipush (v := 10) hx hb dX4_account_204 (by decide) ?_
      refine h_iald (f := (F 0)) hx hb hK hP 1 0 rfl rfl 10 rfl (by decide) (by decide) dX4_account_206 ?_
      have hop : gAccount I (F 0) p0 = (0, F 0 10) := by simp only [htw, htwc, ht, htc, hh, hhc, hb6, hbc, hk5, hkc, gAccount, eq_true c_1, eq_false c_2, eq_false c_3, eq_false c_4, eq_false c_5, eq_false c_6, eq_false c_7, eq_false c_8, eq_false c_9, eq_false c_10, eq_false c_11, eq_false c_12, eq_false c_13, eq_true c_14, if_true, if_false, not_true_eq_false, not_false_eq_true, ite_true, ite_false, reduceIte, Nat.add_zero, Nat.add_sub_cancel]
      have hW1 : (mW g h0 a (upd I 1 0) F) = mW g h0 a (upd I 1 (gAccount I (F 0) p0).1) F := by
        rw [hop]
      rw [hW1] at hP hD
      exact hm_i hQ hx hb hr hlk rfl () (by rw [hop]) trivial hP hD hS (by decide) (by decide) dX4_account_207
    by_cases c_15 : p0 = 13
    · refine h_tsw (x := p0) (k := 13) (off := 182) (tgt := 208) hx hb dX4_account_26 (by rw [c_15]; decide) (by decide) (by decide) rfl (by decide) ?_
      refine lv_aload_n hx hb dX4_account_208 rfl (lv_at hl 0 rfl) ?_
      refine va_get (D := gD g) (ci := 0) (v := .ref (a 0)) (C := RX4) (T := TX4) (N := 21) hx hb hts in_X4 hown hK hP 0 rfl rfl 0 (by decide) (hts _ q2314) (fun _ h9 => h9) rfl dX4_account_209 ?_
      refine lv_bipush (v := 11) hx hb dX4_account_212 (by decide) ?_
      refine h_iald (f := (F 0)) hx hb hK hP 1 0 rfl rfl 11 rfl (by decide) (by decide) dX4_account_214 ?_
      have hop : gAccount I (F 0) p0 = (0, F 0 11) := by simp only [htw, htwc, ht, htc, hh, hhc, hb6, hbc, hk5, hkc, gAccount, eq_true c_1, eq_false c_2, eq_false c_3, eq_false c_4, eq_false c_5, eq_false c_6, eq_false c_7, eq_false c_8, eq_false c_9, eq_false c_10, eq_false c_11, eq_false c_12, eq_false c_13, eq_false c_14, eq_true c_15, if_true, if_false, not_true_eq_false, not_false_eq_true, ite_true, ite_false, reduceIte, Nat.add_zero, Nat.add_sub_cancel]
      have hW1 : (mW g h0 a (upd I 1 0) F) = mW g h0 a (upd I 1 (gAccount I (F 0) p0).1) F := by
        rw [hop]
      rw [hW1] at hP hD
      exact hm_i hQ hx hb hr hlk rfl () (by rw [hop]) trivial hP hD hS (by decide) (by decide) dX4_account_215
    by_cases c_16 : p0 = 14
    · refine h_tsw (x := p0) (k := 14) (off := 190) (tgt := 216) hx hb dX4_account_26 (by rw [c_16]; decide) (by decide) (by decide) rfl (by decide) ?_
      refine lv_aload_n hx hb dX4_account_216 rfl (lv_at hl 0 rfl) ?_
      refine va_get (D := gD g) (ci := 0) (v := .ref (a 0)) (C := RX4) (T := TX4) (N := 21) hx hb hts in_X4 hown hK hP 0 rfl rfl 0 (by decide) (hts _ q2314) (fun _ h9 => h9) rfl dX4_account_217 ?_
      refine lv_iconst (v := 0) hx hb dX4_account_220 (by decide) ?_
      refine h_iald (f := (F 0)) hx hb hK hP 1 0 rfl rfl 0 rfl (by decide) (by decide) dX4_account_221 ?_
      have hop : gAccount I (F 0) p0 = (0, F 0 0) := by simp only [htw, htwc, ht, htc, hh, hhc, hb6, hbc, hk5, hkc, gAccount, eq_true c_1, eq_false c_2, eq_false c_3, eq_false c_4, eq_false c_5, eq_false c_6, eq_false c_7, eq_false c_8, eq_false c_9, eq_false c_10, eq_false c_11, eq_false c_12, eq_false c_13, eq_false c_14, eq_false c_15, eq_true c_16, if_true, if_false, not_true_eq_false, not_false_eq_true, ite_true, ite_false, reduceIte, Nat.add_zero, Nat.add_sub_cancel]
      have hW1 : (mW g h0 a (upd I 1 0) F) = mW g h0 a (upd I 1 (gAccount I (F 0) p0).1) F := by
        rw [hop]
      rw [hW1] at hP hD
      exact hm_i hQ hx hb hr hlk rfl () (by rw [hop]) trivial hP hD hS (by decide) (by decide) dX4_account_222
    by_cases c_17 : p0 = 15
    · refine h_tsw (x := p0) (k := 15) (off := 197) (tgt := 223) hx hb dX4_account_26 (by rw [c_17]; decide) (by decide) (by decide) rfl (by decide) ?_
      refine lv_aload_n hx hb dX4_account_223 rfl (lv_at hl 0 rfl) ?_
      refine va_get (D := gD g) (ci := 0) (v := .ref (a 0)) (C := RX4) (T := TX4) (N := 21) hx hb hts in_X4 hown hK hP 0 rfl rfl 0 (by decide) (hts _ q2314) (fun _ h9 => h9) rfl dX4_account_224 ?_
      refine lv_iconst (v := 1) hx hb dX4_account_227 (by decide) ?_
      refine h_iald (f := (F 0)) hx hb hK hP 1 0 rfl rfl 1 rfl (by decide) (by decide) dX4_account_228 ?_
      have hop : gAccount I (F 0) p0 = (0, F 0 1) := by simp only [htw, htwc, ht, htc, hh, hhc, hb6, hbc, hk5, hkc, gAccount, eq_true c_1, eq_false c_2, eq_false c_3, eq_false c_4, eq_false c_5, eq_false c_6, eq_false c_7, eq_false c_8, eq_false c_9, eq_false c_10, eq_false c_11, eq_false c_12, eq_false c_13, eq_false c_14, eq_false c_15, eq_false c_16, eq_true c_17, if_true, if_false, not_true_eq_false, not_false_eq_true, ite_true, ite_false, reduceIte, Nat.add_zero, Nat.add_sub_cancel]
      have hW1 : (mW g h0 a (upd I 1 0) F) = mW g h0 a (upd I 1 (gAccount I (F 0) p0).1) F := by
        rw [hop]
      rw [hW1] at hP hD
      exact hm_i hQ hx hb hr hlk rfl () (by rw [hop]) trivial hP hD hS (by decide) (by decide) dX4_account_229
    by_cases c_18 : p0 = 16
    · refine h_tsw (x := p0) (k := 16) (off := 204) (tgt := 230) hx hb dX4_account_26 (by rw [c_18]; decide) (by decide) (by decide) rfl (by decide) ?_
      refine lv_aload_n hx hb dX4_account_230 rfl (lv_at hl 0 rfl) ?_
      refine va_get (D := gD g) (ci := 0) (v := .ref (a 0)) (C := RX4) (T := TX4) (N := 21) hx hb hts in_X4 hown hK hP 0 rfl rfl 0 (by decide) (hts _ q2314) (fun _ h9 => h9) rfl dX4_account_231 ?_
      refine lv_iconst (v := 2) hx hb dX4_account_234 (by decide) ?_
      refine h_iald (f := (F 0)) hx hb hK hP 1 0 rfl rfl 2 rfl (by decide) (by decide) dX4_account_235 ?_
      refine h_topi (v := nI tw) (htw) ?_
      have hop : gAccount I (F 0) p0 = (0, nI tw) := by simp only [htw, htwc, ht, htc, hh, hhc, hb6, hbc, hk5, hkc, gAccount, eq_true c_1, eq_false c_2, eq_false c_3, eq_false c_4, eq_false c_5, eq_false c_6, eq_false c_7, eq_false c_8, eq_false c_9, eq_false c_10, eq_false c_11, eq_false c_12, eq_false c_13, eq_false c_14, eq_false c_15, eq_false c_16, eq_false c_17, eq_true c_18, if_true, if_false, not_true_eq_false, not_false_eq_true, ite_true, ite_false, reduceIte, Nat.add_zero, Nat.add_sub_cancel]
      have hW1 : (mW g h0 a (upd I 1 0) F) = mW g h0 a (upd I 1 (gAccount I (F 0) p0).1) F := by
        rw [hop]
      rw [hW1] at hP hD
      exact hm_i hQ hx hb hr hlk rfl () (by rw [hop]) trivial hP hD hS (by decide) (by decide) dX4_account_236
    by_cases c_19 : p0 = 17
    · refine h_tsw (x := p0) (k := 17) (off := 211) (tgt := 237) hx hb dX4_account_26 (by rw [c_19]; decide) (by decide) (by decide) rfl (by decide) ?_
      refine lv_aload_n hx hb dX4_account_237 rfl (lv_at hl 0 rfl) ?_
      refine rcV (As := []) (rest := []) (st1 := [.int (if fairP (F 0) then 1 else 0)]) (mX4_isFair l g E ho h0 a (upd I 1 0) F) kX4_isFair q2562 hx hb hml hown hts hRf hRl ho.1 hE hS hP (va_recv hK hP (ci := 0) (q0 := 0) rfl rfl) ⟨Nat.zero_le _, Nat.zero_le _⟩ hl ⟨rfl, rfl⟩ rfl rfl (Nat.le_of_ble_eq_true rfl) rfl dX4_account_238 ?_
      refine h_join (J := 249) (v := if fairP (F 0) then 1 else 0) (rest := []) ?_ ?_
      rotate_left
      · intro hJ
        refine h_ifeq_b (tgt := 248) hx hb dX4_account_241 (by decide) (fun c_20 => ?_) (fun c_20 => ?_)
        · refine lv_iconst (v := 0) hx hb dX4_account_248 (by decide) ?_
          exact h_topi (if_neg c_20).symm hJ
        refine lv_iconst (v := 1) hx hb dX4_account_244 (by decide) ?_
        refine lv_goto (tgt := 249) hx hb dX4_account_245 (by decide) ?_
        exact h_topi (if_pos c_20).symm hJ
      have hop : gAccount I (F 0) p0 = (0, if fairP (F 0) then 1 else 0) := by simp only [htw, htwc, ht, htc, hh, hhc, hb6, hbc, hk5, hkc, gAccount, eq_true c_1, eq_false c_2, eq_false c_3, eq_false c_4, eq_false c_5, eq_false c_6, eq_false c_7, eq_false c_8, eq_false c_9, eq_false c_10, eq_false c_11, eq_false c_12, eq_false c_13, eq_false c_14, eq_false c_15, eq_false c_16, eq_false c_17, eq_false c_18, eq_true c_19, if_true, if_false, not_true_eq_false, not_false_eq_true, ite_true, ite_false, reduceIte, Nat.add_zero, Nat.add_sub_cancel]
      have hW1 : (mW g h0 a (upd I 1 0) F) = mW g h0 a (upd I 1 (gAccount I (F 0) p0).1) F := by
        rw [hop]
      rw [hW1] at hP hD
      exact hm_i hQ hx hb hr hlk rfl () (by rw [hop]) trivial hP hD hS (by decide) (by decide) dX4_account_249
    by_cases c_21 : p0 = 18
    · refine h_tsw (x := p0) (k := 18) (off := 224) (tgt := 250) hx hb dX4_account_26 (by rw [c_21]; decide) (by decide) (by decide) rfl (by decide) ?_
      refine lv_aload_n hx hb dX4_account_250 rfl (lv_at hl 0 rfl) ?_
      refine va_get (D := gD g) (ci := 0) (v := .int (I 7)) (C := RX4) (T := TX4) (N := 21) hx hb hts in_X4 hown hK hP 0 rfl rfl 14 (by decide) (hts _ q2328) (fun _ h9 => h9) rfl dX4_account_251 ?_
      have hop : gAccount I (F 0) p0 = (0, I 7) := by simp only [htw, htwc, ht, htc, hh, hhc, hb6, hbc, hk5, hkc, gAccount, eq_true c_1, eq_false c_2, eq_false c_3, eq_false c_4, eq_false c_5, eq_false c_6, eq_false c_7, eq_false c_8, eq_false c_9, eq_false c_10, eq_false c_11, eq_false c_12, eq_false c_13, eq_false c_14, eq_false c_15, eq_false c_16, eq_false c_17, eq_false c_18, eq_false c_19, eq_true c_21, if_true, if_false, not_true_eq_false, not_false_eq_true, ite_true, ite_false, reduceIte, Nat.add_zero, Nat.add_sub_cancel]
      have hW1 : (mW g h0 a (upd I 1 0) F) = mW g h0 a (upd I 1 (gAccount I (F 0) p0).1) F := by
        rw [hop]
      rw [hW1] at hP hD
      exact hm_i hQ hx hb hr hlk rfl () (by rw [hop]) trivial hP hD hS (by decide) (by decide) dX4_account_254
    have e_c_2 : p0.toInt ≠ (0) := h_ne (y := 0) c_2
    have e_c_3 : p0.toInt ≠ (1) := h_ne (y := 1) c_3
    have e_c_4 : p0.toInt ≠ (2) := h_ne (y := 2) c_4
    have e_c_5 : p0.toInt ≠ (3) := h_ne (y := 3) c_5
    have e_c_6 : p0.toInt ≠ (4) := h_ne (y := 4) c_6
    have e_c_7 : p0.toInt ≠ (5) := h_ne (y := 5) c_7
    have e_c_8 : p0.toInt ≠ (6) := h_ne (y := 6) c_8
    have e_c_9 : p0.toInt ≠ (7) := h_ne (y := 7) c_9
    have e_c_10 : p0.toInt ≠ (8) := h_ne (y := 8) c_10
    have e_c_11 : p0.toInt ≠ (9) := h_ne (y := 9) c_11
    have e_c_12 : p0.toInt ≠ (10) := h_ne (y := 10) c_12
    have e_c_13 : p0.toInt ≠ (11) := h_ne (y := 11) c_13
    have e_c_14 : p0.toInt ≠ (12) := h_ne (y := 12) c_14
    have e_c_15 : p0.toInt ≠ (13) := h_ne (y := 13) c_15
    have e_c_16 : p0.toInt ≠ (14) := h_ne (y := 14) c_16
    have e_c_17 : p0.toInt ≠ (15) := h_ne (y := 15) c_17
    have e_c_18 : p0.toInt ≠ (16) := h_ne (y := 16) c_18
    have e_c_19 : p0.toInt ≠ (17) := h_ne (y := 17) c_19
    have e_c_21 : p0.toInt ≠ (18) := h_ne (y := 18) c_21
    refine lv_tableOut (tgt := 255) hx hb dX4_account_26 (by omega) (by decide) ?_
    refine lv_aload_n hx hb dX4_account_255 rfl (lv_at hl 0 rfl) ?_
    refine va_get (D := gD g) (ci := 0) (v := .int (I 0)) (C := RX4) (T := TX4) (N := 21) hx hb hts in_X4 hown hK hP 0 rfl rfl 4 (by decide) (hts _ q2318) (fun _ h9 => h9) rfl dX4_account_256 ?_
    have hop : gAccount I (F 0) p0 = (0, I 0) := by simp only [htw, htwc, ht, htc, hh, hhc, hb6, hbc, hk5, hkc, gAccount, eq_true c_1, eq_false c_2, eq_false c_3, eq_false c_4, eq_false c_5, eq_false c_6, eq_false c_7, eq_false c_8, eq_false c_9, eq_false c_10, eq_false c_11, eq_false c_12, eq_false c_13, eq_false c_14, eq_false c_15, eq_false c_16, eq_false c_17, eq_false c_18, eq_false c_19, eq_false c_21, if_true, if_false, not_true_eq_false, not_false_eq_true, ite_true, ite_false, reduceIte, Nat.add_zero, Nat.add_sub_cancel]
    have hW1 : (mW g h0 a (upd I 1 0) F) = mW g h0 a (upd I 1 (gAccount I (F 0) p0).1) F := by
      rw [hop]
    rw [hW1] at hP hD
    exact hm_i hQ hx hb hr hlk rfl () (by rw [hop]) trivial hP hD hS (by decide) (by decide) dX4_account_259
  refine lv_iconst (v := 1) hx hb dX4_account_11 (by decide) ?_
  refine lv_goto (tgt := 16) hx hb dX4_account_12 (by decide) ?_
  refine lv_iconst (v := 1) hx hb dX4_account_16 (by decide) ?_
  refine mcV (As := [.int 1, .int 1]) (rest := []) (wr := []) (mX4_isThrown1 l g E ho h0 a I F 1) kX4_isThrown q2574 hx hb hml hown hts hRf hRl ho.1 hE hS hP hD hA [0, 1, 2, 3, 4, 5, 6, 7, 8] [] rfl (by decide) rfl (by decide) (by decide) ⟨Nat.zero_le _, Nat.zero_le _⟩ (va_recv hK hP (ci := 0) (q0 := 0) rfl rfl) hl ⟨rfl, rfl⟩ rfl rfl (Nat.le_of_ble_eq_true rfl) dX4_account_17 (fun _ H locs _ hP hD hS _ _ => ?_)
  have hP : va_P (gD g) Cl (mW g h0 a (upd I 1 1) F) H := hP
  have hD : va_D A (mW g h0 a (upd I 1 1) F) := hD
  refine lv_if_eq (tgt := 25) hx hb dX4_account_20 (by decide) (fun c => absurd c (by decide)) (fun _ => ?_)
  refine lv_iconst (v := 0) hx hb dX4_account_23 (by decide) ?_
  have hop : gAccount I (F 0) p0 = (1, 0) := by simp only [htw, htwc, ht, htc, hh, hhc, hb6, hbc, hk5, hkc, gAccount, eq_false c_1, if_true, if_false, not_true_eq_false, not_false_eq_true, ite_true, ite_false, reduceIte, Nat.add_zero, Nat.add_sub_cancel]
  have hW1 : (mW g h0 a (upd I 1 1) F) = mW g h0 a (upd I 1 (gAccount I (F 0) p0).1) F := by
    rw [hop]
  rw [hW1] at hP hD
  exact hm_i hQ hx hb hr hlk rfl () (by rw [hop]) trivial hP hD hS (by decide) (by decide) dX4_account_24
theorem kX4_hairsAgain : hkV RX4 yX4_hairsAgain cX4_hairsAgain 1 (some .int) 0 := ⟨q2732, q2733, q78, q2734, rfl, by decide +kernel⟩
set_option maxHeartbeats 4000000 in
theorem mX4_hairsAgain (l : Launch) (g : hG) (E : hEnv) (ho : mOk g E) (h0 : Nat) (a : Nat → Nat) (I : Nat → Int32) (F : Nat → Nat → Int32) (nt : Nat) (nh : Nat) (nb : Nat) (nc : Nat) (tw : Nat) (hc : Cn (F 0) nt nh nb nc tw) : MM l yX4_hairsAgain cX4_hairsAgain 1 (some .int) 2 46 0 0 [.ref h0] g E (mW g h0 a I F) (S := Unit) (fun _ => (some (.int ((gHairs (F 0)).2)))) (fun _ => True) (fun _ => mW g h0 a (upd I 1 (gHairs (F 0)).1) F) := by
  refine MM.mk (by decide) (Nat.le_of_ble_eq_true rfl) ?_
  intro p e R s m args below meth c Q A H locs ls hX hRc hRs hP hD hE hS hA hnm hl hQ
  obtain ⟨hx, hb, hr, hlk, hml, hown, hts, hRf, hRl⟩ := hX
  have hown : s.vm.findClass RX4 = some m.cls := hown
  have hK := ho.2 _ _ _ hE
  have hl : lv_has ls 1 [(0, .ref h0)] := hl
  have hc0 := hc
  obtain ⟨htw, htw6, ht, ht10, hh, hh20, hb6, hb6l, hk5, hk5l⟩ := hc
  have htc : (nI nt).toNatClampNeg = nt := nI_clamp (by omega)
  have hhc : (nI nh).toNatClampNeg = nh := nI_clamp (by omega)
  have hbc : (nI nb).toNatClampNeg = nb := nI_clamp (by omega)
  have hkc : (nI nc).toNatClampNeg = nc := nI_clamp (by omega)
  have htwc : (nI tw).toNatClampNeg = tw := nI_clamp (by omega)
  refine lv_aload_n hx hb dX4_hairsAgain_0 rfl (lv_at hl 0 rfl) ?_
  refine lv_iconst (v := 0) hx hb dX4_hairsAgain_1 (by decide) ?_
  refine va_put (D := gD g) (ci := 0) (v := .int 0) (ty := .int) (C := RX4) (T := TX4) (N := 21) hx hb hts in_X4 tyX4 tyX4_ok nmX4 hown hK hP hD hS 0 rfl rfl 5 (by decide) (hts _ q2319) (fun _ h9 => h9) rfl (by decide +kernel) rfl rfl (Nat.le_of_ble_eq_true rfl) dX4_hairsAgain_2 (fun H locs hP hD hS => ?_)
  have hP : va_P (gD g) Cl (mW g h0 a (upd I 1 0) F) H := hP
  have hD : va_D A (mW g h0 a (upd I 1 0) F) := hD
  refine lv_aload_n hx hb dX4_hairsAgain_5 rfl (lv_at hl 0 rfl) ?_
  refine rcV (As := []) (rest := []) (st1 := [.int (sumS (F 0) 33 4 2 nt)]) (mX4_inTails l g E ho h0 a (upd I 1 0) F nt nh nb nc tw hc0) kX4_inTails q2719 hx hb hml hown hts hRf hRl ho.1 hE hS hP (va_recv hK hP (ci := 0) (q0 := 0) rfl rfl) ⟨Nat.zero_le _, Nat.zero_le _⟩ hl ⟨rfl, rfl⟩ rfl rfl (Nat.le_of_ble_eq_true rfl) rfl dX4_hairsAgain_6 ?_
  refine lv_aload_n hx hb dX4_hairsAgain_9 rfl (lv_at hl 0 rfl) ?_
  refine rcV (As := []) (rest := [.int (sumS (F 0) 33 4 2 nt)]) (st1 := [.int (sumS (F 0) 73 4 2 nh), .int (sumS (F 0) 33 4 2 nt)]) (mX4_inHanks l g E ho h0 a (upd I 1 0) F nt nh nb nc tw hc0) kX4_inHanks q2723 hx hb hml hown hts hRf hRl ho.1 hE hS hP (va_recv hK hP (ci := 0) (q0 := 0) rfl rfl) ⟨Nat.zero_le _, Nat.zero_le _⟩ hl ⟨rfl, rfl⟩ rfl rfl (Nat.le_of_ble_eq_true rfl) rfl dX4_hairsAgain_10 ?_
  refine lv_iadd hx hb dX4_hairsAgain_13 ?_
  refine lv_aload_n hx hb dX4_hairsAgain_14 rfl (lv_at hl 0 rfl) ?_
  refine rcV (As := []) (rest := [.int ((sumS (F 0) 33 4 2 nt) + (sumS (F 0) 73 4 2 nh))]) (st1 := [.int (sumS (F 0) 153 7 2 nb), .int ((sumS (F 0) 33 4 2 nt) + (sumS (F 0) 73 4 2 nh))]) (mX4_inBows l g E ho h0 a (upd I 1 0) F nt nh nb nc tw hc0) kX4_inBows q2727 hx hb hml hown hts hRf hRl ho.1 hE hS hP (va_recv hK hP (ci := 0) (q0 := 0) rfl rfl) ⟨Nat.zero_le _, Nat.zero_le _⟩ hl ⟨rfl, rfl⟩ rfl rfl (Nat.le_of_ble_eq_true rfl) rfl dX4_hairsAgain_15 ?_
  refine lv_iadd hx hb dX4_hairsAgain_18 ?_
  refine lv_aload_n hx hb dX4_hairsAgain_19 rfl (lv_at hl 0 rfl) ?_
  refine va_get (D := gD g) (ci := 0) (v := .ref (a 0)) (C := RX4) (T := TX4) (N := 21) hx hb hts in_X4 hown hK hP 0 rfl rfl 0 (by decide) (hts _ q2314) (fun _ h9 => h9) rfl dX4_hairsAgain_20 ?_
  refine lv_bipush (v := 9) hx hb dX4_hairsAgain_23 (by decide) ?_
  refine h_iald (f := (F 0)) hx hb hK hP 1 0 rfl rfl 9 rfl (by decide) (by decide) dX4_hairsAgain_25 ?_
  refine lv_iadd hx hb dX4_hairsAgain_26 ?_
  refine lv_aload_n hx hb dX4_hairsAgain_27 rfl (lv_at hl 0 rfl) ?_
  refine va_get (D := gD g) (ci := 0) (v := .ref (a 0)) (C := RX4) (T := TX4) (N := 21) hx hb hts in_X4 hown hK hP 0 rfl rfl 0 (by decide) (hts _ q2314) (fun _ h9 => h9) rfl dX4_hairsAgain_28 ?_
  refine lv_bipush (v := 10) hx hb dX4_hairsAgain_31 (by decide) ?_
  refine h_iald (f := (F 0)) hx hb hK hP 1 0 rfl rfl 10 rfl (by decide) (by decide) dX4_hairsAgain_33 ?_
  refine lv_iadd hx hb dX4_hairsAgain_34 ?_
  refine lv_aload_n hx hb dX4_hairsAgain_35 rfl (lv_at hl 0 rfl) ?_
  refine va_get (D := gD g) (ci := 0) (v := .ref (a 0)) (C := RX4) (T := TX4) (N := 21) hx hb hts in_X4 hown hK hP 0 rfl rfl 0 (by decide) (hts _ q2314) (fun _ h9 => h9) rfl dX4_hairsAgain_36 ?_
  refine lv_bipush (v := 11) hx hb dX4_hairsAgain_39 (by decide) ?_
  refine h_iald (f := (F 0)) hx hb hK hP 1 0 rfl rfl 11 rfl (by decide) (by decide) dX4_hairsAgain_41 ?_
  refine lv_iadd hx hb dX4_hairsAgain_42 ?_
  have hop : gHairs (F 0) = (0, (((((sumS (F 0) 33 4 2 nt) + (sumS (F 0) 73 4 2 nh)) + (sumS (F 0) 153 7 2 nb)) + (F 0 9)) + (F 0 10)) + (F 0 11)) := by simp only [htw, htwc, ht, htc, hh, hhc, hb6, hbc, hk5, hkc, gHairs, if_true, if_false, not_true_eq_false, not_false_eq_true, ite_true, ite_false, reduceIte, Nat.add_zero, Nat.add_sub_cancel]
  have hW1 : (mW g h0 a (upd I 1 0) F) = mW g h0 a (upd I 1 (gHairs (F 0)).1) F := by
    rw [hop]
  rw [hW1] at hP hD
  exact hm_i hQ hx hb hr hlk rfl () (by rw [hop]) trivial hP hD hS (by decide) (by decide) dX4_hairsAgain_43
theorem kX4_undo : hkV RX4 yX4_undo cX4_undo 1 (some .int) 0 := ⟨q2736, q2737, q78, q2738, rfl, by decide +kernel⟩
set_option maxHeartbeats 4000000 in
theorem mX4_undo0 (l : Launch) (g : hG) (E : hEnv) (ho : mOk g E) (h0 : Nat) (a : Nat → Nat) (I : Nat → Int32) (F : Nat → Nat → Int32) (hz : I 0 = 0) : MM l yX4_undo cX4_undo 1 (some .int) 1 22 0 0 [.ref h0] g E (mW g h0 a I F) (S := Unit) (fun _ => (some (.int 0))) (fun _ => True) (fun _ => mW g h0 a (upd I 1 1) F) := by
  refine MM.mk (by decide) (Nat.le_of_ble_eq_true rfl) ?_
  intro p e R s m args below meth c Q A H locs ls hX hRc hRs hP hD hE hS hA hnm hl hQ
  obtain ⟨hx, hb, hr, hlk, hml, hown, hts, hRf, hRl⟩ := hX
  have hown : s.vm.findClass RX4 = some m.cls := hown
  have hK := ho.2 _ _ _ hE
  have hl : lv_has ls 1 [(0, .ref h0)] := hl
  refine lv_aload_n hx hb dX4_undo_0 rfl (lv_at hl 0 rfl) ?_
  refine lv_aload_n hx hb dX4_undo_1 rfl (lv_at hl 0 rfl) ?_
  refine va_get (D := gD g) (ci := 0) (v := .int (I 0)) (C := RX4) (T := TX4) (N := 21) hx hb hts in_X4 hown hK hP 0 rfl rfl 4 (by decide) (hts _ q2318) (fun _ h9 => h9) rfl dX4_undo_2 ?_
  refine lv_if_ne (tgt := 12) hx hb dX4_undo_5 (by decide) (fun c_1 => ?_) (fun c_1 => ?_)
  · exact (c_1 hz).elim
  refine lv_iconst (v := 1) hx hb dX4_undo_8 (by decide) ?_
  refine lv_goto (tgt := 13) hx hb dX4_undo_9 (by decide) ?_
  refine lv_iconst (v := 1) hx hb dX4_undo_13 (by decide) ?_
  refine mcV (As := [.int 1, .int 1]) (rest := []) (wr := []) (mX4_isThrown1 l g E ho h0 a I F 1) kX4_isThrown q2574 hx hb hml hown hts hRf hRl ho.1 hE hS hP hD hA [0, 1, 2, 3, 4, 5, 6, 7, 8] [] rfl (by decide) rfl (by decide) (by decide) ⟨Nat.zero_le _, Nat.zero_le _⟩ (va_recv hK hP (ci := 0) (q0 := 0) rfl rfl) hl ⟨rfl, rfl⟩ rfl rfl (Nat.le_of_ble_eq_true rfl) dX4_undo_14 (fun _ H locs _ hP hD hS _ _ => ?_)
  have hP : va_P (gD g) Cl (mW g h0 a (upd I 1 1) F) H := hP
  have hD : va_D A (mW g h0 a (upd I 1 1) F) := hD
  refine lv_if_eq (tgt := 22) hx hb dX4_undo_17 (by decide) (fun c => absurd c (by decide)) (fun _ => ?_)
  refine lv_iconst (v := 0) hx hb dX4_undo_20 (by decide) ?_
  exact hm_i hQ hx hb hr hlk rfl () (rfl) trivial hP hD hS (by decide) (by decide) dX4_undo_21
set_option maxHeartbeats 4000000 in
theorem mX4_undo1 (l : Launch) (g : hG) (E : hEnv) (ho : mOk g E) (h0 : Nat) (a : Nat → Nat) (I : Nat → Int32) (F : Nat → Nat → Int32) (n : Nat) (hz : I 0 = nI (n + 1)) (hn8 : n < 8) : MM l yX4_undo cX4_undo 1 (some .int) 1 24 0 0 [.ref h0] g E (mW g h0 a I F) (S := Unit) (fun _ => (some (.int (nI n)))) (fun _ => True) (fun _ => mW g h0 a (upd (upd I 1 0) 0 (nI n)) (va_up F 0 (va_cpy (F 3) (F 0) (195 * n) 0 195))) := by
  refine MM.mk (by decide) (Nat.le_of_ble_eq_true rfl) ?_
  intro p e R s m args below meth c Q A H locs ls hX hRc hRs hP hD hE hS hA hnm hl hQ
  obtain ⟨hx, hb, hr, hlk, hml, hown, hts, hRf, hRl⟩ := hX
  have hown : s.vm.findClass RX4 = some m.cls := hown
  have hK := ho.2 _ _ _ hE
  have hl : lv_has ls 1 [(0, .ref h0)] := hl
  refine lv_aload_n hx hb dX4_undo_0 rfl (lv_at hl 0 rfl) ?_
  refine lv_aload_n hx hb dX4_undo_1 rfl (lv_at hl 0 rfl) ?_
  refine va_get (D := gD g) (ci := 0) (v := .int (I 0)) (C := RX4) (T := TX4) (N := 21) hx hb hts in_X4 hown hK hP 0 rfl rfl 4 (by decide) (hts _ q2318) (fun _ h9 => h9) rfl dX4_undo_2 ?_
  refine h_topi (v := nI (n + 1)) (hz) ?_
  refine lv_if_ne (tgt := 12) hx hb dX4_undo_5 (by decide) (fun c_1 => ?_) (fun c_1 => ?_)
  · refine lv_iconst (v := 0) hx hb dX4_undo_12 (by decide) ?_
    refine lv_iconst (v := 1) hx hb dX4_undo_13 (by decide) ?_
    refine mcV (As := [.int 0, .int 1]) (rest := []) (wr := []) (mX4_isThrown0 l g E ho h0 a I F 1) kX4_isThrown q2574 hx hb hml hown hts hRf hRl ho.1 hE hS hP hD hA [0, 1, 2, 3, 4, 5, 6, 7, 8] [] rfl (by decide) rfl (by decide) (by decide) ⟨Nat.zero_le _, Nat.zero_le _⟩ (va_recv hK hP (ci := 0) (q0 := 0) rfl rfl) hl ⟨rfl, rfl⟩ rfl rfl (Nat.le_of_ble_eq_true rfl) dX4_undo_14 (fun _ H locs _ hP hD hS _ _ => ?_)
    have hP : va_P (gD g) Cl (mW g h0 a (upd I 1 0) F) H := hP
    have hD : va_D A (mW g h0 a (upd I 1 0) F) := hD
    refine lv_if_eq (tgt := 22) hx hb dX4_undo_17 (by decide) (fun _ => ?_) (fun c => absurd c (by decide))
    refine lv_aload_n hx hb dX4_undo_22 rfl (lv_at hl 0 rfl) ?_
    refine lv_dup hx hb dX4_undo_23 rfl ?_
    refine va_get (D := gD g) (ci := 0) (v := .int (I 0)) (C := RX4) (T := TX4) (N := 21) hx hb hts in_X4 hown hK hP 0 rfl rfl 4 (by decide) (hts _ q2318) (fun _ h9 => h9) rfl dX4_undo_24 ?_
    refine h_topi (v := nI (n + 1)) (hz) ?_
    refine lv_iconst (v := 1) hx hb dX4_undo_27 (by decide) ?_
    refine lv_isub hx hb dX4_undo_28 ?_
    refine h_topi (v := nI ((n + 1) - 1)) (h_nsub (a := n + 1) (b := 1) (rfl) (rfl) (by omega)) ?_
    refine h_topi (v := nI n) rfl ?_
    refine va_put (D := gD g) (ci := 0) (v := .int (nI n)) (ty := .int) (C := RX4) (T := TX4) (N := 21) hx hb hts in_X4 tyX4 tyX4_ok nmX4 hown hK hP hD hS 0 rfl rfl 4 (by decide) (hts _ q2318) (fun _ h9 => h9) rfl (by decide +kernel) rfl rfl (Nat.le_of_ble_eq_true rfl) dX4_undo_29 (fun H locs hP hD hS => ?_)
    have hP : va_P (gD g) Cl (mW g h0 a (upd (upd I 1 0) 0 (nI n)) F) H := hP
    have hD : va_D A (mW g h0 a (upd (upd I 1 0) 0 (nI n)) F) := hD
    refine lv_aload_n hx hb dX4_undo_32 rfl (lv_at hl 0 rfl) ?_
    refine va_get (D := gD g) (ci := 0) (v := .ref (a 3)) (C := RX4) (T := TX4) (N := 21) hx hb hts in_X4 hown hK hP 0 rfl rfl 3 (by decide) (hts _ q2317) (fun _ h9 => h9) rfl dX4_undo_33 ?_
    refine lv_sipush (v := 195) hx hb dX4_undo_36 (by decide) ?_
    refine lv_aload_n hx hb dX4_undo_39 rfl (lv_at hl 0 rfl) ?_
    refine va_get (D := gD g) (ci := 0) (v := .int (nI n)) (C := RX4) (T := TX4) (N := 21) hx hb hts in_X4 hown hK hP 0 rfl rfl 4 (by decide) (hts _ q2318) (fun _ h9 => h9) rfl dX4_undo_40 ?_
    refine lv_imul hx hb dX4_undo_43 ?_
    refine h_topi (v := nI (195 * n)) (h_nmul (a := 195) (b := n) (rfl) (rfl)) ?_
    refine lv_aload_n hx hb dX4_undo_44 rfl (lv_at hl 0 rfl) ?_
    refine va_get (D := gD g) (ci := 0) (v := .ref (a 0)) (C := RX4) (T := TX4) (N := 21) hx hb hts in_X4 hown hK hP 0 rfl rfl 0 (by decide) (hts _ q2314) (fun _ h9 => h9) rfl dX4_undo_45 ?_
    refine lv_iconst (v := 0) hx hb dX4_undo_48 (by decide) ?_
    refine mcS (As := [.ref (a 3), .int (nI (195 * n)), .ref (a 0), .int 0]) (rest := []) (st0 := [.int 0, .ref (a 0), .int (nI (195 * n)), .ref (a 3)]) (wr := [(h0, .inr (0, mO a (upd (upd I 1 0) 0 (nI n)))), (a 1, .inl (g.2.2.1 0, 195, .inl (F 1))), (a 2, .inl (g.2.2.1 0, 195, .inl (F 2))), (a 5, .inl (g.2.2.1 0, 60, .inl (F 4))), (a 6, .inl (g.2.2.1 0, 36, .inl (F 5))), (a 7, .inl (g.2.2.1 0, 260, .inl (F 6))), (a 4, .inl (g.2.2.1 5, 8, .inr (.inr (.inr (.inr (fun j => some (gA g (60 + j))))))))]) (mX4_copies2 l g E ho (a 3) 1560 (F 3) (a 0) 195 (F 0) (195 * n) 0 (by omega) (by omega) (by decide) (by decide)) kX4_copies q2394 hx hb hml hown hts hRf hRl ho.1 hE hS hP hD hA [4, 1] [0, 2, 3, 5, 6, 7, 8] rfl (by decide) rfl (by decide) (by decide) ⟨Nat.zero_le _, Nat.zero_le _⟩ hl ⟨rfl, rfl⟩ rfl rfl (Nat.le_of_ble_eq_true rfl) dX4_undo_49 (fun _ H locs _ hP hD hS _ _ => ?_)
    have hP := hP.sub (ws' := (mW g h0 a (upd (upd I 1 0) 0 (nI n)) (va_up F 0 (va_cpy (F 3) (F 0) (195 * n) 0 195)))) [0, 8, 1, 2, 7, 3, 4, 5, 6] rfl
    have hD := hD.sub (ws' := (mW g h0 a (upd (upd I 1 0) 0 (nI n)) (va_up F 0 (va_cpy (F 3) (F 0) (195 * n) 0 195)))) [0, 8, 1, 2, 7, 3, 4, 5, 6] (by decide) rfl
    refine lv_aload_n hx hb dX4_undo_52 rfl (lv_at hl 0 rfl) ?_
    refine va_get (D := gD g) (ci := 0) (v := .int (nI n)) (C := RX4) (T := TX4) (N := 21) hx hb hts in_X4 hown hK hP 0 rfl rfl 4 (by decide) (hts _ q2318) (fun _ h9 => h9) rfl dX4_undo_53 ?_
    exact hm_i hQ hx hb hr hlk rfl () (rfl) trivial hP hD hS (by decide) (by decide) dX4_undo_56
  exact (show False by have z := (nI_eq (a := n + 1) (b := 0) (by omega) (by decide)).mp c_1; omega).elim
theorem kX4_save : hkV RX4 yX4_save cX4_save 1 (some .int) 0 := ⟨q2740, q2741, q78, q2742, rfl, by decide +kernel⟩
set_option maxHeartbeats 4000000 in
theorem mX4_save (l : Launch) (g : hG) (E : hEnv) (ho : mOk g E) (h0 : Nat) (a : Nat → Nat) (I : Nat → Int32) (F : Nat → Nat → Int32) : MM l yX4_save cX4_save 1 (some .int) 1 24 0 0 [.ref h0] g E (mW g h0 a I F) (S := Unit) (fun _ => (some (.int (F 0 1)))) (fun _ => True) (fun _ => mW g h0 a (upd (upd I 1 0) 6 1) (va_up F 2 (va_cpy (F 0) (F 2) 0 0 195))) := by
  refine MM.mk (by decide) (Nat.le_of_ble_eq_true rfl) ?_
  intro p e R s m args below meth c Q A H locs ls hX hRc hRs hP hD hE hS hA hnm hl hQ
  obtain ⟨hx, hb, hr, hlk, hml, hown, hts, hRf, hRl⟩ := hX
  have hown : s.vm.findClass RX4 = some m.cls := hown
  have hK := ho.2 _ _ _ hE
  have hl : lv_has ls 1 [(0, .ref h0)] := hl
  refine lv_aload_n hx hb dX4_save_0 rfl (lv_at hl 0 rfl) ?_
  refine lv_iconst (v := 0) hx hb dX4_save_1 (by decide) ?_
  refine va_put (D := gD g) (ci := 0) (v := .int 0) (ty := .int) (C := RX4) (T := TX4) (N := 21) hx hb hts in_X4 tyX4 tyX4_ok nmX4 hown hK hP hD hS 0 rfl rfl 5 (by decide) (hts _ q2319) (fun _ h9 => h9) rfl (by decide +kernel) rfl rfl (Nat.le_of_ble_eq_true rfl) dX4_save_2 (fun H locs hP hD hS => ?_)
  have hP : va_P (gD g) Cl (mW g h0 a (upd I 1 0) F) H := hP
  have hD : va_D A (mW g h0 a (upd I 1 0) F) := hD
  refine lv_aload_n hx hb dX4_save_5 rfl (lv_at hl 0 rfl) ?_
  refine va_get (D := gD g) (ci := 0) (v := .ref (a 0)) (C := RX4) (T := TX4) (N := 21) hx hb hts in_X4 hown hK hP 0 rfl rfl 0 (by decide) (hts _ q2314) (fun _ h9 => h9) rfl dX4_save_6 ?_
  refine lv_iconst (v := 0) hx hb dX4_save_9 (by decide) ?_
  refine lv_aload_n hx hb dX4_save_10 rfl (lv_at hl 0 rfl) ?_
  refine va_get (D := gD g) (ci := 0) (v := .ref (a 2)) (C := RX4) (T := TX4) (N := 21) hx hb hts in_X4 hown hK hP 0 rfl rfl 2 (by decide) (hts _ q2316) (fun _ h9 => h9) rfl dX4_save_11 ?_
  refine lv_iconst (v := 0) hx hb dX4_save_14 (by decide) ?_
  refine mcS (As := [.ref (a 0), .int 0, .ref (a 2), .int 0]) (rest := []) (st0 := [.int 0, .ref (a 2), .int 0, .ref (a 0)]) (wr := [(h0, .inr (0, mO a (upd I 1 0))), (a 1, .inl (g.2.2.1 0, 195, .inl (F 1))), (a 3, .inl (g.2.2.1 0, 1560, .inl (F 3))), (a 5, .inl (g.2.2.1 0, 60, .inl (F 4))), (a 6, .inl (g.2.2.1 0, 36, .inl (F 5))), (a 7, .inl (g.2.2.1 0, 260, .inl (F 6))), (a 4, .inl (g.2.2.1 5, 8, .inr (.inr (.inr (.inr (fun j => some (gA g (60 + j))))))))]) (mX4_copies2 l g E ho (a 0) 195 (F 0) (a 2) 195 (F 2) 0 0 (by omega) (by omega) (by decide) (by decide)) kX4_copies q2394 hx hb hml hown hts hRf hRl ho.1 hE hS hP hD hA [1, 3] [0, 2, 4, 5, 6, 7, 8] rfl (by decide) rfl (by decide) (by decide) ⟨Nat.zero_le _, Nat.zero_le _⟩ hl ⟨rfl, rfl⟩ rfl rfl (Nat.le_of_ble_eq_true rfl) dX4_save_15 (fun _ H locs _ hP hD hS _ _ => ?_)
  have hP := hP.sub (ws' := (mW g h0 a (upd I 1 0) (va_up F 2 (va_cpy (F 0) (F 2) 0 0 195)))) [0, 7, 1, 8, 2, 3, 4, 5, 6] rfl
  have hD := hD.sub (ws' := (mW g h0 a (upd I 1 0) (va_up F 2 (va_cpy (F 0) (F 2) 0 0 195)))) [0, 7, 1, 8, 2, 3, 4, 5, 6] (by decide) rfl
  refine lv_aload_n hx hb dX4_save_18 rfl (lv_at hl 0 rfl) ?_
  refine lv_iconst (v := 1) hx hb dX4_save_19 (by decide) ?_
  refine va_put (D := gD g) (ci := 0) (v := .int 1) (ty := .boolean) (C := RX4) (T := TX4) (N := 21) hx hb hts in_X4 tyX4 tyX4_ok nmX4 hown hK hP hD hS 0 rfl rfl 10 (by decide) (hts _ q2324) (fun _ h9 => h9) rfl (by decide +kernel) rfl rfl (Nat.le_of_ble_eq_true rfl) dX4_save_20 (fun H locs hP hD hS => ?_)
  have hP : va_P (gD g) Cl (mW g h0 a (upd (upd I 1 0) 6 1) (va_up F 2 (va_cpy (F 0) (F 2) 0 0 195))) H := hP
  have hD : va_D A (mW g h0 a (upd (upd I 1 0) 6 1) (va_up F 2 (va_cpy (F 0) (F 2) 0 0 195))) := hD
  refine lv_aload_n hx hb dX4_save_23 rfl (lv_at hl 0 rfl) ?_
  refine va_get (D := gD g) (ci := 0) (v := .ref (a 0)) (C := RX4) (T := TX4) (N := 21) hx hb hts in_X4 hown hK hP 0 rfl rfl 0 (by decide) (hts _ q2314) (fun _ h9 => h9) rfl dX4_save_24 ?_
  refine lv_iconst (v := 1) hx hb dX4_save_27 (by decide) ?_
  refine h_iald (f := (F 0)) hx hb hK hP 1 0 rfl rfl 1 rfl (by decide) (by decide) dX4_save_28 ?_
  exact hm_i hQ hx hb hr hlk rfl () (rfl) trivial hP hD hS (by decide) (by decide) dX4_save_29
theorem kX4_restore : hkV RX4 yX4_restore cX4_restore 1 (some .int) 0 := ⟨q2744, q2745, q78, q2746, rfl, by decide +kernel⟩
set_option maxHeartbeats 4000000 in
theorem mX4_restore0 (l : Launch) (g : hG) (E : hEnv) (ho : mOk g E) (h0 : Nat) (a : Nat → Nat) (I : Nat → Int32) (F : Nat → Nat → Int32) (hz : I 6 = 0) : MM l yX4_restore cX4_restore 1 (some .int) 1 22 0 0 [.ref h0] g E (mW g h0 a I F) (S := Unit) (fun _ => (some (.int 0))) (fun _ => True) (fun _ => mW g h0 a (upd I 1 1) F) := by
  refine MM.mk (by decide) (Nat.le_of_ble_eq_true rfl) ?_
  intro p e R s m args below meth c Q A H locs ls hX hRc hRs hP hD hE hS hA hnm hl hQ
  obtain ⟨hx, hb, hr, hlk, hml, hown, hts, hRf, hRl⟩ := hX
  have hown : s.vm.findClass RX4 = some m.cls := hown
  have hK := ho.2 _ _ _ hE
  have hl : lv_has ls 1 [(0, .ref h0)] := hl
  refine lv_aload_n hx hb dX4_restore_0 rfl (lv_at hl 0 rfl) ?_
  refine lv_aload_n hx hb dX4_restore_1 rfl (lv_at hl 0 rfl) ?_
  refine va_get (D := gD g) (ci := 0) (v := .int (I 6)) (C := RX4) (T := TX4) (N := 21) hx hb hts in_X4 hown hK hP 0 rfl rfl 10 (by decide) (hts _ q2324) (fun _ h9 => h9) rfl dX4_restore_2 ?_
  refine lv_if_ne (tgt := 12) hx hb dX4_restore_5 (by decide) (fun c_1 => ?_) (fun c_1 => ?_)
  · exact (c_1 hz).elim
  refine lv_iconst (v := 1) hx hb dX4_restore_8 (by decide) ?_
  refine lv_goto (tgt := 13) hx hb dX4_restore_9 (by decide) ?_
  refine lv_iconst (v := 1) hx hb dX4_restore_13 (by decide) ?_
  refine mcV (As := [.int 1, .int 1]) (rest := []) (wr := []) (mX4_isThrown1 l g E ho h0 a I F 1) kX4_isThrown q2574 hx hb hml hown hts hRf hRl ho.1 hE hS hP hD hA [0, 1, 2, 3, 4, 5, 6, 7, 8] [] rfl (by decide) rfl (by decide) (by decide) ⟨Nat.zero_le _, Nat.zero_le _⟩ (va_recv hK hP (ci := 0) (q0 := 0) rfl rfl) hl ⟨rfl, rfl⟩ rfl rfl (Nat.le_of_ble_eq_true rfl) dX4_restore_14 (fun _ H locs _ hP hD hS _ _ => ?_)
  have hP : va_P (gD g) Cl (mW g h0 a (upd I 1 1) F) H := hP
  have hD : va_D A (mW g h0 a (upd I 1 1) F) := hD
  refine lv_if_eq (tgt := 22) hx hb dX4_restore_17 (by decide) (fun c => absurd c (by decide)) (fun _ => ?_)
  refine lv_iconst (v := 0) hx hb dX4_restore_20 (by decide) ?_
  exact hm_i hQ hx hb hr hlk rfl () (rfl) trivial hP hD hS (by decide) (by decide) dX4_restore_21
set_option maxHeartbeats 4000000 in
theorem mX4_restore1 (l : Launch) (g : hG) (E : hEnv) (ho : mOk g E) (h0 : Nat) (a : Nat → Nat) (I : Nat → Int32) (F : Nat → Nat → Int32) (hz : I 6 = 1) : MM l yX4_restore cX4_restore 1 (some .int) 1 24 0 0 [.ref h0] g E (mW g h0 a I F) (S := Unit) (fun _ => (some (.int ((va_cpy (F 2) (F 0) 0 0 195) 1)))) (fun _ => True) (fun _ => mW g h0 a (upd (upd I 1 0) 0 0) (va_up F 0 (va_cpy (F 2) (F 0) 0 0 195))) := by
  refine MM.mk (by decide) (Nat.le_of_ble_eq_true rfl) ?_
  intro p e R s m args below meth c Q A H locs ls hX hRc hRs hP hD hE hS hA hnm hl hQ
  obtain ⟨hx, hb, hr, hlk, hml, hown, hts, hRf, hRl⟩ := hX
  have hown : s.vm.findClass RX4 = some m.cls := hown
  have hK := ho.2 _ _ _ hE
  have hl : lv_has ls 1 [(0, .ref h0)] := hl
  refine lv_aload_n hx hb dX4_restore_0 rfl (lv_at hl 0 rfl) ?_
  refine lv_aload_n hx hb dX4_restore_1 rfl (lv_at hl 0 rfl) ?_
  refine va_get (D := gD g) (ci := 0) (v := .int (I 6)) (C := RX4) (T := TX4) (N := 21) hx hb hts in_X4 hown hK hP 0 rfl rfl 10 (by decide) (hts _ q2324) (fun _ h9 => h9) rfl dX4_restore_2 ?_
  refine lv_if_ne (tgt := 12) hx hb dX4_restore_5 (by decide) (fun c_1 => ?_) (fun c_1 => ?_)
  · refine lv_iconst (v := 0) hx hb dX4_restore_12 (by decide) ?_
    refine lv_iconst (v := 1) hx hb dX4_restore_13 (by decide) ?_
    refine mcV (As := [.int 0, .int 1]) (rest := []) (wr := []) (mX4_isThrown0 l g E ho h0 a I F 1) kX4_isThrown q2574 hx hb hml hown hts hRf hRl ho.1 hE hS hP hD hA [0, 1, 2, 3, 4, 5, 6, 7, 8] [] rfl (by decide) rfl (by decide) (by decide) ⟨Nat.zero_le _, Nat.zero_le _⟩ (va_recv hK hP (ci := 0) (q0 := 0) rfl rfl) hl ⟨rfl, rfl⟩ rfl rfl (Nat.le_of_ble_eq_true rfl) dX4_restore_14 (fun _ H locs _ hP hD hS _ _ => ?_)
    have hP : va_P (gD g) Cl (mW g h0 a (upd I 1 0) F) H := hP
    have hD : va_D A (mW g h0 a (upd I 1 0) F) := hD
    refine lv_if_eq (tgt := 22) hx hb dX4_restore_17 (by decide) (fun _ => ?_) (fun c => absurd c (by decide))
    refine lv_aload_n hx hb dX4_restore_22 rfl (lv_at hl 0 rfl) ?_
    refine va_get (D := gD g) (ci := 0) (v := .ref (a 2)) (C := RX4) (T := TX4) (N := 21) hx hb hts in_X4 hown hK hP 0 rfl rfl 2 (by decide) (hts _ q2316) (fun _ h9 => h9) rfl dX4_restore_23 ?_
    refine lv_iconst (v := 0) hx hb dX4_restore_26 (by decide) ?_
    refine lv_aload_n hx hb dX4_restore_27 rfl (lv_at hl 0 rfl) ?_
    refine va_get (D := gD g) (ci := 0) (v := .ref (a 0)) (C := RX4) (T := TX4) (N := 21) hx hb hts in_X4 hown hK hP 0 rfl rfl 0 (by decide) (hts _ q2314) (fun _ h9 => h9) rfl dX4_restore_28 ?_
    refine lv_iconst (v := 0) hx hb dX4_restore_31 (by decide) ?_
    refine mcS (As := [.ref (a 2), .int 0, .ref (a 0), .int 0]) (rest := []) (st0 := [.int 0, .ref (a 0), .int 0, .ref (a 2)]) (wr := [(h0, .inr (0, mO a (upd I 1 0))), (a 1, .inl (g.2.2.1 0, 195, .inl (F 1))), (a 3, .inl (g.2.2.1 0, 1560, .inl (F 3))), (a 5, .inl (g.2.2.1 0, 60, .inl (F 4))), (a 6, .inl (g.2.2.1 0, 36, .inl (F 5))), (a 7, .inl (g.2.2.1 0, 260, .inl (F 6))), (a 4, .inl (g.2.2.1 5, 8, .inr (.inr (.inr (.inr (fun j => some (gA g (60 + j))))))))]) (mX4_copies2 l g E ho (a 2) 195 (F 2) (a 0) 195 (F 0) 0 0 (by omega) (by omega) (by decide) (by decide)) kX4_copies q2394 hx hb hml hown hts hRf hRl ho.1 hE hS hP hD hA [3, 1] [0, 2, 4, 5, 6, 7, 8] rfl (by decide) rfl (by decide) (by decide) ⟨Nat.zero_le _, Nat.zero_le _⟩ hl ⟨rfl, rfl⟩ rfl rfl (Nat.le_of_ble_eq_true rfl) dX4_restore_32 (fun _ H locs _ hP hD hS _ _ => ?_)
    have hP := hP.sub (ws' := (mW g h0 a (upd I 1 0) (va_up F 0 (va_cpy (F 2) (F 0) 0 0 195)))) [0, 8, 1, 7, 2, 3, 4, 5, 6] rfl
    have hD := hD.sub (ws' := (mW g h0 a (upd I 1 0) (va_up F 0 (va_cpy (F 2) (F 0) 0 0 195)))) [0, 8, 1, 7, 2, 3, 4, 5, 6] (by decide) rfl
    refine lv_aload_n hx hb dX4_restore_35 rfl (lv_at hl 0 rfl) ?_
    refine lv_iconst (v := 0) hx hb dX4_restore_36 (by decide) ?_
    refine va_put (D := gD g) (ci := 0) (v := .int 0) (ty := .int) (C := RX4) (T := TX4) (N := 21) hx hb hts in_X4 tyX4 tyX4_ok nmX4 hown hK hP hD hS 0 rfl rfl 4 (by decide) (hts _ q2318) (fun _ h9 => h9) rfl (by decide +kernel) rfl rfl (Nat.le_of_ble_eq_true rfl) dX4_restore_37 (fun H locs hP hD hS => ?_)
    have hP : va_P (gD g) Cl (mW g h0 a (upd (upd I 1 0) 0 0) (va_up F 0 (va_cpy (F 2) (F 0) 0 0 195))) H := hP
    have hD : va_D A (mW g h0 a (upd (upd I 1 0) 0 0) (va_up F 0 (va_cpy (F 2) (F 0) 0 0 195))) := hD
    refine lv_aload_n hx hb dX4_restore_40 rfl (lv_at hl 0 rfl) ?_
    refine va_get (D := gD g) (ci := 0) (v := .ref (a 0)) (C := RX4) (T := TX4) (N := 21) hx hb hts in_X4 hown hK hP 0 rfl rfl 0 (by decide) (hts _ q2314) (fun _ h9 => h9) rfl dX4_restore_41 ?_
    refine lv_iconst (v := 1) hx hb dX4_restore_44 (by decide) ?_
    refine h_iald (f := (va_cpy (F 2) (F 0) 0 0 195)) hx hb hK hP 1 0 rfl rfl 1 rfl (by decide) (by decide) dX4_restore_45 ?_
    exact hm_i hQ hx hb hr hlk rfl () (rfl) trivial hP hD hS (by decide) (by decide) dX4_restore_46
  exact (show False from absurd (hz.symm.trans c_1) (by decide)).elim
theorem kX4_feed : hkV RX4 yX4_feed cX4_feed 2 (some .int) 1 := ⟨q2631, q2632, q78, q2633, rfl, by decide +kernel⟩
set_option maxHeartbeats 4000000 in
theorem mX4_feed0 (l : Launch) (g : hG) (E : hEnv) (ho : mOk g E) (h0 : Nat) (a : Nat → Nat) (I : Nat → Int32) (F : Nat → Nat → Int32) (ch : Int32) (hz : I 7 = nI 60) : MM l yX4_feed cX4_feed 2 (some .int) 1 22 0 0 [.ref h0, .int ch] g E (mW g h0 a I F) (S := Unit) (fun _ => (some (.int 0))) (fun _ => True) (fun _ => mW g h0 a (upd I 1 1) F) := by
  refine MM.mk (by decide) (Nat.le_of_ble_eq_true rfl) ?_
  intro p e R s m args below meth c Q A H locs ls hX hRc hRs hP hD hE hS hA hnm hl hQ
  obtain ⟨hx, hb, hr, hlk, hml, hown, hts, hRf, hRl⟩ := hX
  have hown : s.vm.findClass RX4 = some m.cls := hown
  have hK := ho.2 _ _ _ hE
  have hl : lv_has ls 2 [(0, .ref h0), (1, .int ch)] := hl
  refine lv_aload_n hx hb dX4_feed_0 rfl (lv_at hl 0 rfl) ?_
  refine lv_aload_n hx hb dX4_feed_1 rfl (lv_at hl 0 rfl) ?_
  refine va_get (D := gD g) (ci := 0) (v := .int (I 7)) (C := RX4) (T := TX4) (N := 21) hx hb hts in_X4 hown hK hP 0 rfl rfl 14 (by decide) (hts _ q2328) (fun _ h9 => h9) rfl dX4_feed_2 ?_
  refine lv_bipush (v := 60) hx hb dX4_feed_5 (by decide) ?_
  refine lv_icmp_ne (tgt := 14) hx hb dX4_feed_7 (by decide) (fun c_1 => ?_) (fun c_1 => ?_)
  · exact (c_1 hz).elim
  refine lv_iconst (v := 1) hx hb dX4_feed_10 (by decide) ?_
  refine lv_goto (tgt := 15) hx hb dX4_feed_11 (by decide) ?_
  refine lv_iconst (v := 1) hx hb dX4_feed_15 (by decide) ?_
  refine mcV (As := [.int 1, .int 1]) (rest := []) (wr := []) (mX4_isThrown1 l g E ho h0 a I F 1) kX4_isThrown q2574 hx hb hml hown hts hRf hRl ho.1 hE hS hP hD hA [0, 1, 2, 3, 4, 5, 6, 7, 8] [] rfl (by decide) rfl (by decide) (by decide) ⟨Nat.zero_le _, Nat.zero_le _⟩ (va_recv hK hP (ci := 0) (q0 := 0) rfl rfl) hl ⟨rfl, rfl⟩ rfl rfl (Nat.le_of_ble_eq_true rfl) dX4_feed_16 (fun _ H locs _ hP hD hS _ _ => ?_)
  have hP : va_P (gD g) Cl (mW g h0 a (upd I 1 1) F) H := hP
  have hD : va_D A (mW g h0 a (upd I 1 1) F) := hD
  refine lv_if_eq (tgt := 24) hx hb dX4_feed_19 (by decide) (fun c => absurd c (by decide)) (fun _ => ?_)
  refine lv_iconst (v := 0) hx hb dX4_feed_22 (by decide) ?_
  exact hm_i hQ hx hb hr hlk rfl () (rfl) trivial hP hD hS (by decide) (by decide) dX4_feed_23
set_option maxHeartbeats 4000000 in
theorem mX4_feed1 (l : Launch) (g : hG) (E : hEnv) (ho : mOk g E) (h0 : Nat) (a : Nat → Nat) (I : Nat → Int32) (F : Nat → Nat → Int32) (ch : Int32) (tp : Nat) (hz : I 7 = nI tp) (ht6 : tp < 60) : MM l yX4_feed cX4_feed 2 (some .int) 1 22 0 0 [.ref h0, .int ch] g E (mW g h0 a I F) (S := Unit) (fun _ => (some (.int (nI (tp + 1))))) (fun _ => True) (fun _ => mW g h0 a (upd (upd I 1 0) 7 (nI (tp + 1))) (va_up F 4 (upd (F 4) tp ch))) := by
  refine MM.mk (by decide) (Nat.le_of_ble_eq_true rfl) ?_
  intro p e R s m args below meth c Q A H locs ls hX hRc hRs hP hD hE hS hA hnm hl hQ
  obtain ⟨hx, hb, hr, hlk, hml, hown, hts, hRf, hRl⟩ := hX
  have hown : s.vm.findClass RX4 = some m.cls := hown
  have hK := ho.2 _ _ _ hE
  have hl : lv_has ls 2 [(0, .ref h0), (1, .int ch)] := hl
  refine lv_aload_n hx hb dX4_feed_0 rfl (lv_at hl 0 rfl) ?_
  refine lv_aload_n hx hb dX4_feed_1 rfl (lv_at hl 0 rfl) ?_
  refine va_get (D := gD g) (ci := 0) (v := .int (I 7)) (C := RX4) (T := TX4) (N := 21) hx hb hts in_X4 hown hK hP 0 rfl rfl 14 (by decide) (hts _ q2328) (fun _ h9 => h9) rfl dX4_feed_2 ?_
  refine h_topi (v := nI tp) (hz) ?_
  refine lv_bipush (v := 60) hx hb dX4_feed_5 (by decide) ?_
  refine lv_icmp_ne (tgt := 14) hx hb dX4_feed_7 (by decide) (fun c_1 => ?_) (fun c_1 => ?_)
  · refine lv_iconst (v := 0) hx hb dX4_feed_14 (by decide) ?_
    refine lv_iconst (v := 1) hx hb dX4_feed_15 (by decide) ?_
    refine mcV (As := [.int 0, .int 1]) (rest := []) (wr := []) (mX4_isThrown0 l g E ho h0 a I F 1) kX4_isThrown q2574 hx hb hml hown hts hRf hRl ho.1 hE hS hP hD hA [0, 1, 2, 3, 4, 5, 6, 7, 8] [] rfl (by decide) rfl (by decide) (by decide) ⟨Nat.zero_le _, Nat.zero_le _⟩ (va_recv hK hP (ci := 0) (q0 := 0) rfl rfl) hl ⟨rfl, rfl⟩ rfl rfl (Nat.le_of_ble_eq_true rfl) dX4_feed_16 (fun _ H locs _ hP hD hS _ _ => ?_)
    have hP : va_P (gD g) Cl (mW g h0 a (upd I 1 0) F) H := hP
    have hD : va_D A (mW g h0 a (upd I 1 0) F) := hD
    refine lv_if_eq (tgt := 24) hx hb dX4_feed_19 (by decide) (fun _ => ?_) (fun c => absurd c (by decide))
    refine lv_aload_n hx hb dX4_feed_24 rfl (lv_at hl 0 rfl) ?_
    refine va_get (D := gD g) (ci := 0) (v := .ref (a 5)) (C := RX4) (T := TX4) (N := 21) hx hb hts in_X4 hown hK hP 0 rfl rfl 12 (by decide) (hts _ q2326) (fun _ h9 => h9) rfl dX4_feed_25 ?_
    refine lv_aload_n hx hb dX4_feed_28 rfl (lv_at hl 0 rfl) ?_
    refine va_get (D := gD g) (ci := 0) (v := .int (I 7)) (C := RX4) (T := TX4) (N := 21) hx hb hts in_X4 hown hK hP 0 rfl rfl 14 (by decide) (hts _ q2328) (fun _ h9 => h9) rfl dX4_feed_29 ?_
    refine h_topi (v := nI tp) (hz) ?_
    refine lv_iload_n hx hb dX4_feed_32 rfl (lv_at hl 1 rfl) ?_
    refine h_iast (f := (F 4)) hx hb hK hP hD hS 5 0 rfl rfl tp rfl (by omega) (by decide) dX4_feed_33 (fun H locs hP hD hS => ?_)
    have hP : va_P (gD g) Cl (mW g h0 a (upd I 1 0) (va_up F 4 (upd (F 4) tp ch))) H := hP
    have hD : va_D A (mW g h0 a (upd I 1 0) (va_up F 4 (upd (F 4) tp ch))) := hD
    refine lv_aload_n hx hb dX4_feed_34 rfl (lv_at hl 0 rfl) ?_
    refine lv_dup hx hb dX4_feed_35 rfl ?_
    refine va_get (D := gD g) (ci := 0) (v := .int (I 7)) (C := RX4) (T := TX4) (N := 21) hx hb hts in_X4 hown hK hP 0 rfl rfl 14 (by decide) (hts _ q2328) (fun _ h9 => h9) rfl dX4_feed_36 ?_
    refine h_topi (v := nI tp) (hz) ?_
    refine lv_iconst (v := 1) hx hb dX4_feed_39 (by decide) ?_
    refine lv_iadd hx hb dX4_feed_40 ?_
    refine h_topi (v := nI (tp + 1)) (h_nadd (a := tp) (b := 1) (rfl) (rfl)) ?_
    refine va_put (D := gD g) (ci := 0) (v := .int (nI (tp + 1))) (ty := .int) (C := RX4) (T := TX4) (N := 21) hx hb hts in_X4 tyX4 tyX4_ok nmX4 hown hK hP hD hS 0 rfl rfl 14 (by decide) (hts _ q2328) (fun _ h9 => h9) rfl (by decide +kernel) rfl rfl (Nat.le_of_ble_eq_true rfl) dX4_feed_41 (fun H locs hP hD hS => ?_)
    have hP : va_P (gD g) Cl (mW g h0 a (upd (upd I 1 0) 7 (nI (tp + 1))) (va_up F 4 (upd (F 4) tp ch))) H := hP
    have hD : va_D A (mW g h0 a (upd (upd I 1 0) 7 (nI (tp + 1))) (va_up F 4 (upd (F 4) tp ch))) := hD
    refine lv_aload_n hx hb dX4_feed_44 rfl (lv_at hl 0 rfl) ?_
    refine va_get (D := gD g) (ci := 0) (v := .int (nI (tp + 1))) (C := RX4) (T := TX4) (N := 21) hx hb hts in_X4 hown hK hP 0 rfl rfl 14 (by decide) (hts _ q2328) (fun _ h9 => h9) rfl dX4_feed_45 ?_
    exact hm_i hQ hx hb hr hlk rfl () (rfl) trivial hP hD hS (by decide) (by decide) dX4_feed_48
  exact (show False by have z := (nI_eq (a := tp) (b := 60) (by omega) (by decide)).mp c_1; omega).elim
theorem kX4_faultPosition : hkV RX4 yX4_faultPosition cX4_faultPosition 1 (some .int) 0 := ⟨q2676, q2677, q78, q2678, rfl, by decide +kernel⟩
set_option maxHeartbeats 4000000 in
theorem mX4_faultPosition (l : Launch) (g : hG) (E : hEnv) (ho : mOk g E) (h0 : Nat) (a : Nat → Nat) (I : Nat → Int32) (F : Nat → Nat → Int32) : MM l yX4_faultPosition cX4_faultPosition 1 (some .int) 1 22 0 0 [.ref h0] g E (mW g h0 a I F) (S := Unit) (fun _ => (some (.int ((gFault I).2)))) (fun _ => True) (fun _ => mW g h0 a (upd I 1 (gFault I).1) F) := by
  refine MM.mk (by decide) (Nat.le_of_ble_eq_true rfl) ?_
  intro p e R s m args below meth c Q A H locs ls hX hRc hRs hP hD hE hS hA hnm hl hQ
  obtain ⟨hx, hb, hr, hlk, hml, hown, hts, hRf, hRl⟩ := hX
  have hown : s.vm.findClass RX4 = some m.cls := hown
  have hK := ho.2 _ _ _ hE
  have hl : lv_has ls 1 [(0, .ref h0)] := hl
  refine lv_aload_n hx hb dX4_faultPosition_0 rfl (lv_at hl 0 rfl) ?_
  refine lv_aload_n hx hb dX4_faultPosition_1 rfl (lv_at hl 0 rfl) ?_
  refine va_get (D := gD g) (ci := 0) (v := .int (I 11)) (C := RX4) (T := TX4) (N := 21) hx hb hts in_X4 hown hK hP 0 rfl rfl 18 (by decide) (hts _ q2332) (fun _ h9 => h9) rfl dX4_faultPosition_2 ?_
  refine lv_if_ge (tgt := 12) hx hb dX4_faultPosition_5 (by decide) (fun c_1 => ?_) (fun c_1 => ?_)
  · refine lv_iconst (v := 0) hx hb dX4_faultPosition_12 (by decide) ?_
    refine lv_iconst (v := 1) hx hb dX4_faultPosition_13 (by decide) ?_
    refine mcV (As := [.int 0, .int 1]) (rest := []) (wr := []) (mX4_isThrown0 l g E ho h0 a I F 1) kX4_isThrown q2574 hx hb hml hown hts hRf hRl ho.1 hE hS hP hD hA [0, 1, 2, 3, 4, 5, 6, 7, 8] [] rfl (by decide) rfl (by decide) (by decide) ⟨Nat.zero_le _, Nat.zero_le _⟩ (va_recv hK hP (ci := 0) (q0 := 0) rfl rfl) hl ⟨rfl, rfl⟩ rfl rfl (Nat.le_of_ble_eq_true rfl) dX4_faultPosition_14 (fun _ H locs _ hP hD hS _ _ => ?_)
    have hP : va_P (gD g) Cl (mW g h0 a (upd I 1 0) F) H := hP
    have hD : va_D A (mW g h0 a (upd I 1 0) F) := hD
    refine lv_if_eq (tgt := 24) hx hb dX4_faultPosition_17 (by decide) (fun _ => ?_) (fun c => absurd c (by decide))
    refine lv_aload_n hx hb dX4_faultPosition_24 rfl (lv_at hl 0 rfl) ?_
    refine va_get (D := gD g) (ci := 0) (v := .int (I 11)) (C := RX4) (T := TX4) (N := 21) hx hb hts in_X4 hown hK hP 0 rfl rfl 18 (by decide) (hts _ q2332) (fun _ h9 => h9) rfl dX4_faultPosition_25 ?_
    have hop : gFault I = (0, I 11) := by simp only [gFault, eq_true c_1, eq_false (Int32.not_lt.mpr c_1), if_true, if_false, not_true_eq_false, not_false_eq_true, ite_true, ite_false, reduceIte, Nat.add_zero, Nat.add_sub_cancel]
    have hW1 : (mW g h0 a (upd I 1 0) F) = mW g h0 a (upd I 1 (gFault I).1) F := by
      rw [hop]
    rw [hW1] at hP hD
    exact hm_i hQ hx hb hr hlk rfl () (by rw [hop]) trivial hP hD hS (by decide) (by decide) dX4_faultPosition_28
  refine lv_iconst (v := 1) hx hb dX4_faultPosition_8 (by decide) ?_
  refine lv_goto (tgt := 13) hx hb dX4_faultPosition_9 (by decide) ?_
  refine lv_iconst (v := 1) hx hb dX4_faultPosition_13 (by decide) ?_
  refine mcV (As := [.int 1, .int 1]) (rest := []) (wr := []) (mX4_isThrown1 l g E ho h0 a I F 1) kX4_isThrown q2574 hx hb hml hown hts hRf hRl ho.1 hE hS hP hD hA [0, 1, 2, 3, 4, 5, 6, 7, 8] [] rfl (by decide) rfl (by decide) (by decide) ⟨Nat.zero_le _, Nat.zero_le _⟩ (va_recv hK hP (ci := 0) (q0 := 0) rfl rfl) hl ⟨rfl, rfl⟩ rfl rfl (Nat.le_of_ble_eq_true rfl) dX4_faultPosition_14 (fun _ H locs _ hP hD hS _ _ => ?_)
  have hP : va_P (gD g) Cl (mW g h0 a (upd I 1 1) F) H := hP
  have hD : va_D A (mW g h0 a (upd I 1 1) F) := hD
  refine lv_if_eq (tgt := 24) hx hb dX4_faultPosition_17 (by decide) (fun c => absurd c (by decide)) (fun _ => ?_)
  refine lv_iconst (v := 0) hx hb dX4_faultPosition_20 (by decide) ?_
  refine lv_goto (tgt := 28) hx hb dX4_faultPosition_21 (by decide) ?_
  have hop : gFault I = (1, 0) := by simp only [gFault, eq_false c_1, eq_true (Int32.not_le.mp c_1), if_true, if_false, not_true_eq_false, not_false_eq_true, ite_true, ite_false, reduceIte, Nat.add_zero, Nat.add_sub_cancel]
  have hW1 : (mW g h0 a (upd I 1 1) F) = mW g h0 a (upd I 1 (gFault I).1) F := by
    rw [hop]
  rw [hW1] at hP hD
  exact hm_i hQ hx hb hr hlk rfl () (by rw [hop]) trivial hP hD hS (by decide) (by decide) dX4_faultPosition_28
theorem kX4_reason : hkV RX4 yX4_reason cX4_reason 2 (some .int) 1 := ⟨q2680, q2681, q78, q2682, rfl, by decide +kernel⟩
set_option maxHeartbeats 4000000 in
theorem mX4_reason (l : Launch) (g : hG) (E : hEnv) (ho : mOk g E) (h0 : Nat) (a : Nat → Nat) (I : Nat → Int32) (F : Nat → Nat → Int32) (p0 : Int32) : MM l yX4_reason cX4_reason 2 (some .int) 1 22 0 0 [.ref h0, .int p0] g E (mW g h0 a I F) (S := Unit) (fun _ => (some (.int ((gReason I p0).2)))) (fun _ => True) (fun _ => mW g h0 a (upd I 1 (gReason I p0).1) F) := by
  refine MM.mk (by decide) (Nat.le_of_ble_eq_true rfl) ?_
  intro p e R s m args below meth c Q A H locs ls hX hRc hRs hP hD hE hS hA hnm hl hQ
  obtain ⟨hx, hb, hr, hlk, hml, hown, hts, hRf, hRl⟩ := hX
  have hown : s.vm.findClass RX4 = some m.cls := hown
  have hK := ho.2 _ _ _ hE
  have hl : lv_has ls 2 [(0, .ref h0), (1, .int p0)] := hl
  refine lv_aload_n hx hb dX4_reason_0 rfl (lv_at hl 0 rfl) ?_
  refine lv_iload_n hx hb dX4_reason_1 rfl (lv_at hl 1 rfl) ?_
  refine lv_iconst (v := 0) hx hb dX4_reason_2 (by decide) ?_
  refine lv_iconst (v := 2) hx hb dX4_reason_3 (by decide) ?_
  refine rcS (As := [.int p0, .int 0, .int 2]) (rest := [.ref h0]) (st1 := [.int (if inR p0 0 2 then 1 else 0), .ref h0]) (mX4_isIn l g E ho p0 0 2) kX4_isIn q2397 hx hb hml hown hts hRf hRl ho.1 hE hS (hP.sub [] rfl) ⟨Nat.zero_le _, Nat.zero_le _⟩ hl ⟨rfl, rfl⟩ rfl rfl (Nat.le_of_ble_eq_true rfl) rfl dX4_reason_4 ?_
  refine h_ifne_b (tgt := 14) hx hb dX4_reason_7 (by decide) (fun c_1 => ?_) (fun c_1 => ?_)
  · refine lv_iconst (v := 0) hx hb dX4_reason_14 (by decide) ?_
    refine lv_iconst (v := 1) hx hb dX4_reason_15 (by decide) ?_
    refine mcV (As := [.int 0, .int 1]) (rest := []) (wr := []) (mX4_isThrown0 l g E ho h0 a I F 1) kX4_isThrown q2574 hx hb hml hown hts hRf hRl ho.1 hE hS hP hD hA [0, 1, 2, 3, 4, 5, 6, 7, 8] [] rfl (by decide) rfl (by decide) (by decide) ⟨Nat.zero_le _, Nat.zero_le _⟩ (va_recv hK hP (ci := 0) (q0 := 0) rfl rfl) hl ⟨rfl, rfl⟩ rfl rfl (Nat.le_of_ble_eq_true rfl) dX4_reason_16 (fun _ H locs _ hP hD hS _ _ => ?_)
    have hP : va_P (gD g) Cl (mW g h0 a (upd I 1 0) F) H := hP
    have hD : va_D A (mW g h0 a (upd I 1 0) F) := hD
    refine lv_if_ne (tgt := 42) hx hb dX4_reason_19 (by decide) (fun c => absurd c (by decide)) (fun _ => ?_)
    refine lv_aload_n hx hb dX4_reason_22 rfl (lv_at hl 0 rfl) ?_
    refine lv_aload_n hx hb dX4_reason_23 rfl (lv_at hl 0 rfl) ?_
    refine va_get (D := gD g) (ci := 0) (v := .int (I 2)) (C := RX4) (T := TX4) (N := 21) hx hb hts in_X4 hown hK hP 0 rfl rfl 6 (by decide) (hts _ q2320) (fun _ h9 => h9) rfl dX4_reason_24 ?_
    refine lv_if_ne (tgt := 34) hx hb dX4_reason_27 (by decide) (fun c_2 => ?_) (fun c_2 => ?_)
    · refine lv_iconst (v := 0) hx hb dX4_reason_34 (by decide) ?_
      refine lv_iconst (v := 2) hx hb dX4_reason_35 (by decide) ?_
      refine mcV (As := [.int 0, .int 2]) (rest := []) (wr := []) (mX4_isThrown0 l g E ho h0 a (upd I 1 0) F 2) kX4_isThrown q2574 hx hb hml hown hts hRf hRl ho.1 hE hS hP hD hA [0, 1, 2, 3, 4, 5, 6, 7, 8] [] rfl (by decide) rfl (by decide) (by decide) ⟨Nat.zero_le _, Nat.zero_le _⟩ (va_recv hK hP (ci := 0) (q0 := 0) rfl rfl) hl ⟨rfl, rfl⟩ rfl rfl (Nat.le_of_ble_eq_true rfl) dX4_reason_36 (fun _ H locs _ hP hD hS _ _ => ?_)
      have hP : va_P (gD g) Cl (mW g h0 a (upd I 1 0) F) H := hP
      have hD : va_D A (mW g h0 a (upd I 1 0) F) := hD
      refine lv_if_eq (tgt := 44) hx hb dX4_reason_39 (by decide) (fun _ => ?_) (fun c => absurd c (by decide))
      refine lv_iload_n hx hb dX4_reason_44 rfl (lv_at hl 1 rfl) ?_
      refine lv_if_ne (tgt := 55) hx hb dX4_reason_45 (by decide) (fun c_3 => ?_) (fun c_3 => ?_)
      · refine lv_iload_n hx hb dX4_reason_55 rfl (lv_at hl 1 rfl) ?_
        refine lv_iconst (v := 1) hx hb dX4_reason_56 (by decide) ?_
        refine lv_icmp_ne (tgt := 67) hx hb dX4_reason_57 (by decide) (fun c_4 => ?_) (fun c_4 => ?_)
        · refine lv_aload_n hx hb dX4_reason_67 rfl (lv_at hl 0 rfl) ?_
          refine va_get (D := gD g) (ci := 0) (v := .int (I 4)) (C := RX4) (T := TX4) (N := 21) hx hb hts in_X4 hown hK hP 0 rfl rfl 8 (by decide) (hts _ q2322) (fun _ h9 => h9) rfl dX4_reason_68 ?_
          have hop : gReason I p0 = (0, I 4) := by simp only [gReason, eq_true c_1, eq_false c_2, eq_false c_3, eq_false c_4, if_true, if_false, not_true_eq_false, not_false_eq_true, ite_true, ite_false, reduceIte, Nat.add_zero, Nat.add_sub_cancel]
          have hW1 : (mW g h0 a (upd I 1 0) F) = mW g h0 a (upd I 1 (gReason I p0).1) F := by
            rw [hop]
          rw [hW1] at hP hD
          exact hm_i hQ hx hb hr hlk rfl () (by rw [hop]) trivial hP hD hS (by decide) (by decide) dX4_reason_71
        refine lv_aload_n hx hb dX4_reason_60 rfl (lv_at hl 0 rfl) ?_
        refine va_get (D := gD g) (ci := 0) (v := .int (I 3)) (C := RX4) (T := TX4) (N := 21) hx hb hts in_X4 hown hK hP 0 rfl rfl 7 (by decide) (hts _ q2321) (fun _ h9 => h9) rfl dX4_reason_61 ?_
        refine lv_goto (tgt := 71) hx hb dX4_reason_64 (by decide) ?_
        have hop : gReason I p0 = (0, I 3) := by simp only [gReason, eq_true c_1, eq_false c_2, eq_false c_3, eq_true c_4, if_true, if_false, not_true_eq_false, not_false_eq_true, ite_true, ite_false, reduceIte, Nat.add_zero, Nat.add_sub_cancel]
        have hW1 : (mW g h0 a (upd I 1 0) F) = mW g h0 a (upd I 1 (gReason I p0).1) F := by
          rw [hop]
        rw [hW1] at hP hD
        exact hm_i hQ hx hb hr hlk rfl () (by rw [hop]) trivial hP hD hS (by decide) (by decide) dX4_reason_71
      refine lv_aload_n hx hb dX4_reason_48 rfl (lv_at hl 0 rfl) ?_
      refine va_get (D := gD g) (ci := 0) (v := .int (I 2)) (C := RX4) (T := TX4) (N := 21) hx hb hts in_X4 hown hK hP 0 rfl rfl 6 (by decide) (hts _ q2320) (fun _ h9 => h9) rfl dX4_reason_49 ?_
      refine lv_goto (tgt := 71) hx hb dX4_reason_52 (by decide) ?_
      have hop : gReason I p0 = (0, I 2) := by simp only [gReason, eq_true c_1, eq_false c_2, eq_true c_3, if_true, if_false, not_true_eq_false, not_false_eq_true, ite_true, ite_false, reduceIte, Nat.add_zero, Nat.add_sub_cancel]
      have hW1 : (mW g h0 a (upd I 1 0) F) = mW g h0 a (upd I 1 (gReason I p0).1) F := by
        rw [hop]
      rw [hW1] at hP hD
      exact hm_i hQ hx hb hr hlk rfl () (by rw [hop]) trivial hP hD hS (by decide) (by decide) dX4_reason_71
    refine lv_iconst (v := 1) hx hb dX4_reason_30 (by decide) ?_
    refine lv_goto (tgt := 35) hx hb dX4_reason_31 (by decide) ?_
    refine lv_iconst (v := 2) hx hb dX4_reason_35 (by decide) ?_
    refine mcV (As := [.int 1, .int 2]) (rest := []) (wr := []) (mX4_isThrown1 l g E ho h0 a (upd I 1 0) F 2) kX4_isThrown q2574 hx hb hml hown hts hRf hRl ho.1 hE hS hP hD hA [0, 1, 2, 3, 4, 5, 6, 7, 8] [] rfl (by decide) rfl (by decide) (by decide) ⟨Nat.zero_le _, Nat.zero_le _⟩ (va_recv hK hP (ci := 0) (q0 := 0) rfl rfl) hl ⟨rfl, rfl⟩ rfl rfl (Nat.le_of_ble_eq_true rfl) dX4_reason_36 (fun _ H locs _ hP hD hS _ _ => ?_)
    have hP : va_P (gD g) Cl (mW g h0 a (upd I 1 2) F) H := hP
    have hD : va_D A (mW g h0 a (upd I 1 2) F) := hD
    refine lv_if_eq (tgt := 44) hx hb dX4_reason_39 (by decide) (fun c => absurd c (by decide)) (fun _ => ?_)
    refine lv_iconst (v := 0) hx hb dX4_reason_42 (by decide) ?_
    have hop : gReason I p0 = (2, 0) := by simp only [gReason, eq_true c_1, eq_true c_2, if_true, if_false, not_true_eq_false, not_false_eq_true, ite_true, ite_false, reduceIte, Nat.add_zero, Nat.add_sub_cancel]
    have hW1 : (mW g h0 a (upd I 1 2) F) = mW g h0 a (upd I 1 (gReason I p0).1) F := by
      rw [hop]
    rw [hW1] at hP hD
    exact hm_i hQ hx hb hr hlk rfl () (by rw [hop]) trivial hP hD hS (by decide) (by decide) dX4_reason_43
  refine lv_iconst (v := 1) hx hb dX4_reason_10 (by decide) ?_
  refine lv_goto (tgt := 15) hx hb dX4_reason_11 (by decide) ?_
  refine lv_iconst (v := 1) hx hb dX4_reason_15 (by decide) ?_
  refine mcV (As := [.int 1, .int 1]) (rest := []) (wr := []) (mX4_isThrown1 l g E ho h0 a I F 1) kX4_isThrown q2574 hx hb hml hown hts hRf hRl ho.1 hE hS hP hD hA [0, 1, 2, 3, 4, 5, 6, 7, 8] [] rfl (by decide) rfl (by decide) (by decide) ⟨Nat.zero_le _, Nat.zero_le _⟩ (va_recv hK hP (ci := 0) (q0 := 0) rfl rfl) hl ⟨rfl, rfl⟩ rfl rfl (Nat.le_of_ble_eq_true rfl) dX4_reason_16 (fun _ H locs _ hP hD hS _ _ => ?_)
  have hP : va_P (gD g) Cl (mW g h0 a (upd I 1 1) F) H := hP
  have hD : va_D A (mW g h0 a (upd I 1 1) F) := hD
  refine lv_if_ne (tgt := 42) hx hb dX4_reason_19 (by decide) (fun _ => ?_) (fun c => absurd c (by decide))
  refine lv_iconst (v := 0) hx hb dX4_reason_42 (by decide) ?_
  have hop : gReason I p0 = (1, 0) := by simp only [gReason, eq_false c_1, if_true, if_false, not_true_eq_false, not_false_eq_true, ite_true, ite_false, reduceIte, Nat.add_zero, Nat.add_sub_cancel]
  have hW1 : (mW g h0 a (upd I 1 1) F) = mW g h0 a (upd I 1 (gReason I p0).1) F := by
    rw [hop]
  rw [hW1] at hP hD
  exact hm_i hQ hx hb hr hlk rfl () (by rw [hop]) trivial hP hD hS (by decide) (by decide) dX4_reason_43
