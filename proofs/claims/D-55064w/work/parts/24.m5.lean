/-! THE REFERENCE: more orders -/
set_option maxRecDepth 100000
theorem kX4_weave : hkV RX4 yX4_weave cX4_weave 3 (some .int) 2 := ⟨q2465, q2466, q78, q2467, rfl, by decide +kernel⟩
set_option maxHeartbeats 4000000 in
theorem mX4_weave (l : Launch) (g : hG) (E : hEnv) (ho : mOk g E) (h0 : Nat) (a : Nat → Nat) (I : Nat → Int32) (F : Nat → Nat → Int32) (p0 : Int32) (p1 : Int32) (nt : Nat) (nh : Nat) (nb : Nat) (nc : Nat) (tw : Nat) (n : Nat) (hc : Cn (F 0) nt nh nb nc tw) (hn : I 0 = nI n) (hn8 : n ≤ 8) : MM l yX4_weave cX4_weave 3 (some .int) 4 88 0 0 [.ref h0, .int p0, .int p1] g E (mW g h0 a I F) (S := Unit) (fun _ => (some (.int ((opWeave (F 0) p0 p1).2.2.1)))) (fun _ => True) (fun _ => mW g h0 a (pubI I n (opWeave (F 0) p0 p1)) (pubF F n (opWeave (F 0) p0 p1))) := by
  refine MM.mk (by decide) (Nat.le_of_ble_eq_true rfl) ?_
  intro p e R s m args below meth c Q A H locs ls hX hRc hRs hP hD hE hS hA hnm hl hQ
  obtain ⟨hx, hb, hr, hlk, hml, hown, hts, hRf, hRl⟩ := hX
  have hown : s.vm.findClass RX4 = some m.cls := hown
  have hK := ho.2 _ _ _ hE
  have hl : lv_has ls 3 [(0, .ref h0), (1, .int p0), (2, .int p1)] := hl
  have hc0 := hc
  obtain ⟨htw, htw6, ht, ht10, hh, hh20, hb6, hb6l, hk5, hk5l⟩ := hc
  have htc : (nI nt).toNatClampNeg = nt := nI_clamp (by omega)
  have hhc : (nI nh).toNatClampNeg = nh := nI_clamp (by omega)
  have hbc : (nI nb).toNatClampNeg = nb := nI_clamp (by omega)
  have hkc : (nI nc).toNatClampNeg = nc := nI_clamp (by omega)
  have htwc : (nI tw).toNatClampNeg = tw := nI_clamp (by omega)
  refine lv_aload_n hx hb dX4_weave_0 rfl (lv_at hl 0 rfl) ?_
  refine mcV (As := []) (rest := []) (wr := []) (mX4_begins l g E ho h0 a I F) kX4_begins q2386 hx hb hml hown hts hRf hRl ho.1 hE hS hP hD hA [0, 1, 2, 3, 4, 5, 6, 7, 8] [] rfl (by decide) rfl (by decide) (by decide) ⟨Nat.zero_le _, Nat.zero_le _⟩ (va_recv hK hP (ci := 0) (q0 := 0) rfl rfl) hl ⟨rfl, rfl⟩ rfl rfl (Nat.le_of_ble_eq_true rfl) dX4_weave_1 (fun _ H locs _ hP hD hS _ _ => ?_)
  have hP : va_P (gD g) Cl (mW g h0 a (upd (upd I 5 0) 1 0) (va_up F 1 (va_cpy (F 0) (F 1) 0 0 195))) H := hP
  have hD : va_D A (mW g h0 a (upd (upd I 5 0) 1 0) (va_up F 1 (va_cpy (F 0) (F 1) 0 0 195))) := hD
  refine lv_aload_n hx hb dX4_weave_4 rfl (lv_at hl 0 rfl) ?_
  refine lv_aload_n hx hb dX4_weave_5 rfl (lv_at hl 0 rfl) ?_
  refine lv_iload_n hx hb dX4_weave_6 rfl (lv_at hl 1 rfl) ?_
  refine lv_iload_n hx hb dX4_weave_7 rfl (lv_at hl 2 rfl) ?_
  refine mcV (As := [.int p0, .int p1]) (rest := [.ref h0]) (wr := []) (mX4_weaves l g E ho h0 a (upd (upd I 5 0) 1 0) (va_up F 1 (va_cpy (F 0) (F 1) 0 0 195)) p0 p1 nt nh nb nc tw hc0) kX4_weaves q2468 hx hb hml hown hts hRf hRl ho.1 hE hS hP hD hA [0, 1, 2, 3, 4, 5, 6, 7, 8] [] rfl (by decide) rfl (by decide) (by decide) ⟨Nat.zero_le _, Nat.zero_le _⟩ (va_recv hK hP (ci := 0) (q0 := 0) rfl rfl) hl ⟨rfl, rfl⟩ rfl rfl (Nat.le_of_ble_eq_true rfl) dX4_weave_8 (fun _ H locs _ hP hD hS _ _ => ?_)
  have hP : va_P (gD g) Cl (mW g h0 a (opI (upd (upd I 5 0) 1 0) (opWeave (F 0) p0 p1)) (va_up (va_up F 0 ((opWeave (F 0) p0 p1).2.2.2)) 1 (va_cpy (F 0) (F 1) 0 0 195))) H := hP
  have hD : va_D A (mW g h0 a (opI (upd (upd I 5 0) 1 0) (opWeave (F 0) p0 p1)) (va_up (va_up F 0 ((opWeave (F 0) p0 p1).2.2.2)) 1 (va_cpy (F 0) (F 1) 0 0 195))) := hD
  by_cases hz : (opWeave (F 0) p0 p1).1 = 0
  · have hI : opI (upd (upd I 5 0) 1 0) (opWeave (F 0) p0 p1) = (upd (upd I 5 0) 1 0) := if_pos hz
    rw [hI] at hP hD
    refine mcV (As := [.int ((opWeave (F 0) p0 p1).2.2.1)]) (rest := []) (wr := []) (mX4_ends0 l g E ho h0 a (upd (upd I 5 0) 1 0) (va_up (va_up F 0 ((opWeave (F 0) p0 p1).2.2.2)) 1 (va_cpy (F 0) (F 1) 0 0 195)) ((opWeave (F 0) p0 p1).2.2.1) n rfl hn hn8) kX4_ends q2411 hx hb hml hown hts hRf hRl ho.1 hE hS hP hD hA [0, 1, 2, 3, 4, 5, 6, 7, 8] [] rfl (by decide) rfl (by decide) (by decide) ⟨Nat.zero_le _, Nat.zero_le _⟩ (va_recv hK hP (ci := 0) (q0 := 0) rfl rfl) hl ⟨rfl, rfl⟩ rfl rfl (Nat.le_of_ble_eq_true rfl) dX4_weave_11 (fun _ H locs _ hP hD hS _ _ => ?_)
    have hP : va_P (gD g) Cl (mW g h0 a (upd (upd (upd I 5 0) 1 0) 0 (nI (chN n))) (va_up (va_up (va_up F 0 ((opWeave (F 0) p0 p1).2.2.2)) 1 (va_cpy (F 0) (F 1) 0 0 195)) 3 (chP (va_cpy (F 0) (F 1) 0 0 195) (F 3) n))) H := hP
    have hD : va_D A (mW g h0 a (upd (upd (upd I 5 0) 1 0) 0 (nI (chN n))) (va_up (va_up (va_up F 0 ((opWeave (F 0) p0 p1).2.2.2)) 1 (va_cpy (F 0) (F 1) 0 0 195)) 3 (chP (va_cpy (F 0) (F 1) 0 0 195) (F 3) n))) := hD
    have hW1 : (mW g h0 a (upd (upd (upd I 5 0) 1 0) 0 (nI (chN n))) (va_up (va_up (va_up F 0 ((opWeave (F 0) p0 p1).2.2.2)) 1 (va_cpy (F 0) (F 1) 0 0 195)) 3 (chP (va_cpy (F 0) (F 1) 0 0 195) (F 3) n))) = mW g h0 a (pubI I n (opWeave (F 0) p0 p1)) (pubF F n (opWeave (F 0) p0 p1)) := by
      rw [show pubI I n (opWeave (F 0) p0 p1) = chI (upd (upd I 5 0) 1 0) n from if_pos hz, show pubF F n (opWeave (F 0) p0 p1) = chF (va_up (kpF F) 0 (opWeave (F 0) p0 p1).2.2.2) n from if_pos hz]
      rfl
    rw [hW1] at hP hD
    exact hm_i hQ hx hb hr hlk rfl () rfl trivial hP hD hS (by decide) (by decide) dX4_weave_14
  obtain ⟨hv0, hs0⟩ := opWeave_ref (F 0) p0 p1 hz
  have hI : opI (upd (upd I 5 0) 1 0) (opWeave (F 0) p0 p1) = (refI (upd (upd I 5 0) 1 0) (opWeave (F 0) p0 p1).1 (opWeave (F 0) p0 p1).2.1) := if_neg hz
  rw [hI] at hP hD
  refine rcV (As := [.int ((opWeave (F 0) p0 p1).2.2.1)]) (rest := []) (st1 := [.int 0]) (mX4_ends1 l g E ho h0 a (refI (upd (upd I 5 0) 1 0) (opWeave (F 0) p0 p1).1 (opWeave (F 0) p0 p1).2.1) (va_up (va_up F 0 ((opWeave (F 0) p0 p1).2.2.2)) 1 (va_cpy (F 0) (F 1) 0 0 195)) ((opWeave (F 0) p0 p1).2.2.1) (by show ¬ (1 : Int32) = 0; decide)) kX4_ends q2411 hx hb hml hown hts hRf hRl ho.1 hE hS hP (va_recv hK hP (ci := 0) (q0 := 0) rfl rfl) ⟨Nat.zero_le _, Nat.zero_le _⟩ hl ⟨rfl, rfl⟩ rfl rfl (Nat.le_of_ble_eq_true rfl) rfl dX4_weave_11 ?_
  have hW1 : (mW g h0 a (refI (upd (upd I 5 0) 1 0) (opWeave (F 0) p0 p1).1 (opWeave (F 0) p0 p1).2.1) (va_up (va_up F 0 ((opWeave (F 0) p0 p1).2.2.2)) 1 (va_cpy (F 0) (F 1) 0 0 195))) = mW g h0 a (pubI I n (opWeave (F 0) p0 p1)) (pubF F n (opWeave (F 0) p0 p1)) := by
    rw [show pubI I n (opWeave (F 0) p0 p1) = refI (upd (upd I 5 0) 1 0) (opWeave (F 0) p0 p1).1 (opWeave (F 0) p0 p1).2.1 from if_neg hz, show pubF F n (opWeave (F 0) p0 p1) = kpF F from if_neg hz, hs0]
    rfl
  rw [hW1] at hP hD
  exact hm_i hQ hx hb hr hlk rfl () (by rw [hv0]) trivial hP hD hS (by decide) (by decide) dX4_weave_14
theorem kX4_bow : hkV RX4 yX4_bow cX4_bow 4 (some .int) 1 := ⟨q2480, q2481, q78, q2482, rfl, by decide +kernel⟩
set_option maxHeartbeats 4000000 in
theorem mX4_bow (l : Launch) (g : hG) (E : hEnv) (ho : mOk g E) (h0 : Nat) (a : Nat → Nat) (I : Nat → Int32) (F : Nat → Nat → Int32) (p0 : Int32) (nt : Nat) (nh : Nat) (nb : Nat) (nc : Nat) (tw : Nat) (n : Nat) (hc : Cn (F 0) nt nh nb nc tw) (hn : I 0 = nI n) (hn8 : n ≤ 8) : MM l yX4_bow cX4_bow 4 (some .int) 3 66 0 0 [.ref h0, .int p0] g E (mW g h0 a I F) (S := Unit) (fun _ => (some (.int ((opBow (F 0) p0).2.2.1)))) (fun _ => True) (fun _ => mW g h0 a (pubI I n (opBow (F 0) p0)) (pubF F n (opBow (F 0) p0))) := by
  refine MM.mk (by decide) (Nat.le_of_ble_eq_true rfl) ?_
  intro p e R s m args below meth c Q A H locs ls hX hRc hRs hP hD hE hS hA hnm hl hQ
  obtain ⟨hx, hb, hr, hlk, hml, hown, hts, hRf, hRl⟩ := hX
  have hown : s.vm.findClass RX4 = some m.cls := hown
  have hK := ho.2 _ _ _ hE
  have hl : lv_has ls 4 [(0, .ref h0), (1, .int p0)] := hl
  have hc0 := hc
  obtain ⟨htw, htw6, ht, ht10, hh, hh20, hb6, hb6l, hk5, hk5l⟩ := hc
  have htc : (nI nt).toNatClampNeg = nt := nI_clamp (by omega)
  have hhc : (nI nh).toNatClampNeg = nh := nI_clamp (by omega)
  have hbc : (nI nb).toNatClampNeg = nb := nI_clamp (by omega)
  have hkc : (nI nc).toNatClampNeg = nc := nI_clamp (by omega)
  have htwc : (nI tw).toNatClampNeg = tw := nI_clamp (by omega)
  refine lv_aload_n hx hb dX4_bow_0 rfl (lv_at hl 0 rfl) ?_
  refine mcV (As := []) (rest := []) (wr := []) (mX4_begins l g E ho h0 a I F) kX4_begins q2386 hx hb hml hown hts hRf hRl ho.1 hE hS hP hD hA [0, 1, 2, 3, 4, 5, 6, 7, 8] [] rfl (by decide) rfl (by decide) (by decide) ⟨Nat.zero_le _, Nat.zero_le _⟩ (va_recv hK hP (ci := 0) (q0 := 0) rfl rfl) hl ⟨rfl, rfl⟩ rfl rfl (Nat.le_of_ble_eq_true rfl) dX4_bow_1 (fun _ H locs _ hP hD hS _ _ => ?_)
  have hP : va_P (gD g) Cl (mW g h0 a (upd (upd I 5 0) 1 0) (va_up F 1 (va_cpy (F 0) (F 1) 0 0 195))) H := hP
  have hD : va_D A (mW g h0 a (upd (upd I 5 0) 1 0) (va_up F 1 (va_cpy (F 0) (F 1) 0 0 195))) := hD
  refine lv_aload_n hx hb dX4_bow_4 rfl (lv_at hl 0 rfl) ?_
  refine lv_iload_n hx hb dX4_bow_5 rfl (lv_at hl 1 rfl) ?_
  refine lv_iconst (v := 0) hx hb dX4_bow_6 (by decide) ?_
  refine lv_iconst (v := 3) hx hb dX4_bow_7 (by decide) ?_
  refine rcS (As := [.int p0, .int 0, .int 3]) (rest := [.ref h0]) (st1 := [.int (if inR p0 0 3 then 1 else 0), .ref h0]) (mX4_isIn l g E ho p0 0 3) kX4_isIn q2397 hx hb hml hown hts hRf hRl ho.1 hE hS (hP.sub [] rfl) ⟨Nat.zero_le _, Nat.zero_le _⟩ hl ⟨rfl, rfl⟩ rfl rfl (Nat.le_of_ble_eq_true rfl) rfl dX4_bow_8 ?_
  refine h_ifne_b (tgt := 18) hx hb dX4_bow_11 (by decide) (fun c_1 => ?_) (fun c_1 => ?_)
  · refine lv_iconst (v := 0) hx hb dX4_bow_18 (by decide) ?_
    refine lv_iconst (v := 3) hx hb dX4_bow_19 (by decide) ?_
    refine lv_iload_n hx hb dX4_bow_20 rfl (lv_at hl 1 rfl) ?_
    refine rcV (As := [.int 0, .int 3, .int p0]) (rest := []) (st1 := [.int 0]) (mX4_isRefused0 l g E ho h0 a (upd (upd I 5 0) 1 0) (va_up F 1 (va_cpy (F 0) (F 1) 0 0 195)) 3 p0) kX4_isRefused q2400 hx hb hml hown hts hRf hRl ho.1 hE hS hP (va_recv hK hP (ci := 0) (q0 := 0) rfl rfl) ⟨Nat.zero_le _, Nat.zero_le _⟩ hl ⟨rfl, rfl⟩ rfl rfl (Nat.le_of_ble_eq_true rfl) rfl dX4_bow_21 ?_
    refine lv_if_ne (tgt := 53) hx hb dX4_bow_24 (by decide) (fun c => absurd c (by decide)) (fun _ => ?_)
    refine lv_aload_n hx hb dX4_bow_27 rfl (lv_at hl 0 rfl) ?_
    refine lv_aload_n hx hb dX4_bow_28 rfl (lv_at hl 0 rfl) ?_
    refine va_get (D := gD g) (ci := 0) (v := .ref (a 0)) (C := RX4) (T := TX4) (N := 21) hx hb hts in_X4 hown hK hP 0 rfl rfl 0 (by decide) (hts _ q2314) (fun _ h9 => h9) rfl dX4_bow_29 ?_
    refine lv_iconst (v := 5) hx hb dX4_bow_32 (by decide) ?_
    refine h_iald (f := (F 0)) hx hb hK hP 1 0 rfl rfl 5 rfl (by decide) (by decide) dX4_bow_33 ?_
    refine h_topi (v := nI nb) (hb6) ?_
    refine lv_bipush (v := 6) hx hb dX4_bow_34 (by decide) ?_
    refine lv_icmp_ne (tgt := 43) hx hb dX4_bow_36 (by decide) (fun c_2 => ?_) (fun c_2 => ?_)
    · refine lv_iconst (v := 0) hx hb dX4_bow_43 (by decide) ?_
      refine lv_iconst (v := 1) hx hb dX4_bow_44 (by decide) ?_
      refine lv_bipush (v := 6) hx hb dX4_bow_45 (by decide) ?_
      refine rcV (As := [.int 0, .int 1, .int 6]) (rest := []) (st1 := [.int 0]) (mX4_isRefused0 l g E ho h0 a (upd (upd I 5 0) 1 0) (va_up F 1 (va_cpy (F 0) (F 1) 0 0 195)) 1 6) kX4_isRefused q2400 hx hb hml hown hts hRf hRl ho.1 hE hS hP (va_recv hK hP (ci := 0) (q0 := 0) rfl rfl) ⟨Nat.zero_le _, Nat.zero_le _⟩ hl ⟨rfl, rfl⟩ rfl rfl (Nat.le_of_ble_eq_true rfl) rfl dX4_bow_47 ?_
      refine lv_if_eq (tgt := 55) hx hb dX4_bow_50 (by decide) (fun _ => ?_) (fun c => absurd c (by decide))
      have hlt6 : nb < 6 := by
        have hne : nb ≠ 6 := fun q => c_2 (by rw [q]; rfl)
        omega
      refine lv_aload_n hx hb dX4_bow_55 rfl (lv_at hl 0 rfl) ?_
      refine va_get (D := gD g) (ci := 0) (v := .ref (a 0)) (C := RX4) (T := TX4) (N := 21) hx hb hts in_X4 hown hK hP 0 rfl rfl 0 (by decide) (hts _ q2314) (fun _ h9 => h9) rfl dX4_bow_56 ?_
      refine lv_iconst (v := 5) hx hb dX4_bow_59 (by decide) ?_
      refine h_iald (f := (F 0)) hx hb hK hP 1 0 rfl rfl 5 rfl (by decide) (by decide) dX4_bow_60 ?_
      refine h_topi (v := nI nb) (hb6) ?_
      refine lv_istore_n (lv' := [(2, .int (nI nb)), (0, .ref h0), (1, .int p0)]) hx hb dX4_bow_61 rfl hl (by decide) rfl (fun ls hl => ?_)
      refine lv_iconst (v := 0) hx hb dX4_bow_62 (by decide) ?_
      refine lv_istore_n (lv' := [(3, .int 0), (2, .int (nI nb)), (0, .ref h0), (1, .int p0)]) hx hb dX4_bow_63 rfl hl (by decide) rfl (fun ls hl => ?_)
      refine lv_iload_n hx hb dX4_bow_64 rfl (lv_at hl 0 rfl) ?_
      refine lv_bipush (v := 7) hx hb dX4_bow_65 (by decide) ?_
      refine lv_icmp_ge (tgt := 110) hx hb dX4_bow_67 (by decide) (fun c => absurd c (by decide)) (fun _ => ?_)
      refine lv_aload_n hx hb dX4_bow_70 rfl (lv_at hl 2 rfl) ?_
      refine va_get (D := gD g) (ci := 0) (v := .ref (a 0)) (C := RX4) (T := TX4) (N := 21) hx hb hts in_X4 hown hK hP 0 rfl rfl 0 (by decide) (hts _ q2314) (fun _ h9 => h9) rfl dX4_bow_71 ?_
      refine lv_iload_n hx hb dX4_bow_74 rfl (lv_at hl 1 rfl) ?_
      refine lv_iload_n hx hb dX4_bow_75 rfl (lv_at hl 0 rfl) ?_
      refine rcS (As := [.int (nI nb), .int 0]) (rest := [.ref (a 0)]) (st1 := [.int (nI (153 + 7 * nb)), .ref (a 0)]) (mX4_bowAt l g E ho nb 0) kX4_bowAt q2483 hx hb hml hown hts hRf hRl ho.1 hE hS (hP.sub [] rfl) ⟨Nat.zero_le _, Nat.zero_le _⟩ hl ⟨rfl, rfl⟩ rfl rfl (Nat.le_of_ble_eq_true rfl) rfl dX4_bow_76 ?_
      refine lv_iload_n hx hb dX4_bow_79 rfl (lv_at hl 0 rfl) ?_
      refine lv_if_ne (tgt := 87) hx hb dX4_bow_80 (by decide) (fun c => absurd c (by decide)) (fun _ => ?_)
      refine lv_iload_n hx hb dX4_bow_83 rfl (lv_at hl 3 rfl) ?_
      refine lv_goto (tgt := 103) hx hb dX4_bow_84 (by decide) ?_
      refine h_iast (f := (F 0)) hx hb hK hP hD hS 1 0 rfl rfl (153 + 7 * nb) rfl (by omega) (by decide) dX4_bow_103 (fun H locs hP hD hS => ?_)
      have hP : va_P (gD g) Cl (mW g h0 a (upd (upd I 5 0) 1 0) (va_up (va_up F 0 (upd (F 0) (153 + 7 * nb) p0)) 1 (va_cpy (F 0) (F 1) 0 0 195))) H := hP
      have hD : va_D A (mW g h0 a (upd (upd I 5 0) 1 0) (va_up (va_up F 0 (upd (F 0) (153 + 7 * nb) p0)) 1 (va_cpy (F 0) (F 1) 0 0 195))) := hD
      refine lv_iinc (v := 1) (lv' := [(3, .int 1), (2, .int (nI nb)), (0, .ref h0), (1, .int p0)]) hx hb dX4_bow_104 hl (k := 0) rfl (by decide) (by decide) rfl (fun ls hl => ?_)
      refine lv_goto (tgt := 64) hx hb dX4_bow_107 (by decide) ?_
      refine lv_iload_n hx hb dX4_bow_64 rfl (lv_at hl 0 rfl) ?_
      refine lv_bipush (v := 7) hx hb dX4_bow_65 (by decide) ?_
      refine lv_icmp_ge (tgt := 110) hx hb dX4_bow_67 (by decide) (fun c => absurd c (by decide)) (fun _ => ?_)
      refine lv_aload_n hx hb dX4_bow_70 rfl (lv_at hl 2 rfl) ?_
      refine va_get (D := gD g) (ci := 0) (v := .ref (a 0)) (C := RX4) (T := TX4) (N := 21) hx hb hts in_X4 hown hK hP 0 rfl rfl 0 (by decide) (hts _ q2314) (fun _ h9 => h9) rfl dX4_bow_71 ?_
      refine lv_iload_n hx hb dX4_bow_74 rfl (lv_at hl 1 rfl) ?_
      refine lv_iload_n hx hb dX4_bow_75 rfl (lv_at hl 0 rfl) ?_
      refine rcS (As := [.int (nI nb), .int 1]) (rest := [.ref (a 0)]) (st1 := [.int (nI (153 + 7 * nb + 1)), .ref (a 0)]) (mX4_bowAt l g E ho nb 1) kX4_bowAt q2483 hx hb hml hown hts hRf hRl ho.1 hE hS (hP.sub [] rfl) ⟨Nat.zero_le _, Nat.zero_le _⟩ hl ⟨rfl, rfl⟩ rfl rfl (Nat.le_of_ble_eq_true rfl) rfl dX4_bow_76 ?_
      refine lv_iload_n hx hb dX4_bow_79 rfl (lv_at hl 0 rfl) ?_
      refine lv_if_ne (tgt := 87) hx hb dX4_bow_80 (by decide) (fun _ => ?_) (fun c => absurd c (by decide))
      refine lv_iload_n hx hb dX4_bow_87 rfl (lv_at hl 0 rfl) ?_
      refine lv_iconst (v := 3) hx hb dX4_bow_88 (by decide) ?_
      refine lv_icmp_eq (tgt := 98) hx hb dX4_bow_89 (by decide) (fun c => absurd c (by decide)) (fun _ => ?_)
      refine lv_iload_n hx hb dX4_bow_92 rfl (lv_at hl 0 rfl) ?_
      refine lv_bipush (v := 6) hx hb dX4_bow_93 (by decide) ?_
      refine lv_icmp_ne (tgt := 102) hx hb dX4_bow_95 (by decide) (fun _ => ?_) (fun c => absurd c (by decide))
      refine lv_iconst (v := 0) hx hb dX4_bow_102 (by decide) ?_
      refine h_iast (f := (upd (F 0) (153 + 7 * nb) p0)) hx hb hK hP hD hS 1 0 rfl rfl (153 + 7 * nb + 1) rfl (by omega) (by decide) dX4_bow_103 (fun H locs hP hD hS => ?_)
      have hP : va_P (gD g) Cl (mW g h0 a (upd (upd I 5 0) 1 0) (va_up (va_up F 0 (upd (upd (F 0) (153 + 7 * nb) p0) (153 + 7 * nb + 1) 0)) 1 (va_cpy (F 0) (F 1) 0 0 195))) H := hP
      have hD : va_D A (mW g h0 a (upd (upd I 5 0) 1 0) (va_up (va_up F 0 (upd (upd (F 0) (153 + 7 * nb) p0) (153 + 7 * nb + 1) 0)) 1 (va_cpy (F 0) (F 1) 0 0 195))) := hD
      refine lv_iinc (v := 2) (lv' := [(3, .int 2), (2, .int (nI nb)), (0, .ref h0), (1, .int p0)]) hx hb dX4_bow_104 hl (k := 0) rfl (by decide) (by decide) rfl (fun ls hl => ?_)
      refine lv_goto (tgt := 64) hx hb dX4_bow_107 (by decide) ?_
      refine lv_iload_n hx hb dX4_bow_64 rfl (lv_at hl 0 rfl) ?_
      refine lv_bipush (v := 7) hx hb dX4_bow_65 (by decide) ?_
      refine lv_icmp_ge (tgt := 110) hx hb dX4_bow_67 (by decide) (fun c => absurd c (by decide)) (fun _ => ?_)
      refine lv_aload_n hx hb dX4_bow_70 rfl (lv_at hl 2 rfl) ?_
      refine va_get (D := gD g) (ci := 0) (v := .ref (a 0)) (C := RX4) (T := TX4) (N := 21) hx hb hts in_X4 hown hK hP 0 rfl rfl 0 (by decide) (hts _ q2314) (fun _ h9 => h9) rfl dX4_bow_71 ?_
      refine lv_iload_n hx hb dX4_bow_74 rfl (lv_at hl 1 rfl) ?_
      refine lv_iload_n hx hb dX4_bow_75 rfl (lv_at hl 0 rfl) ?_
      refine rcS (As := [.int (nI nb), .int 2]) (rest := [.ref (a 0)]) (st1 := [.int (nI (153 + 7 * nb + 2)), .ref (a 0)]) (mX4_bowAt l g E ho nb 2) kX4_bowAt q2483 hx hb hml hown hts hRf hRl ho.1 hE hS (hP.sub [] rfl) ⟨Nat.zero_le _, Nat.zero_le _⟩ hl ⟨rfl, rfl⟩ rfl rfl (Nat.le_of_ble_eq_true rfl) rfl dX4_bow_76 ?_
      refine lv_iload_n hx hb dX4_bow_79 rfl (lv_at hl 0 rfl) ?_
      refine lv_if_ne (tgt := 87) hx hb dX4_bow_80 (by decide) (fun _ => ?_) (fun c => absurd c (by decide))
      refine lv_iload_n hx hb dX4_bow_87 rfl (lv_at hl 0 rfl) ?_
      refine lv_iconst (v := 3) hx hb dX4_bow_88 (by decide) ?_
      refine lv_icmp_eq (tgt := 98) hx hb dX4_bow_89 (by decide) (fun c => absurd c (by decide)) (fun _ => ?_)
      refine lv_iload_n hx hb dX4_bow_92 rfl (lv_at hl 0 rfl) ?_
      refine lv_bipush (v := 6) hx hb dX4_bow_93 (by decide) ?_
      refine lv_icmp_ne (tgt := 102) hx hb dX4_bow_95 (by decide) (fun _ => ?_) (fun c => absurd c (by decide))
      refine lv_iconst (v := 0) hx hb dX4_bow_102 (by decide) ?_
      refine h_iast (f := (upd (upd (F 0) (153 + 7 * nb) p0) (153 + 7 * nb + 1) 0)) hx hb hK hP hD hS 1 0 rfl rfl (153 + 7 * nb + 2) rfl (by omega) (by decide) dX4_bow_103 (fun H locs hP hD hS => ?_)
      have hP : va_P (gD g) Cl (mW g h0 a (upd (upd I 5 0) 1 0) (va_up (va_up F 0 (upd (upd (upd (F 0) (153 + 7 * nb) p0) (153 + 7 * nb + 1) 0) (153 + 7 * nb + 2) 0)) 1 (va_cpy (F 0) (F 1) 0 0 195))) H := hP
      have hD : va_D A (mW g h0 a (upd (upd I 5 0) 1 0) (va_up (va_up F 0 (upd (upd (upd (F 0) (153 + 7 * nb) p0) (153 + 7 * nb + 1) 0) (153 + 7 * nb + 2) 0)) 1 (va_cpy (F 0) (F 1) 0 0 195))) := hD
      refine lv_iinc (v := 3) (lv' := [(3, .int 3), (2, .int (nI nb)), (0, .ref h0), (1, .int p0)]) hx hb dX4_bow_104 hl (k := 0) rfl (by decide) (by decide) rfl (fun ls hl => ?_)
      refine lv_goto (tgt := 64) hx hb dX4_bow_107 (by decide) ?_
      refine lv_iload_n hx hb dX4_bow_64 rfl (lv_at hl 0 rfl) ?_
      refine lv_bipush (v := 7) hx hb dX4_bow_65 (by decide) ?_
      refine lv_icmp_ge (tgt := 110) hx hb dX4_bow_67 (by decide) (fun c => absurd c (by decide)) (fun _ => ?_)
      refine lv_aload_n hx hb dX4_bow_70 rfl (lv_at hl 2 rfl) ?_
      refine va_get (D := gD g) (ci := 0) (v := .ref (a 0)) (C := RX4) (T := TX4) (N := 21) hx hb hts in_X4 hown hK hP 0 rfl rfl 0 (by decide) (hts _ q2314) (fun _ h9 => h9) rfl dX4_bow_71 ?_
      refine lv_iload_n hx hb dX4_bow_74 rfl (lv_at hl 1 rfl) ?_
      refine lv_iload_n hx hb dX4_bow_75 rfl (lv_at hl 0 rfl) ?_
      refine rcS (As := [.int (nI nb), .int 3]) (rest := [.ref (a 0)]) (st1 := [.int (nI (153 + 7 * nb + 3)), .ref (a 0)]) (mX4_bowAt l g E ho nb 3) kX4_bowAt q2483 hx hb hml hown hts hRf hRl ho.1 hE hS (hP.sub [] rfl) ⟨Nat.zero_le _, Nat.zero_le _⟩ hl ⟨rfl, rfl⟩ rfl rfl (Nat.le_of_ble_eq_true rfl) rfl dX4_bow_76 ?_
      refine lv_iload_n hx hb dX4_bow_79 rfl (lv_at hl 0 rfl) ?_
      refine lv_if_ne (tgt := 87) hx hb dX4_bow_80 (by decide) (fun _ => ?_) (fun c => absurd c (by decide))
      refine lv_iload_n hx hb dX4_bow_87 rfl (lv_at hl 0 rfl) ?_
      refine lv_iconst (v := 3) hx hb dX4_bow_88 (by decide) ?_
      refine lv_icmp_eq (tgt := 98) hx hb dX4_bow_89 (by decide) (fun _ => ?_) (fun c => absurd c (by decide))
      refine lv_iconst (v := (-1)) hx hb dX4_bow_98 (by decide) ?_
      refine lv_goto (tgt := 103) hx hb dX4_bow_99 (by decide) ?_
      refine h_iast (f := (upd (upd (upd (F 0) (153 + 7 * nb) p0) (153 + 7 * nb + 1) 0) (153 + 7 * nb + 2) 0)) hx hb hK hP hD hS 1 0 rfl rfl (153 + 7 * nb + 3) rfl (by omega) (by decide) dX4_bow_103 (fun H locs hP hD hS => ?_)
      have hP : va_P (gD g) Cl (mW g h0 a (upd (upd I 5 0) 1 0) (va_up (va_up F 0 (upd (upd (upd (upd (F 0) (153 + 7 * nb) p0) (153 + 7 * nb + 1) 0) (153 + 7 * nb + 2) 0) (153 + 7 * nb + 3) (-1))) 1 (va_cpy (F 0) (F 1) 0 0 195))) H := hP
      have hD : va_D A (mW g h0 a (upd (upd I 5 0) 1 0) (va_up (va_up F 0 (upd (upd (upd (upd (F 0) (153 + 7 * nb) p0) (153 + 7 * nb + 1) 0) (153 + 7 * nb + 2) 0) (153 + 7 * nb + 3) (-1))) 1 (va_cpy (F 0) (F 1) 0 0 195))) := hD
      refine lv_iinc (v := 4) (lv' := [(3, .int 4), (2, .int (nI nb)), (0, .ref h0), (1, .int p0)]) hx hb dX4_bow_104 hl (k := 0) rfl (by decide) (by decide) rfl (fun ls hl => ?_)
      refine lv_goto (tgt := 64) hx hb dX4_bow_107 (by decide) ?_
      refine lv_iload_n hx hb dX4_bow_64 rfl (lv_at hl 0 rfl) ?_
      refine lv_bipush (v := 7) hx hb dX4_bow_65 (by decide) ?_
      refine lv_icmp_ge (tgt := 110) hx hb dX4_bow_67 (by decide) (fun c => absurd c (by decide)) (fun _ => ?_)
      refine lv_aload_n hx hb dX4_bow_70 rfl (lv_at hl 2 rfl) ?_
      refine va_get (D := gD g) (ci := 0) (v := .ref (a 0)) (C := RX4) (T := TX4) (N := 21) hx hb hts in_X4 hown hK hP 0 rfl rfl 0 (by decide) (hts _ q2314) (fun _ h9 => h9) rfl dX4_bow_71 ?_
      refine lv_iload_n hx hb dX4_bow_74 rfl (lv_at hl 1 rfl) ?_
      refine lv_iload_n hx hb dX4_bow_75 rfl (lv_at hl 0 rfl) ?_
      refine rcS (As := [.int (nI nb), .int 4]) (rest := [.ref (a 0)]) (st1 := [.int (nI (153 + 7 * nb + 4)), .ref (a 0)]) (mX4_bowAt l g E ho nb 4) kX4_bowAt q2483 hx hb hml hown hts hRf hRl ho.1 hE hS (hP.sub [] rfl) ⟨Nat.zero_le _, Nat.zero_le _⟩ hl ⟨rfl, rfl⟩ rfl rfl (Nat.le_of_ble_eq_true rfl) rfl dX4_bow_76 ?_
      refine lv_iload_n hx hb dX4_bow_79 rfl (lv_at hl 0 rfl) ?_
      refine lv_if_ne (tgt := 87) hx hb dX4_bow_80 (by decide) (fun _ => ?_) (fun c => absurd c (by decide))
      refine lv_iload_n hx hb dX4_bow_87 rfl (lv_at hl 0 rfl) ?_
      refine lv_iconst (v := 3) hx hb dX4_bow_88 (by decide) ?_
      refine lv_icmp_eq (tgt := 98) hx hb dX4_bow_89 (by decide) (fun c => absurd c (by decide)) (fun _ => ?_)
      refine lv_iload_n hx hb dX4_bow_92 rfl (lv_at hl 0 rfl) ?_
      refine lv_bipush (v := 6) hx hb dX4_bow_93 (by decide) ?_
      refine lv_icmp_ne (tgt := 102) hx hb dX4_bow_95 (by decide) (fun _ => ?_) (fun c => absurd c (by decide))
      refine lv_iconst (v := 0) hx hb dX4_bow_102 (by decide) ?_
      refine h_iast (f := (upd (upd (upd (upd (F 0) (153 + 7 * nb) p0) (153 + 7 * nb + 1) 0) (153 + 7 * nb + 2) 0) (153 + 7 * nb + 3) (-1))) hx hb hK hP hD hS 1 0 rfl rfl (153 + 7 * nb + 4) rfl (by omega) (by decide) dX4_bow_103 (fun H locs hP hD hS => ?_)
      have hP : va_P (gD g) Cl (mW g h0 a (upd (upd I 5 0) 1 0) (va_up (va_up F 0 (upd (upd (upd (upd (upd (F 0) (153 + 7 * nb) p0) (153 + 7 * nb + 1) 0) (153 + 7 * nb + 2) 0) (153 + 7 * nb + 3) (-1)) (153 + 7 * nb + 4) 0)) 1 (va_cpy (F 0) (F 1) 0 0 195))) H := hP
      have hD : va_D A (mW g h0 a (upd (upd I 5 0) 1 0) (va_up (va_up F 0 (upd (upd (upd (upd (upd (F 0) (153 + 7 * nb) p0) (153 + 7 * nb + 1) 0) (153 + 7 * nb + 2) 0) (153 + 7 * nb + 3) (-1)) (153 + 7 * nb + 4) 0)) 1 (va_cpy (F 0) (F 1) 0 0 195))) := hD
      refine lv_iinc (v := 5) (lv' := [(3, .int 5), (2, .int (nI nb)), (0, .ref h0), (1, .int p0)]) hx hb dX4_bow_104 hl (k := 0) rfl (by decide) (by decide) rfl (fun ls hl => ?_)
      refine lv_goto (tgt := 64) hx hb dX4_bow_107 (by decide) ?_
      refine lv_iload_n hx hb dX4_bow_64 rfl (lv_at hl 0 rfl) ?_
      refine lv_bipush (v := 7) hx hb dX4_bow_65 (by decide) ?_
      refine lv_icmp_ge (tgt := 110) hx hb dX4_bow_67 (by decide) (fun c => absurd c (by decide)) (fun _ => ?_)
      refine lv_aload_n hx hb dX4_bow_70 rfl (lv_at hl 2 rfl) ?_
      refine va_get (D := gD g) (ci := 0) (v := .ref (a 0)) (C := RX4) (T := TX4) (N := 21) hx hb hts in_X4 hown hK hP 0 rfl rfl 0 (by decide) (hts _ q2314) (fun _ h9 => h9) rfl dX4_bow_71 ?_
      refine lv_iload_n hx hb dX4_bow_74 rfl (lv_at hl 1 rfl) ?_
      refine lv_iload_n hx hb dX4_bow_75 rfl (lv_at hl 0 rfl) ?_
      refine rcS (As := [.int (nI nb), .int 5]) (rest := [.ref (a 0)]) (st1 := [.int (nI (153 + 7 * nb + 5)), .ref (a 0)]) (mX4_bowAt l g E ho nb 5) kX4_bowAt q2483 hx hb hml hown hts hRf hRl ho.1 hE hS (hP.sub [] rfl) ⟨Nat.zero_le _, Nat.zero_le _⟩ hl ⟨rfl, rfl⟩ rfl rfl (Nat.le_of_ble_eq_true rfl) rfl dX4_bow_76 ?_
      refine lv_iload_n hx hb dX4_bow_79 rfl (lv_at hl 0 rfl) ?_
      refine lv_if_ne (tgt := 87) hx hb dX4_bow_80 (by decide) (fun _ => ?_) (fun c => absurd c (by decide))
      refine lv_iload_n hx hb dX4_bow_87 rfl (lv_at hl 0 rfl) ?_
      refine lv_iconst (v := 3) hx hb dX4_bow_88 (by decide) ?_
      refine lv_icmp_eq (tgt := 98) hx hb dX4_bow_89 (by decide) (fun c => absurd c (by decide)) (fun _ => ?_)
      refine lv_iload_n hx hb dX4_bow_92 rfl (lv_at hl 0 rfl) ?_
      refine lv_bipush (v := 6) hx hb dX4_bow_93 (by decide) ?_
      refine lv_icmp_ne (tgt := 102) hx hb dX4_bow_95 (by decide) (fun _ => ?_) (fun c => absurd c (by decide))
      refine lv_iconst (v := 0) hx hb dX4_bow_102 (by decide) ?_
      refine h_iast (f := (upd (upd (upd (upd (upd (F 0) (153 + 7 * nb) p0) (153 + 7 * nb + 1) 0) (153 + 7 * nb + 2) 0) (153 + 7 * nb + 3) (-1)) (153 + 7 * nb + 4) 0)) hx hb hK hP hD hS 1 0 rfl rfl (153 + 7 * nb + 5) rfl (by omega) (by decide) dX4_bow_103 (fun H locs hP hD hS => ?_)
      have hP : va_P (gD g) Cl (mW g h0 a (upd (upd I 5 0) 1 0) (va_up (va_up F 0 (upd (upd (upd (upd (upd (upd (F 0) (153 + 7 * nb) p0) (153 + 7 * nb + 1) 0) (153 + 7 * nb + 2) 0) (153 + 7 * nb + 3) (-1)) (153 + 7 * nb + 4) 0) (153 + 7 * nb + 5) 0)) 1 (va_cpy (F 0) (F 1) 0 0 195))) H := hP
      have hD : va_D A (mW g h0 a (upd (upd I 5 0) 1 0) (va_up (va_up F 0 (upd (upd (upd (upd (upd (upd (F 0) (153 + 7 * nb) p0) (153 + 7 * nb + 1) 0) (153 + 7 * nb + 2) 0) (153 + 7 * nb + 3) (-1)) (153 + 7 * nb + 4) 0) (153 + 7 * nb + 5) 0)) 1 (va_cpy (F 0) (F 1) 0 0 195))) := hD
      refine lv_iinc (v := 6) (lv' := [(3, .int 6), (2, .int (nI nb)), (0, .ref h0), (1, .int p0)]) hx hb dX4_bow_104 hl (k := 0) rfl (by decide) (by decide) rfl (fun ls hl => ?_)
      refine lv_goto (tgt := 64) hx hb dX4_bow_107 (by decide) ?_
      refine lv_iload_n hx hb dX4_bow_64 rfl (lv_at hl 0 rfl) ?_
      refine lv_bipush (v := 7) hx hb dX4_bow_65 (by decide) ?_
      refine lv_icmp_ge (tgt := 110) hx hb dX4_bow_67 (by decide) (fun c => absurd c (by decide)) (fun _ => ?_)
      refine lv_aload_n hx hb dX4_bow_70 rfl (lv_at hl 2 rfl) ?_
      refine va_get (D := gD g) (ci := 0) (v := .ref (a 0)) (C := RX4) (T := TX4) (N := 21) hx hb hts in_X4 hown hK hP 0 rfl rfl 0 (by decide) (hts _ q2314) (fun _ h9 => h9) rfl dX4_bow_71 ?_
      refine lv_iload_n hx hb dX4_bow_74 rfl (lv_at hl 1 rfl) ?_
      refine lv_iload_n hx hb dX4_bow_75 rfl (lv_at hl 0 rfl) ?_
      refine rcS (As := [.int (nI nb), .int 6]) (rest := [.ref (a 0)]) (st1 := [.int (nI (153 + 7 * nb + 6)), .ref (a 0)]) (mX4_bowAt l g E ho nb 6) kX4_bowAt q2483 hx hb hml hown hts hRf hRl ho.1 hE hS (hP.sub [] rfl) ⟨Nat.zero_le _, Nat.zero_le _⟩ hl ⟨rfl, rfl⟩ rfl rfl (Nat.le_of_ble_eq_true rfl) rfl dX4_bow_76 ?_
      refine lv_iload_n hx hb dX4_bow_79 rfl (lv_at hl 0 rfl) ?_
      refine lv_if_ne (tgt := 87) hx hb dX4_bow_80 (by decide) (fun _ => ?_) (fun c => absurd c (by decide))
      refine lv_iload_n hx hb dX4_bow_87 rfl (lv_at hl 0 rfl) ?_
      refine lv_iconst (v := 3) hx hb dX4_bow_88 (by decide) ?_
      refine lv_icmp_eq (tgt := 98) hx hb dX4_bow_89 (by decide) (fun c => absurd c (by decide)) (fun _ => ?_)
      refine lv_iload_n hx hb dX4_bow_92 rfl (lv_at hl 0 rfl) ?_
      refine lv_bipush (v := 6) hx hb dX4_bow_93 (by decide) ?_
      refine lv_icmp_ne (tgt := 102) hx hb dX4_bow_95 (by decide) (fun c => absurd c (by decide)) (fun _ => ?_)
      refine lv_iconst (v := (-1)) hx hb dX4_bow_98 (by decide) ?_
      refine lv_goto (tgt := 103) hx hb dX4_bow_99 (by decide) ?_
      refine h_iast (f := (upd (upd (upd (upd (upd (upd (F 0) (153 + 7 * nb) p0) (153 + 7 * nb + 1) 0) (153 + 7 * nb + 2) 0) (153 + 7 * nb + 3) (-1)) (153 + 7 * nb + 4) 0) (153 + 7 * nb + 5) 0)) hx hb hK hP hD hS 1 0 rfl rfl (153 + 7 * nb + 6) rfl (by omega) (by decide) dX4_bow_103 (fun H locs hP hD hS => ?_)
      have hP : va_P (gD g) Cl (mW g h0 a (upd (upd I 5 0) 1 0) (va_up (va_up F 0 (upd (upd (upd (upd (upd (upd (upd (F 0) (153 + 7 * nb) p0) (153 + 7 * nb + 1) 0) (153 + 7 * nb + 2) 0) (153 + 7 * nb + 3) (-1)) (153 + 7 * nb + 4) 0) (153 + 7 * nb + 5) 0) (153 + 7 * nb + 6) (-1))) 1 (va_cpy (F 0) (F 1) 0 0 195))) H := hP
      have hD : va_D A (mW g h0 a (upd (upd I 5 0) 1 0) (va_up (va_up F 0 (upd (upd (upd (upd (upd (upd (upd (F 0) (153 + 7 * nb) p0) (153 + 7 * nb + 1) 0) (153 + 7 * nb + 2) 0) (153 + 7 * nb + 3) (-1)) (153 + 7 * nb + 4) 0) (153 + 7 * nb + 5) 0) (153 + 7 * nb + 6) (-1))) 1 (va_cpy (F 0) (F 1) 0 0 195))) := hD
      refine lv_iinc (v := 7) (lv' := [(3, .int 7), (2, .int (nI nb)), (0, .ref h0), (1, .int p0)]) hx hb dX4_bow_104 hl (k := 0) rfl (by decide) (by decide) rfl (fun ls hl => ?_)
      refine lv_goto (tgt := 64) hx hb dX4_bow_107 (by decide) ?_
      refine lv_iload_n hx hb dX4_bow_64 rfl (lv_at hl 0 rfl) ?_
      refine lv_bipush (v := 7) hx hb dX4_bow_65 (by decide) ?_
      refine lv_icmp_ge (tgt := 110) hx hb dX4_bow_67 (by decide) (fun _ => ?_) (fun c => absurd c (by decide))
      refine lv_aload_n hx hb dX4_bow_110 rfl (lv_at hl 2 rfl) ?_
      refine va_get (D := gD g) (ci := 0) (v := .ref (a 0)) (C := RX4) (T := TX4) (N := 21) hx hb hts in_X4 hown hK hP 0 rfl rfl 0 (by decide) (hts _ q2314) (fun _ h9 => h9) rfl dX4_bow_111 ?_
      refine lv_iconst (v := 5) hx hb dX4_bow_114 (by decide) ?_
      refine lv_dup2_11 hx hb dX4_bow_115 rfl rfl ?_
      refine h_iald (f := (upd (upd (upd (upd (upd (upd (upd (F 0) (153 + 7 * nb) p0) (153 + 7 * nb + 1) 0) (153 + 7 * nb + 2) 0) (153 + 7 * nb + 3) (-1)) (153 + 7 * nb + 4) 0) (153 + 7 * nb + 5) 0) (153 + 7 * nb + 6) (-1))) hx hb hK hP 1 0 rfl rfl 5 rfl (by decide) (by decide) dX4_bow_116 ?_
      refine h_topi (v := F 0 5) (by rw [pk_un (by omega), pk_un (by omega), pk_un (by omega), pk_un (by omega), pk_un (by omega), pk_un (by omega), pk_un (by omega)]) ?_
      refine h_topi (v := nI nb) (hb6) ?_
      refine lv_iconst (v := 1) hx hb dX4_bow_117 (by decide) ?_
      refine lv_iadd hx hb dX4_bow_118 ?_
      refine h_topi (v := nI (nb + 1)) (h_nadd (a := nb) (b := 1) (rfl) (rfl)) ?_
      refine h_iast (f := (upd (upd (upd (upd (upd (upd (upd (F 0) (153 + 7 * nb) p0) (153 + 7 * nb + 1) 0) (153 + 7 * nb + 2) 0) (153 + 7 * nb + 3) (-1)) (153 + 7 * nb + 4) 0) (153 + 7 * nb + 5) 0) (153 + 7 * nb + 6) (-1))) hx hb hK hP hD hS 1 0 rfl rfl 5 rfl (by decide) (by decide) dX4_bow_119 (fun H locs hP hD hS => ?_)
      have hP : va_P (gD g) Cl (mW g h0 a (upd (upd I 5 0) 1 0) (va_up (va_up F 0 (upd (upd (upd (upd (upd (upd (upd (upd (F 0) (153 + 7 * nb) p0) (153 + 7 * nb + 1) 0) (153 + 7 * nb + 2) 0) (153 + 7 * nb + 3) (-1)) (153 + 7 * nb + 4) 0) (153 + 7 * nb + 5) 0) (153 + 7 * nb + 6) (-1)) 5 (nI (nb + 1)))) 1 (va_cpy (F 0) (F 1) 0 0 195))) H := hP
      have hD : va_D A (mW g h0 a (upd (upd I 5 0) 1 0) (va_up (va_up F 0 (upd (upd (upd (upd (upd (upd (upd (upd (F 0) (153 + 7 * nb) p0) (153 + 7 * nb + 1) 0) (153 + 7 * nb + 2) 0) (153 + 7 * nb + 3) (-1)) (153 + 7 * nb + 4) 0) (153 + 7 * nb + 5) 0) (153 + 7 * nb + 6) (-1)) 5 (nI (nb + 1)))) 1 (va_cpy (F 0) (F 1) 0 0 195))) := hD
      refine lv_aload_n hx hb dX4_bow_120 rfl (lv_at hl 2 rfl) ?_
      refine lv_iload_n hx hb dX4_bow_121 rfl (lv_at hl 1 rfl) ?_
      refine mcV (As := [.int (nI nb)]) (rest := []) (wr := []) (mX4_ends0 l g E ho h0 a (upd (upd I 5 0) 1 0) (va_up (va_up F 0 (upd (upd (upd (upd (upd (upd (upd (upd (F 0) (153 + 7 * nb) p0) (153 + 7 * nb + 1) 0) (153 + 7 * nb + 2) 0) (153 + 7 * nb + 3) (-1)) (153 + 7 * nb + 4) 0) (153 + 7 * nb + 5) 0) (153 + 7 * nb + 6) (-1)) 5 (nI (nb + 1)))) 1 (va_cpy (F 0) (F 1) 0 0 195)) (nI nb) n rfl hn hn8) kX4_ends q2411 hx hb hml hown hts hRf hRl ho.1 hE hS hP hD hA [0, 1, 2, 3, 4, 5, 6, 7, 8] [] rfl (by decide) rfl (by decide) (by decide) ⟨Nat.zero_le _, Nat.zero_le _⟩ (va_recv hK hP (ci := 0) (q0 := 0) rfl rfl) hl ⟨rfl, rfl⟩ rfl rfl (Nat.le_of_ble_eq_true rfl) dX4_bow_122 (fun _ H locs _ hP hD hS _ _ => ?_)
      have hP : va_P (gD g) Cl (mW g h0 a (upd (upd (upd I 5 0) 1 0) 0 (nI (chN n))) (va_up (va_up (va_up F 0 (upd (upd (upd (upd (upd (upd (upd (upd (F 0) (153 + 7 * nb) p0) (153 + 7 * nb + 1) 0) (153 + 7 * nb + 2) 0) (153 + 7 * nb + 3) (-1)) (153 + 7 * nb + 4) 0) (153 + 7 * nb + 5) 0) (153 + 7 * nb + 6) (-1)) 5 (nI (nb + 1)))) 1 (va_cpy (F 0) (F 1) 0 0 195)) 3 (chP (va_cpy (F 0) (F 1) 0 0 195) (F 3) n))) H := hP
      have hD : va_D A (mW g h0 a (upd (upd (upd I 5 0) 1 0) 0 (nI (chN n))) (va_up (va_up (va_up F 0 (upd (upd (upd (upd (upd (upd (upd (upd (F 0) (153 + 7 * nb) p0) (153 + 7 * nb + 1) 0) (153 + 7 * nb + 2) 0) (153 + 7 * nb + 3) (-1)) (153 + 7 * nb + 4) 0) (153 + 7 * nb + 5) 0) (153 + 7 * nb + 6) (-1)) 5 (nI (nb + 1)))) 1 (va_cpy (F 0) (F 1) 0 0 195)) 3 (chP (va_cpy (F 0) (F 1) 0 0 195) (F 3) n))) := hD
      have hop : opBow (F 0) p0 = (0, 0, (nI nb), (upd (upd (upd (upd (upd (upd (upd (upd (F 0) (153 + 7 * nb) p0) (153 + 7 * nb + 1) 0) (153 + 7 * nb + 2) 0) (153 + 7 * nb + 3) (-1)) (153 + 7 * nb + 4) 0) (153 + 7 * nb + 5) 0) (153 + 7 * nb + 6) (-1)) 5 (nI (nb + 1)))) := by simp only [htw, htwc, ht, htc, hh, hhc, hb6, hbc, hk5, hkc, opBow, opBowN, eq_true c_1, eq_false c_2, if_true, if_false, not_true_eq_false, not_false_eq_true, ite_true, ite_false, reduceIte, Nat.add_zero, Nat.add_sub_cancel]
      have hW1 : (mW g h0 a (upd (upd (upd I 5 0) 1 0) 0 (nI (chN n))) (va_up (va_up (va_up F 0 (upd (upd (upd (upd (upd (upd (upd (upd (F 0) (153 + 7 * nb) p0) (153 + 7 * nb + 1) 0) (153 + 7 * nb + 2) 0) (153 + 7 * nb + 3) (-1)) (153 + 7 * nb + 4) 0) (153 + 7 * nb + 5) 0) (153 + 7 * nb + 6) (-1)) 5 (nI (nb + 1)))) 1 (va_cpy (F 0) (F 1) 0 0 195)) 3 (chP (va_cpy (F 0) (F 1) 0 0 195) (F 3) n))) = mW g h0 a (pubI I n (opBow (F 0) p0)) (pubF F n (opBow (F 0) p0)) := by
        rw [hop]
        rfl
      rw [hW1] at hP hD
      exact hm_i hQ hx hb hr hlk rfl () (by rw [hop]) trivial hP hD hS (by decide) (by decide) dX4_bow_125
    refine lv_iconst (v := 1) hx hb dX4_bow_39 (by decide) ?_
    refine lv_goto (tgt := 44) hx hb dX4_bow_40 (by decide) ?_
    refine lv_iconst (v := 1) hx hb dX4_bow_44 (by decide) ?_
    refine lv_bipush (v := 6) hx hb dX4_bow_45 (by decide) ?_
    refine mcV (As := [.int 1, .int 1, .int 6]) (rest := []) (wr := []) (mX4_isRefused1 l g E ho h0 a (upd (upd I 5 0) 1 0) (va_up F 1 (va_cpy (F 0) (F 1) 0 0 195)) 1 6) kX4_isRefused q2400 hx hb hml hown hts hRf hRl ho.1 hE hS hP hD hA [0, 1, 2, 3, 4, 5, 6, 7, 8] [] rfl (by decide) rfl (by decide) (by decide) ⟨Nat.zero_le _, Nat.zero_le _⟩ (va_recv hK hP (ci := 0) (q0 := 0) rfl rfl) hl ⟨rfl, rfl⟩ rfl rfl (Nat.le_of_ble_eq_true rfl) dX4_bow_47 (fun _ H locs _ hP hD hS _ _ => ?_)
    have hP : va_P (gD g) Cl (mW g h0 a (refI (upd (upd I 5 0) 1 0) 1 6) (va_up F 1 (va_cpy (F 0) (F 1) 0 0 195))) H := hP
    have hD : va_D A (mW g h0 a (refI (upd (upd I 5 0) 1 0) 1 6) (va_up F 1 (va_cpy (F 0) (F 1) 0 0 195))) := hD
    refine lv_if_eq (tgt := 55) hx hb dX4_bow_50 (by decide) (fun c => absurd c (by decide)) (fun _ => ?_)
    refine lv_iconst (v := 0) hx hb dX4_bow_53 (by decide) ?_
    have hop : opBow (F 0) p0 = (1, 6, 0, F 0) := by simp only [htw, htwc, ht, htc, hh, hhc, hb6, hbc, hk5, hkc, opBow, opBowN, eq_true c_1, eq_true c_2, if_true, if_false, not_true_eq_false, not_false_eq_true, ite_true, ite_false, reduceIte, Nat.add_zero, Nat.add_sub_cancel]
    have hW1 : (mW g h0 a (refI (upd (upd I 5 0) 1 0) 1 6) (va_up F 1 (va_cpy (F 0) (F 1) 0 0 195))) = mW g h0 a (pubI I n (opBow (F 0) p0)) (pubF F n (opBow (F 0) p0)) := by
      rw [hop]
      rfl
    rw [hW1] at hP hD
    exact hm_i hQ hx hb hr hlk rfl () (by rw [hop]) trivial hP hD hS (by decide) (by decide) dX4_bow_54
  refine lv_iconst (v := 1) hx hb dX4_bow_14 (by decide) ?_
  refine lv_goto (tgt := 19) hx hb dX4_bow_15 (by decide) ?_
  refine lv_iconst (v := 3) hx hb dX4_bow_19 (by decide) ?_
  refine lv_iload_n hx hb dX4_bow_20 rfl (lv_at hl 1 rfl) ?_
  refine mcV (As := [.int 1, .int 3, .int p0]) (rest := []) (wr := []) (mX4_isRefused1 l g E ho h0 a (upd (upd I 5 0) 1 0) (va_up F 1 (va_cpy (F 0) (F 1) 0 0 195)) 3 p0) kX4_isRefused q2400 hx hb hml hown hts hRf hRl ho.1 hE hS hP hD hA [0, 1, 2, 3, 4, 5, 6, 7, 8] [] rfl (by decide) rfl (by decide) (by decide) ⟨Nat.zero_le _, Nat.zero_le _⟩ (va_recv hK hP (ci := 0) (q0 := 0) rfl rfl) hl ⟨rfl, rfl⟩ rfl rfl (Nat.le_of_ble_eq_true rfl) dX4_bow_21 (fun _ H locs _ hP hD hS _ _ => ?_)
  have hP : va_P (gD g) Cl (mW g h0 a (refI (upd (upd I 5 0) 1 0) 3 p0) (va_up F 1 (va_cpy (F 0) (F 1) 0 0 195))) H := hP
  have hD : va_D A (mW g h0 a (refI (upd (upd I 5 0) 1 0) 3 p0) (va_up F 1 (va_cpy (F 0) (F 1) 0 0 195))) := hD
  refine lv_if_ne (tgt := 53) hx hb dX4_bow_24 (by decide) (fun _ => ?_) (fun c => absurd c (by decide))
  refine lv_iconst (v := 0) hx hb dX4_bow_53 (by decide) ?_
  have hop : opBow (F 0) p0 = (3, p0, 0, F 0) := by simp only [htw, htwc, ht, htc, hh, hhc, hb6, hbc, hk5, hkc, opBow, opBowN, eq_false c_1, if_true, if_false, not_true_eq_false, not_false_eq_true, ite_true, ite_false, reduceIte, Nat.add_zero, Nat.add_sub_cancel]
  have hW1 : (mW g h0 a (refI (upd (upd I 5 0) 1 0) 3 p0) (va_up F 1 (va_cpy (F 0) (F 1) 0 0 195))) = mW g h0 a (pubI I n (opBow (F 0) p0)) (pubF F n (opBow (F 0) p0)) := by
    rw [hop]
    rfl
  rw [hW1] at hP hD
  exact hm_i hQ hx hb hr hlk rfl () (by rw [hop]) trivial hP hD hS (by decide) (by decide) dX4_bow_54
theorem kX4_hairsBow : hkV RX4 yX4_hairsBow cX4_hairsBow 5 (some .int) 2 := ⟨q2492, qs38, q78, q2493, rfl, by decide +kernel⟩
set_option maxHeartbeats 4000000 in
theorem mX4_hairsBow (l : Launch) (g : hG) (E : hEnv) (ho : mOk g E) (h0 : Nat) (a : Nat → Nat) (I : Nat → Int32) (F : Nat → Nat → Int32) (p0 : Int32) (p1 : Int32) (nt : Nat) (nh : Nat) (nb : Nat) (nc : Nat) (tw : Nat) (hc : Cn (F 0) nt nh nb nc tw) : MM l yX4_hairsBow cX4_hairsBow 5 (some .int) 3 66 0 0 [.ref h0, .int p0, .int p1] g E (mW g h0 a I F) (S := Unit) (fun _ => (some (.int ((opHair (F 0) p0 p1).2.2.1)))) (fun _ => True) (fun _ => mW g h0 a (opI I (opHair (F 0) p0 p1)) (va_up F 0 (opHair (F 0) p0 p1).2.2.2)) := by
  refine MM.mk (by decide) (Nat.le_of_ble_eq_true rfl) ?_
  intro p e R s m args below meth c Q A H locs ls hX hRc hRs hP hD hE hS hA hnm hl hQ
  obtain ⟨hx, hb, hr, hlk, hml, hown, hts, hRf, hRl⟩ := hX
  have hown : s.vm.findClass RX4 = some m.cls := hown
  have hK := ho.2 _ _ _ hE
  have hl : lv_has ls 5 [(0, .ref h0), (1, .int p0), (2, .int p1)] := hl
  have hc0 := hc
  obtain ⟨htw, htw6, ht, ht10, hh, hh20, hb6, hb6l, hk5, hk5l⟩ := hc
  have htc : (nI nt).toNatClampNeg = nt := nI_clamp (by omega)
  have hhc : (nI nh).toNatClampNeg = nh := nI_clamp (by omega)
  have hbc : (nI nb).toNatClampNeg = nb := nI_clamp (by omega)
  have hkc : (nI nc).toNatClampNeg = nc := nI_clamp (by omega)
  have htwc : (nI tw).toNatClampNeg = tw := nI_clamp (by omega)
  refine lv_aload_n hx hb dX4_hairsBow_0 rfl (lv_at hl 0 rfl) ?_
  refine lv_aload_n hx hb dX4_hairsBow_1 rfl (lv_at hl 0 rfl) ?_
  refine lv_iload_n hx hb dX4_hairsBow_2 rfl (lv_at hl 1 rfl) ?_
  refine rcV (As := [.int p0]) (rest := [.ref h0]) (st1 := [.int (if inR p0 0 (F 0 5 - 1) then 1 else 0), .ref h0]) (mX4_isBow l g E ho h0 a I F p0) kX4_isBow q2494 hx hb hml hown hts hRf hRl ho.1 hE hS hP (va_recv hK hP (ci := 0) (q0 := 0) rfl rfl) ⟨Nat.zero_le _, Nat.zero_le _⟩ hl ⟨rfl, rfl⟩ rfl rfl (Nat.le_of_ble_eq_true rfl) rfl dX4_hairsBow_3 ?_
  refine h_ifne_b (tgt := 13) hx hb dX4_hairsBow_6 (by decide) (fun c_1 => ?_) (fun c_1 => ?_)
  · rw [hb6] at c_1
    refine lv_iconst (v := 0) hx hb dX4_hairsBow_13 (by decide) ?_
    refine lv_iconst (v := 2) hx hb dX4_hairsBow_14 (by decide) ?_
    refine lv_iload_n hx hb dX4_hairsBow_15 rfl (lv_at hl 1 rfl) ?_
    refine rcV (As := [.int 0, .int 2, .int p0]) (rest := []) (st1 := [.int 0]) (mX4_isRefused0 l g E ho h0 a I F 2 p0) kX4_isRefused q2400 hx hb hml hown hts hRf hRl ho.1 hE hS hP (va_recv hK hP (ci := 0) (q0 := 0) rfl rfl) ⟨Nat.zero_le _, Nat.zero_le _⟩ hl ⟨rfl, rfl⟩ rfl rfl (Nat.le_of_ble_eq_true rfl) rfl dX4_hairsBow_16 ?_
    refine lv_if_ne (tgt := 44) hx hb dX4_hairsBow_19 (by decide) (fun c => absurd c (by decide)) (fun _ => ?_)
    have hrj := c_1
    obtain ⟨j, hj, rfl⟩ := inR_ix hrj rfl (by omega)
    have hjc : (nI j).toNatClampNeg = j := nI_clamp (by omega)
    refine lv_aload_n hx hb dX4_hairsBow_22 rfl (lv_at hl 0 rfl) ?_
    refine lv_aload_n hx hb dX4_hairsBow_23 rfl (lv_at hl 0 rfl) ?_
    refine lv_iload_n hx hb dX4_hairsBow_24 rfl (lv_at hl 2 rfl) ?_
    refine rcV (As := [.int p1]) (rest := [.ref h0]) (st1 := [.int (if inR p1 0 (F 0 4 - 1) then 1 else 0), .ref h0]) (mX4_isHank l g E ho h0 a I F p1) kX4_isHank q2449 hx hb hml hown hts hRf hRl ho.1 hE hS hP (va_recv hK hP (ci := 0) (q0 := 0) rfl rfl) ⟨Nat.zero_le _, Nat.zero_le _⟩ hl ⟨rfl, rfl⟩ rfl rfl (Nat.le_of_ble_eq_true rfl) rfl dX4_hairsBow_25 ?_
    refine h_ifne_b (tgt := 35) hx hb dX4_hairsBow_28 (by decide) (fun c_2 => ?_) (fun c_2 => ?_)
    · rw [hh] at c_2
      refine lv_iconst (v := 0) hx hb dX4_hairsBow_35 (by decide) ?_
      refine lv_iconst (v := 2) hx hb dX4_hairsBow_36 (by decide) ?_
      refine lv_iload_n hx hb dX4_hairsBow_37 rfl (lv_at hl 2 rfl) ?_
      refine rcV (As := [.int 0, .int 2, .int p1]) (rest := []) (st1 := [.int 0]) (mX4_isRefused0 l g E ho h0 a I F 2 p1) kX4_isRefused q2400 hx hb hml hown hts hRf hRl ho.1 hE hS hP (va_recv hK hP (ci := 0) (q0 := 0) rfl rfl) ⟨Nat.zero_le _, Nat.zero_le _⟩ hl ⟨rfl, rfl⟩ rfl rfl (Nat.le_of_ble_eq_true rfl) rfl dX4_hairsBow_38 ?_
      refine lv_if_eq (tgt := 46) hx hb dX4_hairsBow_41 (by decide) (fun _ => ?_) (fun c => absurd c (by decide))
      have hri := c_2
      obtain ⟨i, hi, rfl⟩ := inR_ix hri rfl (by omega)
      have hic : (nI i).toNatClampNeg = i := nI_clamp (by omega)
      refine lv_aload_n hx hb dX4_hairsBow_46 rfl (lv_at hl 0 rfl) ?_
      refine lv_iload_n hx hb dX4_hairsBow_47 rfl (lv_at hl 1 rfl) ?_
      refine lv_iconst (v := 0) hx hb dX4_hairsBow_48 (by decide) ?_
      refine rcV (As := [.int (nI j), .int 0]) (rest := []) (st1 := [.int (F 0 (153 + 7 * j))]) (mX4_ofBow l g E ho h0 a I F j 0 (by omega)) kX4_ofBow q2498 hx hb hml hown hts hRf hRl ho.1 hE hS hP (va_recv hK hP (ci := 0) (q0 := 0) rfl rfl) ⟨Nat.zero_le _, Nat.zero_le _⟩ hl ⟨rfl, rfl⟩ rfl rfl (Nat.le_of_ble_eq_true rfl) rfl dX4_hairsBow_49 ?_
      refine lv_istore_n (lv' := [(3, .int (F 0 (153 + 7 * j))), (0, .ref h0), (1, .int (nI j)), (2, .int (nI i))]) hx hb dX4_hairsBow_52 rfl hl (by decide) rfl (fun ls hl => ?_)
      refine lv_iload_n hx hb dX4_hairsBow_53 rfl (lv_at hl 0 rfl) ?_
      refine rcS (As := [.int (F 0 (153 + 7 * j))]) (rest := []) (st1 := [.int (longK (F 0 (153 + 7 * j)))]) (mX4_longEnough l g E ho (F 0 (153 + 7 * j))) kX4_longEnough q2502 hx hb hml hown hts hRf hRl ho.1 hE hS (hP.sub [] rfl) ⟨Nat.zero_le _, Nat.zero_le _⟩ hl ⟨rfl, rfl⟩ rfl rfl (Nat.le_of_ble_eq_true rfl) rfl dX4_hairsBow_54 ?_
      refine lv_aload_n hx hb dX4_hairsBow_57 rfl (lv_at hl 1 rfl) ?_
      refine lv_iload_n hx hb dX4_hairsBow_58 rfl (lv_at hl 3 rfl) ?_
      refine lv_iconst (v := 1) hx hb dX4_hairsBow_59 (by decide) ?_
      refine rcV (As := [.int (nI i), .int 1]) (rest := [.int (longK (F 0 (153 + 7 * j)))]) (st1 := [.int (F 0 (73 + 4 * i + 1)), .int (longK (F 0 (153 + 7 * j)))]) (mX4_ofHank l g E ho h0 a I F i 1 (by omega)) kX4_ofHank q2453 hx hb hml hown hts hRf hRl ho.1 hE hS hP (va_recv hK hP (ci := 0) (q0 := 0) rfl rfl) ⟨Nat.zero_le _, Nat.zero_le _⟩ hl ⟨rfl, rfl⟩ rfl rfl (Nat.le_of_ble_eq_true rfl) rfl dX4_hairsBow_60 ?_
      refine lv_isub hx hb dX4_hairsBow_63 ?_
      refine lv_istore (lv' := [(4, .int ((longK (F 0 (153 + 7 * j))) - (F 0 (73 + 4 * i + 1)))), (3, .int (F 0 (153 + 7 * j))), (0, .ref h0), (1, .int (nI j)), (2, .int (nI i))]) hx hb dX4_hairsBow_64 hl (by decide) rfl (fun ls hl => ?_)
      refine lv_aload_n hx hb dX4_hairsBow_66 rfl (lv_at hl 2 rfl) ?_
      refine lv_iload hx hb dX4_hairsBow_67 (lv_at hl 0 rfl) ?_
      refine lv_if_le (tgt := 76) hx hb dX4_hairsBow_69 (by decide) (fun c_3 => ?_) (fun c_3 => ?_)
      · refine lv_iconst (v := 0) hx hb dX4_hairsBow_76 (by decide) ?_
        refine lv_bipush (v := 6) hx hb dX4_hairsBow_77 (by decide) ?_
        refine lv_iload hx hb dX4_hairsBow_79 (lv_at hl 0 rfl) ?_
        refine rcV (As := [.int 0, .int 6, .int ((longK (F 0 (153 + 7 * j))) - (F 0 (73 + 4 * i + 1)))]) (rest := []) (st1 := [.int 0]) (mX4_isRefused0 l g E ho h0 a I F 6 ((longK (F 0 (153 + 7 * j))) - (F 0 (73 + 4 * i + 1)))) kX4_isRefused q2400 hx hb hml hown hts hRf hRl ho.1 hE hS hP (va_recv hK hP (ci := 0) (q0 := 0) rfl rfl) ⟨Nat.zero_le _, Nat.zero_le _⟩ hl ⟨rfl, rfl⟩ rfl rfl (Nat.le_of_ble_eq_true rfl) rfl dX4_hairsBow_81 ?_
        refine lv_if_ne (tgt := 119) hx hb dX4_hairsBow_84 (by decide) (fun c => absurd c (by decide)) (fun _ => ?_)
        refine lv_aload_n hx hb dX4_hairsBow_87 rfl (lv_at hl 2 rfl) ?_
        refine lv_aload_n hx hb dX4_hairsBow_88 rfl (lv_at hl 2 rfl) ?_
        refine lv_iload_n hx hb dX4_hairsBow_89 rfl (lv_at hl 4 rfl) ?_
        refine lv_iconst (v := 2) hx hb dX4_hairsBow_90 (by decide) ?_
        refine rcV (As := [.int (nI i), .int 2]) (rest := [.ref h0]) (st1 := [.int (F 0 (73 + 4 * i + 2)), .ref h0]) (mX4_ofHank l g E ho h0 a I F i 2 (by omega)) kX4_ofHank q2453 hx hb hml hown hts hRf hRl ho.1 hE hS hP (va_recv hK hP (ci := 0) (q0 := 0) rfl rfl) ⟨Nat.zero_le _, Nat.zero_le _⟩ hl ⟨rfl, rfl⟩ rfl rfl (Nat.le_of_ble_eq_true rfl) rfl dX4_hairsBow_91 ?_
        refine lv_iload_n hx hb dX4_hairsBow_94 rfl (lv_at hl 1 rfl) ?_
        refine rcS (As := [.int (F 0 (153 + 7 * j))]) (rest := [.int (F 0 (73 + 4 * i + 2)), .ref h0]) (st1 := [.int (needsK (F 0 (153 + 7 * j))), .int (F 0 (73 + 4 * i + 2)), .ref h0]) (mX4_needs l g E ho (F 0 (153 + 7 * j))) kX4_needs q2505 hx hb hml hown hts hRf hRl ho.1 hE hS (hP.sub [] rfl) ⟨Nat.zero_le _, Nat.zero_le _⟩ hl ⟨rfl, rfl⟩ rfl rfl (Nat.le_of_ble_eq_true rfl) rfl dX4_hairsBow_95 ?_
        refine lv_icmp_ge (tgt := 105) hx hb dX4_hairsBow_98 (by decide) (fun c_4 => ?_) (fun c_4 => ?_)
        · refine lv_iconst (v := 0) hx hb dX4_hairsBow_105 (by decide) ?_
          refine lv_iconst (v := 5) hx hb dX4_hairsBow_106 (by decide) ?_
          refine lv_aload_n hx hb dX4_hairsBow_107 rfl (lv_at hl 2 rfl) ?_
          refine lv_iload_n hx hb dX4_hairsBow_108 rfl (lv_at hl 4 rfl) ?_
          refine lv_iconst (v := 2) hx hb dX4_hairsBow_109 (by decide) ?_
          refine rcV (As := [.int (nI i), .int 2]) (rest := [.int 5, .int 0, .ref h0]) (st1 := [.int (F 0 (73 + 4 * i + 2)), .int 5, .int 0, .ref h0]) (mX4_ofHank l g E ho h0 a I F i 2 (by omega)) kX4_ofHank q2453 hx hb hml hown hts hRf hRl ho.1 hE hS hP (va_recv hK hP (ci := 0) (q0 := 0) rfl rfl) ⟨Nat.zero_le _, Nat.zero_le _⟩ hl ⟨rfl, rfl⟩ rfl rfl (Nat.le_of_ble_eq_true rfl) rfl dX4_hairsBow_110 ?_
          refine rcV (As := [.int 0, .int 5, .int (F 0 (73 + 4 * i + 2))]) (rest := []) (st1 := [.int 0]) (mX4_isRefused0 l g E ho h0 a I F 5 (F 0 (73 + 4 * i + 2))) kX4_isRefused q2400 hx hb hml hown hts hRf hRl ho.1 hE hS hP (va_recv hK hP (ci := 0) (q0 := 0) rfl rfl) ⟨Nat.zero_le _, Nat.zero_le _⟩ hl ⟨rfl, rfl⟩ rfl rfl (Nat.le_of_ble_eq_true rfl) rfl dX4_hairsBow_113 ?_
          refine lv_if_eq (tgt := 121) hx hb dX4_hairsBow_116 (by decide) (fun _ => ?_) (fun c => absurd c (by decide))
          refine lv_aload_n hx hb dX4_hairsBow_121 rfl (lv_at hl 2 rfl) ?_
          refine va_get (D := gD g) (ci := 0) (v := .ref (a 0)) (C := RX4) (T := TX4) (N := 21) hx hb hts in_X4 hown hK hP 0 rfl rfl 0 (by decide) (hts _ q2314) (fun _ h9 => h9) rfl dX4_hairsBow_122 ?_
          refine lv_bipush (v := 11) hx hb dX4_hairsBow_125 (by decide) ?_
          refine lv_dup2_11 hx hb dX4_hairsBow_127 rfl rfl ?_
          refine h_iald (f := (F 0)) hx hb hK hP 1 0 rfl rfl 11 rfl (by decide) (by decide) dX4_hairsBow_128 ?_
          refine lv_aload_n hx hb dX4_hairsBow_129 rfl (lv_at hl 2 rfl) ?_
          refine lv_iload_n hx hb dX4_hairsBow_130 rfl (lv_at hl 3 rfl) ?_
          refine lv_iconst (v := 2) hx hb dX4_hairsBow_131 (by decide) ?_
          refine rcV (As := [.int (nI j), .int 2]) (rest := [.int (F 0 11), .int 11, .ref (a 0)]) (st1 := [.int (F 0 (153 + 7 * j + 2)), .int (F 0 11), .int 11, .ref (a 0)]) (mX4_ofBow l g E ho h0 a I F j 2 (by omega)) kX4_ofBow q2498 hx hb hml hown hts hRf hRl ho.1 hE hS hP (va_recv hK hP (ci := 0) (q0 := 0) rfl rfl) ⟨Nat.zero_le _, Nat.zero_le _⟩ hl ⟨rfl, rfl⟩ rfl rfl (Nat.le_of_ble_eq_true rfl) rfl dX4_hairsBow_132 ?_
          refine lv_iadd hx hb dX4_hairsBow_135 ?_
          refine h_iast (f := (F 0)) hx hb hK hP hD hS 1 0 rfl rfl 11 rfl (by decide) (by decide) dX4_hairsBow_136 (fun H locs hP hD hS => ?_)
          have hP : va_P (gD g) Cl (mW g h0 a I (va_up F 0 (upd (F 0) 11 ((F 0 11) + (F 0 (153 + 7 * j + 2)))))) H := hP
          have hD : va_D A (mW g h0 a I (va_up F 0 (upd (F 0) 11 ((F 0 11) + (F 0 (153 + 7 * j + 2)))))) := hD
          refine lv_aload_n hx hb dX4_hairsBow_137 rfl (lv_at hl 2 rfl) ?_
          refine va_get (D := gD g) (ci := 0) (v := .ref (a 0)) (C := RX4) (T := TX4) (N := 21) hx hb hts in_X4 hown hK hP 0 rfl rfl 0 (by decide) (hts _ q2314) (fun _ h9 => h9) rfl dX4_hairsBow_138 ?_
          refine lv_iload_n hx hb dX4_hairsBow_141 rfl (lv_at hl 3 rfl) ?_
          refine lv_iconst (v := 2) hx hb dX4_hairsBow_142 (by decide) ?_
          refine rcS (As := [.int (nI j), .int 2]) (rest := [.ref (a 0)]) (st1 := [.int (nI (153 + 7 * j + 2)), .ref (a 0)]) (mX4_bowAt l g E ho j 2) kX4_bowAt q2483 hx hb hml hown hts hRf hRl ho.1 hE hS (hP.sub [] rfl) ⟨Nat.zero_le _, Nat.zero_le _⟩ hl ⟨rfl, rfl⟩ rfl rfl (Nat.le_of_ble_eq_true rfl) rfl dX4_hairsBow_143 ?_
          refine lv_iload_n hx hb dX4_hairsBow_146 rfl (lv_at hl 1 rfl) ?_
          refine rcS (As := [.int (F 0 (153 + 7 * j))]) (rest := [.int (nI (153 + 7 * j + 2)), .ref (a 0)]) (st1 := [.int (needsK (F 0 (153 + 7 * j))), .int (nI (153 + 7 * j + 2)), .ref (a 0)]) (mX4_needs l g E ho (F 0 (153 + 7 * j))) kX4_needs q2505 hx hb hml hown hts hRf hRl ho.1 hE hS (hP.sub [] rfl) ⟨Nat.zero_le _, Nat.zero_le _⟩ hl ⟨rfl, rfl⟩ rfl rfl (Nat.le_of_ble_eq_true rfl) rfl dX4_hairsBow_147 ?_
          refine h_iast (f := (upd (F 0) 11 ((F 0 11) + (F 0 (153 + 7 * j + 2))))) hx hb hK hP hD hS 1 0 rfl rfl (153 + 7 * j + 2) rfl (by omega) (by decide) dX4_hairsBow_150 (fun H locs hP hD hS => ?_)
          have hP : va_P (gD g) Cl (mW g h0 a I (va_up F 0 (upd (upd (F 0) 11 ((F 0 11) + (F 0 (153 + 7 * j + 2)))) (153 + 7 * j + 2) (needsK (F 0 (153 + 7 * j)))))) H := hP
          have hD : va_D A (mW g h0 a I (va_up F 0 (upd (upd (F 0) 11 ((F 0 11) + (F 0 (153 + 7 * j + 2)))) (153 + 7 * j + 2) (needsK (F 0 (153 + 7 * j)))))) := hD
          refine lv_aload_n hx hb dX4_hairsBow_151 rfl (lv_at hl 2 rfl) ?_
          refine va_get (D := gD g) (ci := 0) (v := .ref (a 0)) (C := RX4) (T := TX4) (N := 21) hx hb hts in_X4 hown hK hP 0 rfl rfl 0 (by decide) (hts _ q2314) (fun _ h9 => h9) rfl dX4_hairsBow_152 ?_
          refine lv_iload_n hx hb dX4_hairsBow_155 rfl (lv_at hl 3 rfl) ?_
          refine lv_iconst (v := 1) hx hb dX4_hairsBow_156 (by decide) ?_
          refine rcS (As := [.int (nI j), .int 1]) (rest := [.ref (a 0)]) (st1 := [.int (nI (153 + 7 * j + 1)), .ref (a 0)]) (mX4_bowAt l g E ho j 1) kX4_bowAt q2483 hx hb hml hown hts hRf hRl ho.1 hE hS (hP.sub [] rfl) ⟨Nat.zero_le _, Nat.zero_le _⟩ hl ⟨rfl, rfl⟩ rfl rfl (Nat.le_of_ble_eq_true rfl) rfl dX4_hairsBow_157 ?_
          refine lv_iconst (v := 0) hx hb dX4_hairsBow_160 (by decide) ?_
          refine h_iast (f := (upd (upd (F 0) 11 ((F 0 11) + (F 0 (153 + 7 * j + 2)))) (153 + 7 * j + 2) (needsK (F 0 (153 + 7 * j))))) hx hb hK hP hD hS 1 0 rfl rfl (153 + 7 * j + 1) rfl (by omega) (by decide) dX4_hairsBow_161 (fun H locs hP hD hS => ?_)
          have hP : va_P (gD g) Cl (mW g h0 a I (va_up F 0 (upd (upd (upd (F 0) 11 ((F 0 11) + (F 0 (153 + 7 * j + 2)))) (153 + 7 * j + 2) (needsK (F 0 (153 + 7 * j)))) (153 + 7 * j + 1) 0))) H := hP
          have hD : va_D A (mW g h0 a I (va_up F 0 (upd (upd (upd (F 0) 11 ((F 0 11) + (F 0 (153 + 7 * j + 2)))) (153 + 7 * j + 2) (needsK (F 0 (153 + 7 * j)))) (153 + 7 * j + 1) 0))) := hD
          refine lv_aload_n hx hb dX4_hairsBow_162 rfl (lv_at hl 2 rfl) ?_
          refine va_get (D := gD g) (ci := 0) (v := .ref (a 0)) (C := RX4) (T := TX4) (N := 21) hx hb hts in_X4 hown hK hP 0 rfl rfl 0 (by decide) (hts _ q2314) (fun _ h9 => h9) rfl dX4_hairsBow_163 ?_
          refine lv_iload_n hx hb dX4_hairsBow_166 rfl (lv_at hl 3 rfl) ?_
          refine lv_iconst (v := 3) hx hb dX4_hairsBow_167 (by decide) ?_
          refine rcS (As := [.int (nI j), .int 3]) (rest := [.ref (a 0)]) (st1 := [.int (nI (153 + 7 * j + 3)), .ref (a 0)]) (mX4_bowAt l g E ho j 3) kX4_bowAt q2483 hx hb hml hown hts hRf hRl ho.1 hE hS (hP.sub [] rfl) ⟨Nat.zero_le _, Nat.zero_le _⟩ hl ⟨rfl, rfl⟩ rfl rfl (Nat.le_of_ble_eq_true rfl) rfl dX4_hairsBow_168 ?_
          refine lv_aload_n hx hb dX4_hairsBow_171 rfl (lv_at hl 2 rfl) ?_
          refine lv_iload_n hx hb dX4_hairsBow_172 rfl (lv_at hl 4 rfl) ?_
          refine rcV (As := [.int (nI i)]) (rest := [.int (nI (153 + 7 * j + 3)), .ref (a 0)]) (st1 := [.int (grade (upd (upd (upd (F 0) 11 ((F 0 11) + (F 0 (153 + 7 * j + 2)))) (153 + 7 * j + 2) (needsK (F 0 (153 + 7 * j)))) (153 + 7 * j + 1) 0) i), .int (nI (153 + 7 * j + 3)), .ref (a 0)]) (mX4_gradeBy l g E ho h0 a I (va_up F 0 (upd (upd (upd (F 0) 11 ((F 0 11) + (F 0 (153 + 7 * j + 2)))) (153 + 7 * j + 2) (needsK (F 0 (153 + 7 * j)))) (153 + 7 * j + 1) 0)) i (by omega)) kX4_gradeBy q2508 hx hb hml hown hts hRf hRl ho.1 hE hS hP (va_recv hK hP (ci := 0) (q0 := 0) rfl rfl) ⟨Nat.zero_le _, Nat.zero_le _⟩ hl ⟨rfl, rfl⟩ rfl rfl (Nat.le_of_ble_eq_true rfl) rfl dX4_hairsBow_173 ?_
          refine h_topi (v := grade (F 0) i) (by rw [grade_un (by omega) (by omega), grade_un (by omega) (by omega), grade_un (by omega) (by omega)]) ?_
          refine h_iast (f := (upd (upd (upd (F 0) 11 ((F 0 11) + (F 0 (153 + 7 * j + 2)))) (153 + 7 * j + 2) (needsK (F 0 (153 + 7 * j)))) (153 + 7 * j + 1) 0)) hx hb hK hP hD hS 1 0 rfl rfl (153 + 7 * j + 3) rfl (by omega) (by decide) dX4_hairsBow_176 (fun H locs hP hD hS => ?_)
          have hP : va_P (gD g) Cl (mW g h0 a I (va_up F 0 (upd (upd (upd (upd (F 0) 11 ((F 0 11) + (F 0 (153 + 7 * j + 2)))) (153 + 7 * j + 2) (needsK (F 0 (153 + 7 * j)))) (153 + 7 * j + 1) 0) (153 + 7 * j + 3) (grade (F 0) i)))) H := hP
          have hD : va_D A (mW g h0 a I (va_up F 0 (upd (upd (upd (upd (F 0) 11 ((F 0 11) + (F 0 (153 + 7 * j + 2)))) (153 + 7 * j + 2) (needsK (F 0 (153 + 7 * j)))) (153 + 7 * j + 1) 0) (153 + 7 * j + 3) (grade (F 0) i)))) := hD
          refine lv_aload_n hx hb dX4_hairsBow_177 rfl (lv_at hl 2 rfl) ?_
          refine va_get (D := gD g) (ci := 0) (v := .ref (a 0)) (C := RX4) (T := TX4) (N := 21) hx hb hts in_X4 hown hK hP 0 rfl rfl 0 (by decide) (hts _ q2314) (fun _ h9 => h9) rfl dX4_hairsBow_178 ?_
          refine lv_iload_n hx hb dX4_hairsBow_181 rfl (lv_at hl 3 rfl) ?_
          refine lv_bipush (v := 6) hx hb dX4_hairsBow_182 (by decide) ?_
          refine rcS (As := [.int (nI j), .int 6]) (rest := [.ref (a 0)]) (st1 := [.int (nI (153 + 7 * j + 6)), .ref (a 0)]) (mX4_bowAt l g E ho j 6) kX4_bowAt q2483 hx hb hml hown hts hRf hRl ho.1 hE hS (hP.sub [] rfl) ⟨Nat.zero_le _, Nat.zero_le _⟩ hl ⟨rfl, rfl⟩ rfl rfl (Nat.le_of_ble_eq_true rfl) rfl dX4_hairsBow_184 ?_
          refine lv_aload_n hx hb dX4_hairsBow_187 rfl (lv_at hl 2 rfl) ?_
          refine lv_iload_n hx hb dX4_hairsBow_188 rfl (lv_at hl 4 rfl) ?_
          refine lv_iconst (v := 3) hx hb dX4_hairsBow_189 (by decide) ?_
          refine rcV (As := [.int (nI i), .int 3]) (rest := [.int (nI (153 + 7 * j + 6)), .ref (a 0)]) (st1 := [.int ((upd (upd (upd (upd (F 0) 11 ((F 0 11) + (F 0 (153 + 7 * j + 2)))) (153 + 7 * j + 2) (needsK (F 0 (153 + 7 * j)))) (153 + 7 * j + 1) 0) (153 + 7 * j + 3) (grade (F 0) i)) (73 + 4 * i + 3)), .int (nI (153 + 7 * j + 6)), .ref (a 0)]) (mX4_ofHank l g E ho h0 a I (va_up F 0 (upd (upd (upd (upd (F 0) 11 ((F 0 11) + (F 0 (153 + 7 * j + 2)))) (153 + 7 * j + 2) (needsK (F 0 (153 + 7 * j)))) (153 + 7 * j + 1) 0) (153 + 7 * j + 3) (grade (F 0) i))) i 3 (by omega)) kX4_ofHank q2453 hx hb hml hown hts hRf hRl ho.1 hE hS hP (va_recv hK hP (ci := 0) (q0 := 0) rfl rfl) ⟨Nat.zero_le _, Nat.zero_le _⟩ hl ⟨rfl, rfl⟩ rfl rfl (Nat.le_of_ble_eq_true rfl) rfl dX4_hairsBow_190 ?_
          refine h_topi (v := F 0 (73 + 4 * i + 3)) (by rw [pk_un (by omega), pk_un (by omega), pk_un (by omega), pk_un (by omega)]) ?_
          refine h_iast (f := (upd (upd (upd (upd (F 0) 11 ((F 0 11) + (F 0 (153 + 7 * j + 2)))) (153 + 7 * j + 2) (needsK (F 0 (153 + 7 * j)))) (153 + 7 * j + 1) 0) (153 + 7 * j + 3) (grade (F 0) i))) hx hb hK hP hD hS 1 0 rfl rfl (153 + 7 * j + 6) rfl (by omega) (by decide) dX4_hairsBow_193 (fun H locs hP hD hS => ?_)
          have hP : va_P (gD g) Cl (mW g h0 a I (va_up F 0 (upd (upd (upd (upd (upd (F 0) 11 ((F 0 11) + (F 0 (153 + 7 * j + 2)))) (153 + 7 * j + 2) (needsK (F 0 (153 + 7 * j)))) (153 + 7 * j + 1) 0) (153 + 7 * j + 3) (grade (F 0) i)) (153 + 7 * j + 6) (F 0 (73 + 4 * i + 3))))) H := hP
          have hD : va_D A (mW g h0 a I (va_up F 0 (upd (upd (upd (upd (upd (F 0) 11 ((F 0 11) + (F 0 (153 + 7 * j + 2)))) (153 + 7 * j + 2) (needsK (F 0 (153 + 7 * j)))) (153 + 7 * j + 1) 0) (153 + 7 * j + 3) (grade (F 0) i)) (153 + 7 * j + 6) (F 0 (73 + 4 * i + 3))))) := hD
          refine lv_aload_n hx hb dX4_hairsBow_194 rfl (lv_at hl 2 rfl) ?_
          refine lv_iload_n hx hb dX4_hairsBow_195 rfl (lv_at hl 4 rfl) ?_
          refine lv_iload_n hx hb dX4_hairsBow_196 rfl (lv_at hl 1 rfl) ?_
          refine rcS (As := [.int (F 0 (153 + 7 * j))]) (rest := [.int (nI i), .ref h0]) (st1 := [.int (needsK (F 0 (153 + 7 * j))), .int (nI i), .ref h0]) (mX4_needs l g E ho (F 0 (153 + 7 * j))) kX4_needs q2505 hx hb hml hown hts hRf hRl ho.1 hE hS (hP.sub [] rfl) ⟨Nat.zero_le _, Nat.zero_le _⟩ hl ⟨rfl, rfl⟩ rfl rfl (Nat.le_of_ble_eq_true rfl) rfl dX4_hairsBow_197 ?_
          refine mcV (As := [.int (nI i), .int (needsK (F 0 (153 + 7 * j)))]) (rest := []) (wr := []) (mX4_loses l g E ho h0 a I (va_up F 0 (upd (upd (upd (upd (upd (F 0) 11 ((F 0 11) + (F 0 (153 + 7 * j + 2)))) (153 + 7 * j + 2) (needsK (F 0 (153 + 7 * j)))) (153 + 7 * j + 1) 0) (153 + 7 * j + 3) (grade (F 0) i)) (153 + 7 * j + 6) (F 0 (73 + 4 * i + 3)))) i (needsK (F 0 (153 + 7 * j))) nt nh nb nc tw (⟨by show (upd (upd (upd (upd (upd (F 0) 11 ((F 0 11) + (F 0 (153 + 7 * j + 2)))) (153 + 7 * j + 2) (needsK (F 0 (153 + 7 * j)))) (153 + 7 * j + 1) 0) (153 + 7 * j + 3) (grade (F 0) i)) (153 + 7 * j + 6) (F 0 (73 + 4 * i + 3))) 2 = _; rw [pk_un (by omega), pk_un (by omega), pk_un (by omega), pk_un (by omega), pk_un (by omega)]; exact htw, htw6, by show (upd (upd (upd (upd (upd (F 0) 11 ((F 0 11) + (F 0 (153 + 7 * j + 2)))) (153 + 7 * j + 2) (needsK (F 0 (153 + 7 * j)))) (153 + 7 * j + 1) 0) (153 + 7 * j + 3) (grade (F 0) i)) (153 + 7 * j + 6) (F 0 (73 + 4 * i + 3))) 3 = _; rw [pk_un (by omega), pk_un (by omega), pk_un (by omega), pk_un (by omega), pk_un (by omega)]; exact ht, ht10, by show (upd (upd (upd (upd (upd (F 0) 11 ((F 0 11) + (F 0 (153 + 7 * j + 2)))) (153 + 7 * j + 2) (needsK (F 0 (153 + 7 * j)))) (153 + 7 * j + 1) 0) (153 + 7 * j + 3) (grade (F 0) i)) (153 + 7 * j + 6) (F 0 (73 + 4 * i + 3))) 4 = _; rw [pk_un (by omega), pk_un (by omega), pk_un (by omega), pk_un (by omega), pk_un (by omega)]; exact hh, hh20, by show (upd (upd (upd (upd (upd (F 0) 11 ((F 0 11) + (F 0 (153 + 7 * j + 2)))) (153 + 7 * j + 2) (needsK (F 0 (153 + 7 * j)))) (153 + 7 * j + 1) 0) (153 + 7 * j + 3) (grade (F 0) i)) (153 + 7 * j + 6) (F 0 (73 + 4 * i + 3))) 5 = _; rw [pk_un (by omega), pk_un (by omega), pk_un (by omega), pk_un (by omega), pk_un (by omega)]; exact hb6, hb6l, by show (upd (upd (upd (upd (upd (F 0) 11 ((F 0 11) + (F 0 (153 + 7 * j + 2)))) (153 + 7 * j + 2) (needsK (F 0 (153 + 7 * j)))) (153 + 7 * j + 1) 0) (153 + 7 * j + 3) (grade (F 0) i)) (153 + 7 * j + 6) (F 0 (73 + 4 * i + 3))) 6 = _; rw [pk_un (by omega), pk_un (by omega), pk_un (by omega), pk_un (by omega), pk_un (by omega)]; exact hk5, hk5l⟩) (by omega)) kX4_loses q2475 hx hb hml hown hts hRf hRl ho.1 hE hS hP hD hA [0, 1, 2, 3, 4, 5, 6, 7, 8] [] rfl (by decide) rfl (by decide) (by decide) ⟨Nat.zero_le _, Nat.zero_le _⟩ (va_recv hK hP (ci := 0) (q0 := 0) rfl rfl) hl ⟨rfl, rfl⟩ rfl rfl (Nat.le_of_ble_eq_true rfl) dX4_hairsBow_200 (fun _ H locs _ hP hD hS _ _ => ?_)
          have hP : va_P (gD g) Cl (mW g h0 a I (va_up F 0 (loseS (upd (upd (upd (upd (upd (F 0) 11 ((F 0 11) + (F 0 (153 + 7 * j + 2)))) (153 + 7 * j + 2) (needsK (F 0 (153 + 7 * j)))) (153 + 7 * j + 1) 0) (153 + 7 * j + 3) (grade (F 0) i)) (153 + 7 * j + 6) (F 0 (73 + 4 * i + 3))) i nh (needsK (F 0 (153 + 7 * j)))))) H := hP
          have hD : va_D A (mW g h0 a I (va_up F 0 (loseS (upd (upd (upd (upd (upd (F 0) 11 ((F 0 11) + (F 0 (153 + 7 * j + 2)))) (153 + 7 * j + 2) (needsK (F 0 (153 + 7 * j)))) (153 + 7 * j + 1) 0) (153 + 7 * j + 3) (grade (F 0) i)) (153 + 7 * j + 6) (F 0 (73 + 4 * i + 3))) i nh (needsK (F 0 (153 + 7 * j)))))) := hD
          refine lv_aload_n hx hb dX4_hairsBow_203 rfl (lv_at hl 2 rfl) ?_
          refine lv_iload_n hx hb dX4_hairsBow_204 rfl (lv_at hl 3 rfl) ?_
          refine lv_iconst (v := 3) hx hb dX4_hairsBow_205 (by decide) ?_
          refine rcV (As := [.int (nI j), .int 3]) (rest := []) (st1 := [.int ((loseS (upd (upd (upd (upd (upd (F 0) 11 ((F 0 11) + (F 0 (153 + 7 * j + 2)))) (153 + 7 * j + 2) (needsK (F 0 (153 + 7 * j)))) (153 + 7 * j + 1) 0) (153 + 7 * j + 3) (grade (F 0) i)) (153 + 7 * j + 6) (F 0 (73 + 4 * i + 3))) i nh (needsK (F 0 (153 + 7 * j)))) (153 + 7 * j + 3))]) (mX4_ofBow l g E ho h0 a I (va_up F 0 (loseS (upd (upd (upd (upd (upd (F 0) 11 ((F 0 11) + (F 0 (153 + 7 * j + 2)))) (153 + 7 * j + 2) (needsK (F 0 (153 + 7 * j)))) (153 + 7 * j + 1) 0) (153 + 7 * j + 3) (grade (F 0) i)) (153 + 7 * j + 6) (F 0 (73 + 4 * i + 3))) i nh (needsK (F 0 (153 + 7 * j))))) j 3 (by omega)) kX4_ofBow q2498 hx hb hml hown hts hRf hRl ho.1 hE hS hP (va_recv hK hP (ci := 0) (q0 := 0) rfl rfl) ⟨Nat.zero_le _, Nat.zero_le _⟩ hl ⟨rfl, rfl⟩ rfl rfl (Nat.le_of_ble_eq_true rfl) rfl dX4_hairsBow_206 ?_
          refine h_topi (v := grade (F 0) i) (by rw [loseS_far (by omega) (by omega) (by omega) (by omega), pk_un (by omega), pk_us]) ?_
          have hop : opHair (F 0) (nI j) (nI i) = (0, 0, grade (F 0) i, (loseS (upd (upd (upd (upd (upd (F 0) 11 ((F 0 11) + (F 0 (153 + 7 * j + 2)))) (153 + 7 * j + 2) (needsK (F 0 (153 + 7 * j)))) (153 + 7 * j + 1) 0) (153 + 7 * j + 3) (grade (F 0) i)) (153 + 7 * j + 6) (F 0 (73 + 4 * i + 3))) i nh (needsK (F 0 (153 + 7 * j))))) := by simp only [htw, htwc, ht, htc, hh, hhc, hb6, hbc, hk5, hkc, opHair, opHairN, hjc, hic, eq_true c_1, eq_true c_2, eq_true c_3, eq_false (Int32.not_lt.mpr c_3), eq_true c_4, eq_false (Int32.not_lt.mpr c_4), if_true, if_false, not_true_eq_false, not_false_eq_true, ite_true, ite_false, reduceIte, Nat.add_zero, Nat.add_sub_cancel]
          have hW1 : (mW g h0 a I (va_up F 0 (loseS (upd (upd (upd (upd (upd (F 0) 11 ((F 0 11) + (F 0 (153 + 7 * j + 2)))) (153 + 7 * j + 2) (needsK (F 0 (153 + 7 * j)))) (153 + 7 * j + 1) 0) (153 + 7 * j + 3) (grade (F 0) i)) (153 + 7 * j + 6) (F 0 (73 + 4 * i + 3))) i nh (needsK (F 0 (153 + 7 * j)))))) = mW g h0 a (opI I (opHair (F 0) (nI j) (nI i))) (va_up F 0 (opHair (F 0) (nI j) (nI i)).2.2.2) := by
            rw [hop]
            first | rfl | (simp only [opI, hup_id]; rfl)
          rw [hW1] at hP hD
          exact hm_i hQ hx hb hr hlk rfl () (by rw [hop]) trivial hP hD hS (by decide) (by decide) dX4_hairsBow_209
        refine lv_iconst (v := 1) hx hb dX4_hairsBow_101 (by decide) ?_
        refine lv_goto (tgt := 106) hx hb dX4_hairsBow_102 (by decide) ?_
        refine lv_iconst (v := 5) hx hb dX4_hairsBow_106 (by decide) ?_
        refine lv_aload_n hx hb dX4_hairsBow_107 rfl (lv_at hl 2 rfl) ?_
        refine lv_iload_n hx hb dX4_hairsBow_108 rfl (lv_at hl 4 rfl) ?_
        refine lv_iconst (v := 2) hx hb dX4_hairsBow_109 (by decide) ?_
        refine rcV (As := [.int (nI i), .int 2]) (rest := [.int 5, .int 1, .ref h0]) (st1 := [.int (F 0 (73 + 4 * i + 2)), .int 5, .int 1, .ref h0]) (mX4_ofHank l g E ho h0 a I F i 2 (by omega)) kX4_ofHank q2453 hx hb hml hown hts hRf hRl ho.1 hE hS hP (va_recv hK hP (ci := 0) (q0 := 0) rfl rfl) ⟨Nat.zero_le _, Nat.zero_le _⟩ hl ⟨rfl, rfl⟩ rfl rfl (Nat.le_of_ble_eq_true rfl) rfl dX4_hairsBow_110 ?_
        refine mcV (As := [.int 1, .int 5, .int (F 0 (73 + 4 * i + 2))]) (rest := []) (wr := []) (mX4_isRefused1 l g E ho h0 a I F 5 (F 0 (73 + 4 * i + 2))) kX4_isRefused q2400 hx hb hml hown hts hRf hRl ho.1 hE hS hP hD hA [0, 1, 2, 3, 4, 5, 6, 7, 8] [] rfl (by decide) rfl (by decide) (by decide) ⟨Nat.zero_le _, Nat.zero_le _⟩ (va_recv hK hP (ci := 0) (q0 := 0) rfl rfl) hl ⟨rfl, rfl⟩ rfl rfl (Nat.le_of_ble_eq_true rfl) dX4_hairsBow_113 (fun _ H locs _ hP hD hS _ _ => ?_)
        have hP : va_P (gD g) Cl (mW g h0 a (refI I 5 (F 0 (73 + 4 * i + 2))) F) H := hP
        have hD : va_D A (mW g h0 a (refI I 5 (F 0 (73 + 4 * i + 2))) F) := hD
        refine lv_if_eq (tgt := 121) hx hb dX4_hairsBow_116 (by decide) (fun c => absurd c (by decide)) (fun _ => ?_)
        refine lv_iconst (v := 0) hx hb dX4_hairsBow_119 (by decide) ?_
        have hop : opHair (F 0) (nI j) (nI i) = (5, (F 0 (73 + 4 * i + 2)), 0, F 0) := by simp only [htw, htwc, ht, htc, hh, hhc, hb6, hbc, hk5, hkc, opHair, opHairN, hjc, hic, eq_true c_1, eq_true c_2, eq_true c_3, eq_false (Int32.not_lt.mpr c_3), eq_false c_4, eq_true (Int32.not_le.mp c_4), if_true, if_false, not_true_eq_false, not_false_eq_true, ite_true, ite_false, reduceIte, Nat.add_zero, Nat.add_sub_cancel]
        have hW1 : (mW g h0 a (refI I 5 (F 0 (73 + 4 * i + 2))) F) = mW g h0 a (opI I (opHair (F 0) (nI j) (nI i))) (va_up F 0 (opHair (F 0) (nI j) (nI i)).2.2.2) := by
          rw [hop]
          first | rfl | (simp only [opI, hup_id]; rfl)
        rw [hW1] at hP hD
        exact hm_i hQ hx hb hr hlk rfl () (by rw [hop]) trivial hP hD hS (by decide) (by decide) dX4_hairsBow_120
      refine lv_iconst (v := 1) hx hb dX4_hairsBow_72 (by decide) ?_
      refine lv_goto (tgt := 77) hx hb dX4_hairsBow_73 (by decide) ?_
      refine lv_bipush (v := 6) hx hb dX4_hairsBow_77 (by decide) ?_
      refine lv_iload hx hb dX4_hairsBow_79 (lv_at hl 0 rfl) ?_
      refine mcV (As := [.int 1, .int 6, .int ((longK (F 0 (153 + 7 * j))) - (F 0 (73 + 4 * i + 1)))]) (rest := []) (wr := []) (mX4_isRefused1 l g E ho h0 a I F 6 ((longK (F 0 (153 + 7 * j))) - (F 0 (73 + 4 * i + 1)))) kX4_isRefused q2400 hx hb hml hown hts hRf hRl ho.1 hE hS hP hD hA [0, 1, 2, 3, 4, 5, 6, 7, 8] [] rfl (by decide) rfl (by decide) (by decide) ⟨Nat.zero_le _, Nat.zero_le _⟩ (va_recv hK hP (ci := 0) (q0 := 0) rfl rfl) hl ⟨rfl, rfl⟩ rfl rfl (Nat.le_of_ble_eq_true rfl) dX4_hairsBow_81 (fun _ H locs _ hP hD hS _ _ => ?_)
      have hP : va_P (gD g) Cl (mW g h0 a (refI I 6 ((longK (F 0 (153 + 7 * j))) - (F 0 (73 + 4 * i + 1)))) F) H := hP
      have hD : va_D A (mW g h0 a (refI I 6 ((longK (F 0 (153 + 7 * j))) - (F 0 (73 + 4 * i + 1)))) F) := hD
      refine lv_if_ne (tgt := 119) hx hb dX4_hairsBow_84 (by decide) (fun _ => ?_) (fun c => absurd c (by decide))
      refine lv_iconst (v := 0) hx hb dX4_hairsBow_119 (by decide) ?_
      have hop : opHair (F 0) (nI j) (nI i) = (6, ((longK (F 0 (153 + 7 * j))) - (F 0 (73 + 4 * i + 1))), 0, F 0) := by simp only [htw, htwc, ht, htc, hh, hhc, hb6, hbc, hk5, hkc, opHair, opHairN, hjc, hic, eq_true c_1, eq_true c_2, eq_false c_3, eq_true (Int32.not_le.mp c_3), if_true, if_false, not_true_eq_false, not_false_eq_true, ite_true, ite_false, reduceIte, Nat.add_zero, Nat.add_sub_cancel]
      have hW1 : (mW g h0 a (refI I 6 ((longK (F 0 (153 + 7 * j))) - (F 0 (73 + 4 * i + 1)))) F) = mW g h0 a (opI I (opHair (F 0) (nI j) (nI i))) (va_up F 0 (opHair (F 0) (nI j) (nI i)).2.2.2) := by
        rw [hop]
        first | rfl | (simp only [opI, hup_id]; rfl)
      rw [hW1] at hP hD
      exact hm_i hQ hx hb hr hlk rfl () (by rw [hop]) trivial hP hD hS (by decide) (by decide) dX4_hairsBow_120
    rw [hh] at c_2
    refine lv_iconst (v := 1) hx hb dX4_hairsBow_31 (by decide) ?_
    refine lv_goto (tgt := 36) hx hb dX4_hairsBow_32 (by decide) ?_
    refine lv_iconst (v := 2) hx hb dX4_hairsBow_36 (by decide) ?_
    refine lv_iload_n hx hb dX4_hairsBow_37 rfl (lv_at hl 2 rfl) ?_
    refine mcV (As := [.int 1, .int 2, .int p1]) (rest := []) (wr := []) (mX4_isRefused1 l g E ho h0 a I F 2 p1) kX4_isRefused q2400 hx hb hml hown hts hRf hRl ho.1 hE hS hP hD hA [0, 1, 2, 3, 4, 5, 6, 7, 8] [] rfl (by decide) rfl (by decide) (by decide) ⟨Nat.zero_le _, Nat.zero_le _⟩ (va_recv hK hP (ci := 0) (q0 := 0) rfl rfl) hl ⟨rfl, rfl⟩ rfl rfl (Nat.le_of_ble_eq_true rfl) dX4_hairsBow_38 (fun _ H locs _ hP hD hS _ _ => ?_)
    have hP : va_P (gD g) Cl (mW g h0 a (refI I 2 p1) F) H := hP
    have hD : va_D A (mW g h0 a (refI I 2 p1) F) := hD
    refine lv_if_eq (tgt := 46) hx hb dX4_hairsBow_41 (by decide) (fun c => absurd c (by decide)) (fun _ => ?_)
    refine lv_iconst (v := 0) hx hb dX4_hairsBow_44 (by decide) ?_
    have hop : opHair (F 0) (nI j) p1 = (2, p1, 0, F 0) := by simp only [htw, htwc, ht, htc, hh, hhc, hb6, hbc, hk5, hkc, opHair, opHairN, hjc, eq_true c_1, eq_false c_2, if_true, if_false, not_true_eq_false, not_false_eq_true, ite_true, ite_false, reduceIte, Nat.add_zero, Nat.add_sub_cancel]
    have hW1 : (mW g h0 a (refI I 2 p1) F) = mW g h0 a (opI I (opHair (F 0) (nI j) p1)) (va_up F 0 (opHair (F 0) (nI j) p1).2.2.2) := by
      rw [hop]
      first | rfl | (simp only [opI, hup_id]; rfl)
    rw [hW1] at hP hD
    exact hm_i hQ hx hb hr hlk rfl () (by rw [hop]) trivial hP hD hS (by decide) (by decide) dX4_hairsBow_45
  rw [hb6] at c_1
  refine lv_iconst (v := 1) hx hb dX4_hairsBow_9 (by decide) ?_
  refine lv_goto (tgt := 14) hx hb dX4_hairsBow_10 (by decide) ?_
  refine lv_iconst (v := 2) hx hb dX4_hairsBow_14 (by decide) ?_
  refine lv_iload_n hx hb dX4_hairsBow_15 rfl (lv_at hl 1 rfl) ?_
  refine mcV (As := [.int 1, .int 2, .int p0]) (rest := []) (wr := []) (mX4_isRefused1 l g E ho h0 a I F 2 p0) kX4_isRefused q2400 hx hb hml hown hts hRf hRl ho.1 hE hS hP hD hA [0, 1, 2, 3, 4, 5, 6, 7, 8] [] rfl (by decide) rfl (by decide) (by decide) ⟨Nat.zero_le _, Nat.zero_le _⟩ (va_recv hK hP (ci := 0) (q0 := 0) rfl rfl) hl ⟨rfl, rfl⟩ rfl rfl (Nat.le_of_ble_eq_true rfl) dX4_hairsBow_16 (fun _ H locs _ hP hD hS _ _ => ?_)
  have hP : va_P (gD g) Cl (mW g h0 a (refI I 2 p0) F) H := hP
  have hD : va_D A (mW g h0 a (refI I 2 p0) F) := hD
  refine lv_if_ne (tgt := 44) hx hb dX4_hairsBow_19 (by decide) (fun _ => ?_) (fun c => absurd c (by decide))
  refine lv_iconst (v := 0) hx hb dX4_hairsBow_44 (by decide) ?_
  have hop : opHair (F 0) p0 p1 = (2, p0, 0, F 0) := by simp only [htw, htwc, ht, htc, hh, hhc, hb6, hbc, hk5, hkc, opHair, opHairN, eq_false c_1, if_true, if_false, not_true_eq_false, not_false_eq_true, ite_true, ite_false, reduceIte, Nat.add_zero, Nat.add_sub_cancel]
  have hW1 : (mW g h0 a (refI I 2 p0) F) = mW g h0 a (opI I (opHair (F 0) p0 p1)) (va_up F 0 (opHair (F 0) p0 p1).2.2.2) := by
    rw [hop]
    first | rfl | (simp only [opI, hup_id]; rfl)
  rw [hW1] at hP hD
  exact hm_i hQ hx hb hr hlk rfl () (by rw [hop]) trivial hP hD hS (by decide) (by decide) dX4_hairsBow_45
theorem kX4_hair : hkV RX4 yX4_hair cX4_hair 3 (some .int) 2 := ⟨q2487, q2488, q78, q2489, rfl, by decide +kernel⟩
set_option maxHeartbeats 4000000 in
theorem mX4_hair (l : Launch) (g : hG) (E : hEnv) (ho : mOk g E) (h0 : Nat) (a : Nat → Nat) (I : Nat → Int32) (F : Nat → Nat → Int32) (p0 : Int32) (p1 : Int32) (nt : Nat) (nh : Nat) (nb : Nat) (nc : Nat) (tw : Nat) (n : Nat) (hc : Cn (F 0) nt nh nb nc tw) (hn : I 0 = nI n) (hn8 : n ≤ 8) : MM l yX4_hair cX4_hair 3 (some .int) 4 90 0 0 [.ref h0, .int p0, .int p1] g E (mW g h0 a I F) (S := Unit) (fun _ => (some (.int ((opHair (F 0) p0 p1).2.2.1)))) (fun _ => True) (fun _ => mW g h0 a (pubI I n (opHair (F 0) p0 p1)) (pubF F n (opHair (F 0) p0 p1))) := by
  refine MM.mk (by decide) (Nat.le_of_ble_eq_true rfl) ?_
  intro p e R s m args below meth c Q A H locs ls hX hRc hRs hP hD hE hS hA hnm hl hQ
  obtain ⟨hx, hb, hr, hlk, hml, hown, hts, hRf, hRl⟩ := hX
  have hown : s.vm.findClass RX4 = some m.cls := hown
  have hK := ho.2 _ _ _ hE
  have hl : lv_has ls 3 [(0, .ref h0), (1, .int p0), (2, .int p1)] := hl
  have hc0 := hc
  obtain ⟨htw, htw6, ht, ht10, hh, hh20, hb6, hb6l, hk5, hk5l⟩ := hc
  have htc : (nI nt).toNatClampNeg = nt := nI_clamp (by omega)
  have hhc : (nI nh).toNatClampNeg = nh := nI_clamp (by omega)
  have hbc : (nI nb).toNatClampNeg = nb := nI_clamp (by omega)
  have hkc : (nI nc).toNatClampNeg = nc := nI_clamp (by omega)
  have htwc : (nI tw).toNatClampNeg = tw := nI_clamp (by omega)
  refine lv_aload_n hx hb dX4_hair_0 rfl (lv_at hl 0 rfl) ?_
  refine mcV (As := []) (rest := []) (wr := []) (mX4_begins l g E ho h0 a I F) kX4_begins q2386 hx hb hml hown hts hRf hRl ho.1 hE hS hP hD hA [0, 1, 2, 3, 4, 5, 6, 7, 8] [] rfl (by decide) rfl (by decide) (by decide) ⟨Nat.zero_le _, Nat.zero_le _⟩ (va_recv hK hP (ci := 0) (q0 := 0) rfl rfl) hl ⟨rfl, rfl⟩ rfl rfl (Nat.le_of_ble_eq_true rfl) dX4_hair_1 (fun _ H locs _ hP hD hS _ _ => ?_)
  have hP : va_P (gD g) Cl (mW g h0 a (upd (upd I 5 0) 1 0) (va_up F 1 (va_cpy (F 0) (F 1) 0 0 195))) H := hP
  have hD : va_D A (mW g h0 a (upd (upd I 5 0) 1 0) (va_up F 1 (va_cpy (F 0) (F 1) 0 0 195))) := hD
  refine lv_aload_n hx hb dX4_hair_4 rfl (lv_at hl 0 rfl) ?_
  refine lv_aload_n hx hb dX4_hair_5 rfl (lv_at hl 0 rfl) ?_
  refine lv_iload_n hx hb dX4_hair_6 rfl (lv_at hl 1 rfl) ?_
  refine lv_iload_n hx hb dX4_hair_7 rfl (lv_at hl 2 rfl) ?_
  refine mcV (As := [.int p0, .int p1]) (rest := [.ref h0]) (wr := []) (mX4_hairsBow l g E ho h0 a (upd (upd I 5 0) 1 0) (va_up F 1 (va_cpy (F 0) (F 1) 0 0 195)) p0 p1 nt nh nb nc tw hc0) kX4_hairsBow q2490 hx hb hml hown hts hRf hRl ho.1 hE hS hP hD hA [0, 1, 2, 3, 4, 5, 6, 7, 8] [] rfl (by decide) rfl (by decide) (by decide) ⟨Nat.zero_le _, Nat.zero_le _⟩ (va_recv hK hP (ci := 0) (q0 := 0) rfl rfl) hl ⟨rfl, rfl⟩ rfl rfl (Nat.le_of_ble_eq_true rfl) dX4_hair_8 (fun _ H locs _ hP hD hS _ _ => ?_)
  have hP : va_P (gD g) Cl (mW g h0 a (opI (upd (upd I 5 0) 1 0) (opHair (F 0) p0 p1)) (va_up (va_up F 0 ((opHair (F 0) p0 p1).2.2.2)) 1 (va_cpy (F 0) (F 1) 0 0 195))) H := hP
  have hD : va_D A (mW g h0 a (opI (upd (upd I 5 0) 1 0) (opHair (F 0) p0 p1)) (va_up (va_up F 0 ((opHair (F 0) p0 p1).2.2.2)) 1 (va_cpy (F 0) (F 1) 0 0 195))) := hD
  by_cases hz : (opHair (F 0) p0 p1).1 = 0
  · have hI : opI (upd (upd I 5 0) 1 0) (opHair (F 0) p0 p1) = (upd (upd I 5 0) 1 0) := if_pos hz
    rw [hI] at hP hD
    refine mcV (As := [.int ((opHair (F 0) p0 p1).2.2.1)]) (rest := []) (wr := []) (mX4_ends0 l g E ho h0 a (upd (upd I 5 0) 1 0) (va_up (va_up F 0 ((opHair (F 0) p0 p1).2.2.2)) 1 (va_cpy (F 0) (F 1) 0 0 195)) ((opHair (F 0) p0 p1).2.2.1) n rfl hn hn8) kX4_ends q2411 hx hb hml hown hts hRf hRl ho.1 hE hS hP hD hA [0, 1, 2, 3, 4, 5, 6, 7, 8] [] rfl (by decide) rfl (by decide) (by decide) ⟨Nat.zero_le _, Nat.zero_le _⟩ (va_recv hK hP (ci := 0) (q0 := 0) rfl rfl) hl ⟨rfl, rfl⟩ rfl rfl (Nat.le_of_ble_eq_true rfl) dX4_hair_11 (fun _ H locs _ hP hD hS _ _ => ?_)
    have hP : va_P (gD g) Cl (mW g h0 a (upd (upd (upd I 5 0) 1 0) 0 (nI (chN n))) (va_up (va_up (va_up F 0 ((opHair (F 0) p0 p1).2.2.2)) 1 (va_cpy (F 0) (F 1) 0 0 195)) 3 (chP (va_cpy (F 0) (F 1) 0 0 195) (F 3) n))) H := hP
    have hD : va_D A (mW g h0 a (upd (upd (upd I 5 0) 1 0) 0 (nI (chN n))) (va_up (va_up (va_up F 0 ((opHair (F 0) p0 p1).2.2.2)) 1 (va_cpy (F 0) (F 1) 0 0 195)) 3 (chP (va_cpy (F 0) (F 1) 0 0 195) (F 3) n))) := hD
    have hW1 : (mW g h0 a (upd (upd (upd I 5 0) 1 0) 0 (nI (chN n))) (va_up (va_up (va_up F 0 ((opHair (F 0) p0 p1).2.2.2)) 1 (va_cpy (F 0) (F 1) 0 0 195)) 3 (chP (va_cpy (F 0) (F 1) 0 0 195) (F 3) n))) = mW g h0 a (pubI I n (opHair (F 0) p0 p1)) (pubF F n (opHair (F 0) p0 p1)) := by
      rw [show pubI I n (opHair (F 0) p0 p1) = chI (upd (upd I 5 0) 1 0) n from if_pos hz, show pubF F n (opHair (F 0) p0 p1) = chF (va_up (kpF F) 0 (opHair (F 0) p0 p1).2.2.2) n from if_pos hz]
      rfl
    rw [hW1] at hP hD
    exact hm_i hQ hx hb hr hlk rfl () rfl trivial hP hD hS (by decide) (by decide) dX4_hair_14
  obtain ⟨hv0, hs0⟩ := opHair_ref (F 0) p0 p1 hz
  have hI : opI (upd (upd I 5 0) 1 0) (opHair (F 0) p0 p1) = (refI (upd (upd I 5 0) 1 0) (opHair (F 0) p0 p1).1 (opHair (F 0) p0 p1).2.1) := if_neg hz
  rw [hI] at hP hD
  refine rcV (As := [.int ((opHair (F 0) p0 p1).2.2.1)]) (rest := []) (st1 := [.int 0]) (mX4_ends1 l g E ho h0 a (refI (upd (upd I 5 0) 1 0) (opHair (F 0) p0 p1).1 (opHair (F 0) p0 p1).2.1) (va_up (va_up F 0 ((opHair (F 0) p0 p1).2.2.2)) 1 (va_cpy (F 0) (F 1) 0 0 195)) ((opHair (F 0) p0 p1).2.2.1) (by show ¬ (1 : Int32) = 0; decide)) kX4_ends q2411 hx hb hml hown hts hRf hRl ho.1 hE hS hP (va_recv hK hP (ci := 0) (q0 := 0) rfl rfl) ⟨Nat.zero_le _, Nat.zero_le _⟩ hl ⟨rfl, rfl⟩ rfl rfl (Nat.le_of_ble_eq_true rfl) rfl dX4_hair_11 ?_
  have hW1 : (mW g h0 a (refI (upd (upd I 5 0) 1 0) (opHair (F 0) p0 p1).1 (opHair (F 0) p0 p1).2.1) (va_up (va_up F 0 ((opHair (F 0) p0 p1).2.2.2)) 1 (va_cpy (F 0) (F 1) 0 0 195))) = mW g h0 a (pubI I n (opHair (F 0) p0 p1)) (pubF F n (opHair (F 0) p0 p1)) := by
    rw [show pubI I n (opHair (F 0) p0 p1) = refI (upd (upd I 5 0) 1 0) (opHair (F 0) p0 p1).1 (opHair (F 0) p0 p1).2.1 from if_neg hz, show pubF F n (opHair (F 0) p0 p1) = kpF F from if_neg hz, hs0]
    rfl
  rw [hW1] at hP hD
  exact hm_i hQ hx hb hr hlk rfl () (by rw [hv0]) trivial hP hD hS (by decide) (by decide) dX4_hair_14
theorem kX4_cake : hkV RX4 yX4_cake cX4_cake 2 (some .int) 1 := ⟨q2513, q2514, q78, q2515, rfl, by decide +kernel⟩
set_option maxHeartbeats 4000000 in
theorem mX4_cake (l : Launch) (g : hG) (E : hEnv) (ho : mOk g E) (h0 : Nat) (a : Nat → Nat) (I : Nat → Int32) (F : Nat → Nat → Int32) (p0 : Int32) (nt : Nat) (nh : Nat) (nb : Nat) (nc : Nat) (tw : Nat) (n : Nat) (hc : Cn (F 0) nt nh nb nc tw) (hn : I 0 = nI n) (hn8 : n ≤ 8) : MM l yX4_cake cX4_cake 2 (some .int) 3 66 0 0 [.ref h0, .int p0] g E (mW g h0 a I F) (S := Unit) (fun _ => (some (.int ((opCake (F 0) p0).2.2.1)))) (fun _ => True) (fun _ => mW g h0 a (pubI I n (opCake (F 0) p0)) (pubF F n (opCake (F 0) p0))) := by
  refine MM.mk (by decide) (Nat.le_of_ble_eq_true rfl) ?_
  intro p e R s m args below meth c Q A H locs ls hX hRc hRs hP hD hE hS hA hnm hl hQ
  obtain ⟨hx, hb, hr, hlk, hml, hown, hts, hRf, hRl⟩ := hX
  have hown : s.vm.findClass RX4 = some m.cls := hown
  have hK := ho.2 _ _ _ hE
  have hl : lv_has ls 2 [(0, .ref h0), (1, .int p0)] := hl
  have hc0 := hc
  obtain ⟨htw, htw6, ht, ht10, hh, hh20, hb6, hb6l, hk5, hk5l⟩ := hc
  have htc : (nI nt).toNatClampNeg = nt := nI_clamp (by omega)
  have hhc : (nI nh).toNatClampNeg = nh := nI_clamp (by omega)
  have hbc : (nI nb).toNatClampNeg = nb := nI_clamp (by omega)
  have hkc : (nI nc).toNatClampNeg = nc := nI_clamp (by omega)
  have htwc : (nI tw).toNatClampNeg = tw := nI_clamp (by omega)
  refine lv_aload_n hx hb dX4_cake_0 rfl (lv_at hl 0 rfl) ?_
  refine mcV (As := []) (rest := []) (wr := []) (mX4_begins l g E ho h0 a I F) kX4_begins q2386 hx hb hml hown hts hRf hRl ho.1 hE hS hP hD hA [0, 1, 2, 3, 4, 5, 6, 7, 8] [] rfl (by decide) rfl (by decide) (by decide) ⟨Nat.zero_le _, Nat.zero_le _⟩ (va_recv hK hP (ci := 0) (q0 := 0) rfl rfl) hl ⟨rfl, rfl⟩ rfl rfl (Nat.le_of_ble_eq_true rfl) dX4_cake_1 (fun _ H locs _ hP hD hS _ _ => ?_)
  have hP : va_P (gD g) Cl (mW g h0 a (upd (upd I 5 0) 1 0) (va_up F 1 (va_cpy (F 0) (F 1) 0 0 195))) H := hP
  have hD : va_D A (mW g h0 a (upd (upd I 5 0) 1 0) (va_up F 1 (va_cpy (F 0) (F 1) 0 0 195))) := hD
  refine lv_aload_n hx hb dX4_cake_4 rfl (lv_at hl 0 rfl) ?_
  refine lv_iload_n hx hb dX4_cake_5 rfl (lv_at hl 1 rfl) ?_
  refine lv_iconst (v := 1) hx hb dX4_cake_6 (by decide) ?_
  refine lv_bipush (v := 40) hx hb dX4_cake_7 (by decide) ?_
  refine rcS (As := [.int p0, .int 1, .int 40]) (rest := [.ref h0]) (st1 := [.int (if inR p0 1 40 then 1 else 0), .ref h0]) (mX4_isIn l g E ho p0 1 40) kX4_isIn q2397 hx hb hml hown hts hRf hRl ho.1 hE hS (hP.sub [] rfl) ⟨Nat.zero_le _, Nat.zero_le _⟩ hl ⟨rfl, rfl⟩ rfl rfl (Nat.le_of_ble_eq_true rfl) rfl dX4_cake_9 ?_
  refine h_ifne_b (tgt := 19) hx hb dX4_cake_12 (by decide) (fun c_1 => ?_) (fun c_1 => ?_)
  · refine lv_iconst (v := 0) hx hb dX4_cake_19 (by decide) ?_
    refine lv_iconst (v := 3) hx hb dX4_cake_20 (by decide) ?_
    refine lv_iload_n hx hb dX4_cake_21 rfl (lv_at hl 1 rfl) ?_
    refine rcV (As := [.int 0, .int 3, .int p0]) (rest := []) (st1 := [.int 0]) (mX4_isRefused0 l g E ho h0 a (upd (upd I 5 0) 1 0) (va_up F 1 (va_cpy (F 0) (F 1) 0 0 195)) 3 p0) kX4_isRefused q2400 hx hb hml hown hts hRf hRl ho.1 hE hS hP (va_recv hK hP (ci := 0) (q0 := 0) rfl rfl) ⟨Nat.zero_le _, Nat.zero_le _⟩ hl ⟨rfl, rfl⟩ rfl rfl (Nat.le_of_ble_eq_true rfl) rfl dX4_cake_22 ?_
    refine lv_if_ne (tgt := 66) hx hb dX4_cake_25 (by decide) (fun c => absurd c (by decide)) (fun _ => ?_)
    refine lv_aload_n hx hb dX4_cake_28 rfl (lv_at hl 0 rfl) ?_
    refine lv_aload_n hx hb dX4_cake_29 rfl (lv_at hl 0 rfl) ?_
    refine va_get (D := gD g) (ci := 0) (v := .ref (a 0)) (C := RX4) (T := TX4) (N := 21) hx hb hts in_X4 hown hK hP 0 rfl rfl 0 (by decide) (hts _ q2314) (fun _ h9 => h9) rfl dX4_cake_30 ?_
    refine lv_bipush (v := 6) hx hb dX4_cake_33 (by decide) ?_
    refine h_iald (f := (F 0)) hx hb hK hP 1 0 rfl rfl 6 rfl (by decide) (by decide) dX4_cake_35 ?_
    refine h_topi (v := nI nc) (hk5) ?_
    refine lv_iconst (v := 5) hx hb dX4_cake_36 (by decide) ?_
    refine lv_icmp_ne (tgt := 44) hx hb dX4_cake_37 (by decide) (fun c_2 => ?_) (fun c_2 => ?_)
    · refine lv_iconst (v := 0) hx hb dX4_cake_44 (by decide) ?_
      refine lv_iconst (v := 1) hx hb dX4_cake_45 (by decide) ?_
      refine lv_iconst (v := 5) hx hb dX4_cake_46 (by decide) ?_
      refine rcV (As := [.int 0, .int 1, .int 5]) (rest := []) (st1 := [.int 0]) (mX4_isRefused0 l g E ho h0 a (upd (upd I 5 0) 1 0) (va_up F 1 (va_cpy (F 0) (F 1) 0 0 195)) 1 5) kX4_isRefused q2400 hx hb hml hown hts hRf hRl ho.1 hE hS hP (va_recv hK hP (ci := 0) (q0 := 0) rfl rfl) ⟨Nat.zero_le _, Nat.zero_le _⟩ hl ⟨rfl, rfl⟩ rfl rfl (Nat.le_of_ble_eq_true rfl) rfl dX4_cake_47 ?_
      refine lv_if_ne (tgt := 66) hx hb dX4_cake_50 (by decide) (fun c => absurd c (by decide)) (fun _ => ?_)
      refine lv_aload_n hx hb dX4_cake_53 rfl (lv_at hl 0 rfl) ?_
      refine lv_iload_n hx hb dX4_cake_54 rfl (lv_at hl 1 rfl) ?_
      refine lv_bipush (v := 10) hx hb dX4_cake_55 (by decide) ?_
      refine lv_idiv hx hb dX4_cake_57 (by decide) ?_
      refine lv_iconst (v := 1) hx hb dX4_cake_58 (by decide) ?_
      refine lv_iadd hx hb dX4_cake_59 ?_
      by_cases c_3 : F 0 0 < p0 / 10 + 1
      · refine mcV (As := [.int ((p0 / 10) + 1)]) (rest := []) (wr := []) (mX4_cannotPay1 l g E ho h0 a (upd (upd I 5 0) 1 0) (va_up F 1 (va_cpy (F 0) (F 1) 0 0 195)) ((p0 / 10) + 1) c_3) kX4_cannotPay q2404 hx hb hml hown hts hRf hRl ho.1 hE hS hP hD hA [0, 1, 2, 3, 4, 5, 6, 7, 8] [] rfl (by decide) rfl (by decide) (by decide) ⟨Nat.zero_le _, Nat.zero_le _⟩ (va_recv hK hP (ci := 0) (q0 := 0) rfl rfl) hl ⟨rfl, rfl⟩ rfl rfl (Nat.le_of_ble_eq_true rfl) dX4_cake_60 (fun _ H locs _ hP hD hS _ _ => ?_)
        have hP : va_P (gD g) Cl (mW g h0 a (refI (upd (upd I 5 0) 1 0) 4 (((p0 / 10) + 1) - F 0 0)) (va_up F 1 (va_cpy (F 0) (F 1) 0 0 195))) H := hP
        have hD : va_D A (mW g h0 a (refI (upd (upd I 5 0) 1 0) 4 (((p0 / 10) + 1) - F 0 0)) (va_up F 1 (va_cpy (F 0) (F 1) 0 0 195))) := hD
        refine lv_if_eq (tgt := 68) hx hb dX4_cake_63 (by decide) (fun c => absurd c (by decide)) (fun _ => ?_)
        refine lv_iconst (v := 0) hx hb dX4_cake_66 (by decide) ?_
        have hop : opCake (F 0) p0 = (4, (((p0 / 10) + 1) - (F 0 0)), 0, F 0) := by simp only [htw, htwc, ht, htc, hh, hhc, hb6, hbc, hk5, hkc, opCake, opCakeN, eq_true c_1, eq_false c_2, eq_true c_3, eq_false (Int32.not_le.mpr c_3), if_true, if_false, not_true_eq_false, not_false_eq_true, ite_true, ite_false, reduceIte, Nat.add_zero, Nat.add_sub_cancel]
        have hW1 : (mW g h0 a (refI (upd (upd I 5 0) 1 0) 4 (((p0 / 10) + 1) - F 0 0)) (va_up F 1 (va_cpy (F 0) (F 1) 0 0 195))) = mW g h0 a (pubI I n (opCake (F 0) p0)) (pubF F n (opCake (F 0) p0)) := by
          rw [hop]
          rfl
        rw [hW1] at hP hD
        exact hm_i hQ hx hb hr hlk rfl () (by rw [hop]) trivial hP hD hS (by decide) (by decide) dX4_cake_67
      refine mcV (As := [.int ((p0 / 10) + 1)]) (rest := []) (wr := []) (mX4_cannotPay0 l g E ho h0 a (upd (upd I 5 0) 1 0) (va_up F 1 (va_cpy (F 0) (F 1) 0 0 195)) ((p0 / 10) + 1) c_3) kX4_cannotPay q2404 hx hb hml hown hts hRf hRl ho.1 hE hS hP hD hA [0, 1, 2, 3, 4, 5, 6, 7, 8] [] rfl (by decide) rfl (by decide) (by decide) ⟨Nat.zero_le _, Nat.zero_le _⟩ (va_recv hK hP (ci := 0) (q0 := 0) rfl rfl) hl ⟨rfl, rfl⟩ rfl rfl (Nat.le_of_ble_eq_true rfl) dX4_cake_60 (fun _ H locs _ hP hD hS _ _ => ?_)
      have hP : va_P (gD g) Cl (mW g h0 a (upd (upd I 5 0) 1 0) (va_up (va_up F 0 (upd (F 0) 0 (F 0 0 - ((p0 / 10) + 1)))) 1 (va_cpy (F 0) (F 1) 0 0 195))) H := hP
      have hD : va_D A (mW g h0 a (upd (upd I 5 0) 1 0) (va_up (va_up F 0 (upd (F 0) 0 (F 0 0 - ((p0 / 10) + 1)))) 1 (va_cpy (F 0) (F 1) 0 0 195))) := hD
      refine lv_if_eq (tgt := 68) hx hb dX4_cake_63 (by decide) (fun _ => ?_) (fun c => absurd c (by decide))
      refine lv_aload_n hx hb dX4_cake_68 rfl (lv_at hl 0 rfl) ?_
      refine va_get (D := gD g) (ci := 0) (v := .ref (a 0)) (C := RX4) (T := TX4) (N := 21) hx hb hts in_X4 hown hK hP 0 rfl rfl 0 (by decide) (hts _ q2314) (fun _ h9 => h9) rfl dX4_cake_69 ?_
      refine lv_bipush (v := 28) hx hb dX4_cake_72 (by decide) ?_
      refine lv_aload_n hx hb dX4_cake_74 rfl (lv_at hl 0 rfl) ?_
      refine va_get (D := gD g) (ci := 0) (v := .ref (a 0)) (C := RX4) (T := TX4) (N := 21) hx hb hts in_X4 hown hK hP 0 rfl rfl 0 (by decide) (hts _ q2314) (fun _ h9 => h9) rfl dX4_cake_75 ?_
      refine lv_bipush (v := 6) hx hb dX4_cake_78 (by decide) ?_
      refine h_iald (f := (upd (F 0) 0 (F 0 0 - ((p0 / 10) + 1)))) hx hb hK hP 1 0 rfl rfl 6 rfl (by decide) (by decide) dX4_cake_80 ?_
      refine h_topi (v := F 0 6) (by rw [pk_un (by decide)]) ?_
      refine h_topi (v := nI nc) (hk5) ?_
      refine lv_iadd hx hb dX4_cake_81 ?_
      refine h_topi (v := nI (28 + nc)) (h_nadd (a := 28) (b := nc) (rfl) (rfl)) ?_
      refine lv_iload_n hx hb dX4_cake_82 rfl (lv_at hl 1 rfl) ?_
      refine h_iast (f := (upd (F 0) 0 (F 0 0 - ((p0 / 10) + 1)))) hx hb hK hP hD hS 1 0 rfl rfl (28 + nc) rfl (by omega) (by decide) dX4_cake_83 (fun H locs hP hD hS => ?_)
      have hP : va_P (gD g) Cl (mW g h0 a (upd (upd I 5 0) 1 0) (va_up (va_up F 0 (upd (upd (F 0) 0 (F 0 0 - ((p0 / 10) + 1))) (28 + nc) p0)) 1 (va_cpy (F 0) (F 1) 0 0 195))) H := hP
      have hD : va_D A (mW g h0 a (upd (upd I 5 0) 1 0) (va_up (va_up F 0 (upd (upd (F 0) 0 (F 0 0 - ((p0 / 10) + 1))) (28 + nc) p0)) 1 (va_cpy (F 0) (F 1) 0 0 195))) := hD
      refine lv_aload_n hx hb dX4_cake_84 rfl (lv_at hl 0 rfl) ?_
      refine va_get (D := gD g) (ci := 0) (v := .ref (a 0)) (C := RX4) (T := TX4) (N := 21) hx hb hts in_X4 hown hK hP 0 rfl rfl 0 (by decide) (hts _ q2314) (fun _ h9 => h9) rfl dX4_cake_85 ?_
      refine lv_bipush (v := 6) hx hb dX4_cake_88 (by decide) ?_
      refine lv_dup2_11 hx hb dX4_cake_90 rfl rfl ?_
      refine h_iald (f := (upd (upd (F 0) 0 (F 0 0 - ((p0 / 10) + 1))) (28 + nc) p0)) hx hb hK hP 1 0 rfl rfl 6 rfl (by decide) (by decide) dX4_cake_91 ?_
      refine h_topi (v := F 0 6) (by rw [pk_un (by omega), pk_un (by decide)]) ?_
      refine h_topi (v := nI nc) (hk5) ?_
      refine lv_iconst (v := 1) hx hb dX4_cake_92 (by decide) ?_
      refine lv_iadd hx hb dX4_cake_93 ?_
      refine h_topi (v := nI (nc + 1)) (h_nadd (a := nc) (b := 1) (rfl) (rfl)) ?_
      refine h_iast (f := (upd (upd (F 0) 0 (F 0 0 - ((p0 / 10) + 1))) (28 + nc) p0)) hx hb hK hP hD hS 1 0 rfl rfl 6 rfl (by decide) (by decide) dX4_cake_94 (fun H locs hP hD hS => ?_)
      have hP : va_P (gD g) Cl (mW g h0 a (upd (upd I 5 0) 1 0) (va_up (va_up F 0 (upd (upd (upd (F 0) 0 (F 0 0 - ((p0 / 10) + 1))) (28 + nc) p0) 6 (nI (nc + 1)))) 1 (va_cpy (F 0) (F 1) 0 0 195))) H := hP
      have hD : va_D A (mW g h0 a (upd (upd I 5 0) 1 0) (va_up (va_up F 0 (upd (upd (upd (F 0) 0 (F 0 0 - ((p0 / 10) + 1))) (28 + nc) p0) 6 (nI (nc + 1)))) 1 (va_cpy (F 0) (F 1) 0 0 195))) := hD
      refine lv_aload_n hx hb dX4_cake_95 rfl (lv_at hl 0 rfl) ?_
      refine lv_aload_n hx hb dX4_cake_96 rfl (lv_at hl 0 rfl) ?_
      refine va_get (D := gD g) (ci := 0) (v := .ref (a 0)) (C := RX4) (T := TX4) (N := 21) hx hb hts in_X4 hown hK hP 0 rfl rfl 0 (by decide) (hts _ q2314) (fun _ h9 => h9) rfl dX4_cake_97 ?_
      refine lv_bipush (v := 6) hx hb dX4_cake_100 (by decide) ?_
      refine h_iald (f := (upd (upd (upd (F 0) 0 (F 0 0 - ((p0 / 10) + 1))) (28 + nc) p0) 6 (nI (nc + 1)))) hx hb hK hP 1 0 rfl rfl 6 rfl (by decide) (by decide) dX4_cake_102 ?_
      refine h_topi (v := nI (nc + 1)) (by rw [pk_us]) ?_
      refine lv_iconst (v := 1) hx hb dX4_cake_103 (by decide) ?_
      refine lv_isub hx hb dX4_cake_104 ?_
      refine h_topi (v := nI ((nc + 1) - 1)) (h_nsub (a := nc + 1) (b := 1) (rfl) (rfl) (by omega)) ?_
      refine mcV (As := [.int (nI ((nc + 1) - 1))]) (rest := []) (wr := []) (mX4_ends0 l g E ho h0 a (upd (upd I 5 0) 1 0) (va_up (va_up F 0 (upd (upd (upd (F 0) 0 (F 0 0 - ((p0 / 10) + 1))) (28 + nc) p0) 6 (nI (nc + 1)))) 1 (va_cpy (F 0) (F 1) 0 0 195)) (nI ((nc + 1) - 1)) n rfl hn hn8) kX4_ends q2411 hx hb hml hown hts hRf hRl ho.1 hE hS hP hD hA [0, 1, 2, 3, 4, 5, 6, 7, 8] [] rfl (by decide) rfl (by decide) (by decide) ⟨Nat.zero_le _, Nat.zero_le _⟩ (va_recv hK hP (ci := 0) (q0 := 0) rfl rfl) hl ⟨rfl, rfl⟩ rfl rfl (Nat.le_of_ble_eq_true rfl) dX4_cake_105 (fun _ H locs _ hP hD hS _ _ => ?_)
      have hP : va_P (gD g) Cl (mW g h0 a (upd (upd (upd I 5 0) 1 0) 0 (nI (chN n))) (va_up (va_up (va_up F 0 (upd (upd (upd (F 0) 0 (F 0 0 - ((p0 / 10) + 1))) (28 + nc) p0) 6 (nI (nc + 1)))) 1 (va_cpy (F 0) (F 1) 0 0 195)) 3 (chP (va_cpy (F 0) (F 1) 0 0 195) (F 3) n))) H := hP
      have hD : va_D A (mW g h0 a (upd (upd (upd I 5 0) 1 0) 0 (nI (chN n))) (va_up (va_up (va_up F 0 (upd (upd (upd (F 0) 0 (F 0 0 - ((p0 / 10) + 1))) (28 + nc) p0) 6 (nI (nc + 1)))) 1 (va_cpy (F 0) (F 1) 0 0 195)) 3 (chP (va_cpy (F 0) (F 1) 0 0 195) (F 3) n))) := hD
      have hop : opCake (F 0) p0 = (0, 0, (nI ((nc + 1) - 1)), (upd (upd (upd (F 0) 0 (F 0 0 - ((p0 / 10) + 1))) (28 + nc) p0) 6 (nI (nc + 1)))) := by simp only [htw, htwc, ht, htc, hh, hhc, hb6, hbc, hk5, hkc, opCake, opCakeN, eq_true c_1, eq_false c_2, eq_false c_3, eq_true (Int32.not_lt.mp c_3), if_true, if_false, not_true_eq_false, not_false_eq_true, ite_true, ite_false, reduceIte, Nat.add_zero, Nat.add_sub_cancel]
      have hW1 : (mW g h0 a (upd (upd (upd I 5 0) 1 0) 0 (nI (chN n))) (va_up (va_up (va_up F 0 (upd (upd (upd (F 0) 0 (F 0 0 - ((p0 / 10) + 1))) (28 + nc) p0) 6 (nI (nc + 1)))) 1 (va_cpy (F 0) (F 1) 0 0 195)) 3 (chP (va_cpy (F 0) (F 1) 0 0 195) (F 3) n))) = mW g h0 a (pubI I n (opCake (F 0) p0)) (pubF F n (opCake (F 0) p0)) := by
        rw [hop]
        rfl
      rw [hW1] at hP hD
      exact hm_i hQ hx hb hr hlk rfl () (by rw [hop]) trivial hP hD hS (by decide) (by decide) dX4_cake_108
    refine lv_iconst (v := 1) hx hb dX4_cake_40 (by decide) ?_
    refine lv_goto (tgt := 45) hx hb dX4_cake_41 (by decide) ?_
    refine lv_iconst (v := 1) hx hb dX4_cake_45 (by decide) ?_
    refine lv_iconst (v := 5) hx hb dX4_cake_46 (by decide) ?_
    refine mcV (As := [.int 1, .int 1, .int 5]) (rest := []) (wr := []) (mX4_isRefused1 l g E ho h0 a (upd (upd I 5 0) 1 0) (va_up F 1 (va_cpy (F 0) (F 1) 0 0 195)) 1 5) kX4_isRefused q2400 hx hb hml hown hts hRf hRl ho.1 hE hS hP hD hA [0, 1, 2, 3, 4, 5, 6, 7, 8] [] rfl (by decide) rfl (by decide) (by decide) ⟨Nat.zero_le _, Nat.zero_le _⟩ (va_recv hK hP (ci := 0) (q0 := 0) rfl rfl) hl ⟨rfl, rfl⟩ rfl rfl (Nat.le_of_ble_eq_true rfl) dX4_cake_47 (fun _ H locs _ hP hD hS _ _ => ?_)
    have hP : va_P (gD g) Cl (mW g h0 a (refI (upd (upd I 5 0) 1 0) 1 5) (va_up F 1 (va_cpy (F 0) (F 1) 0 0 195))) H := hP
    have hD : va_D A (mW g h0 a (refI (upd (upd I 5 0) 1 0) 1 5) (va_up F 1 (va_cpy (F 0) (F 1) 0 0 195))) := hD
    refine lv_if_ne (tgt := 66) hx hb dX4_cake_50 (by decide) (fun _ => ?_) (fun c => absurd c (by decide))
    refine lv_iconst (v := 0) hx hb dX4_cake_66 (by decide) ?_
    have hop : opCake (F 0) p0 = (1, 5, 0, F 0) := by simp only [htw, htwc, ht, htc, hh, hhc, hb6, hbc, hk5, hkc, opCake, opCakeN, eq_true c_1, eq_true c_2, if_true, if_false, not_true_eq_false, not_false_eq_true, ite_true, ite_false, reduceIte, Nat.add_zero, Nat.add_sub_cancel]
    have hW1 : (mW g h0 a (refI (upd (upd I 5 0) 1 0) 1 5) (va_up F 1 (va_cpy (F 0) (F 1) 0 0 195))) = mW g h0 a (pubI I n (opCake (F 0) p0)) (pubF F n (opCake (F 0) p0)) := by
      rw [hop]
      rfl
    rw [hW1] at hP hD
    exact hm_i hQ hx hb hr hlk rfl () (by rw [hop]) trivial hP hD hS (by decide) (by decide) dX4_cake_67
  refine lv_iconst (v := 1) hx hb dX4_cake_15 (by decide) ?_
  refine lv_goto (tgt := 20) hx hb dX4_cake_16 (by decide) ?_
  refine lv_iconst (v := 3) hx hb dX4_cake_20 (by decide) ?_
  refine lv_iload_n hx hb dX4_cake_21 rfl (lv_at hl 1 rfl) ?_
  refine mcV (As := [.int 1, .int 3, .int p0]) (rest := []) (wr := []) (mX4_isRefused1 l g E ho h0 a (upd (upd I 5 0) 1 0) (va_up F 1 (va_cpy (F 0) (F 1) 0 0 195)) 3 p0) kX4_isRefused q2400 hx hb hml hown hts hRf hRl ho.1 hE hS hP hD hA [0, 1, 2, 3, 4, 5, 6, 7, 8] [] rfl (by decide) rfl (by decide) (by decide) ⟨Nat.zero_le _, Nat.zero_le _⟩ (va_recv hK hP (ci := 0) (q0 := 0) rfl rfl) hl ⟨rfl, rfl⟩ rfl rfl (Nat.le_of_ble_eq_true rfl) dX4_cake_22 (fun _ H locs _ hP hD hS _ _ => ?_)
  have hP : va_P (gD g) Cl (mW g h0 a (refI (upd (upd I 5 0) 1 0) 3 p0) (va_up F 1 (va_cpy (F 0) (F 1) 0 0 195))) H := hP
  have hD : va_D A (mW g h0 a (refI (upd (upd I 5 0) 1 0) 3 p0) (va_up F 1 (va_cpy (F 0) (F 1) 0 0 195))) := hD
  refine lv_if_ne (tgt := 66) hx hb dX4_cake_25 (by decide) (fun _ => ?_) (fun c => absurd c (by decide))
  refine lv_iconst (v := 0) hx hb dX4_cake_66 (by decide) ?_
  have hop : opCake (F 0) p0 = (3, p0, 0, F 0) := by simp only [htw, htwc, ht, htc, hh, hhc, hb6, hbc, hk5, hkc, opCake, opCakeN, eq_false c_1, if_true, if_false, not_true_eq_false, not_false_eq_true, ite_true, ite_false, reduceIte, Nat.add_zero, Nat.add_sub_cancel]
  have hW1 : (mW g h0 a (refI (upd (upd I 5 0) 1 0) 3 p0) (va_up F 1 (va_cpy (F 0) (F 1) 0 0 195))) = mW g h0 a (pubI I n (opCake (F 0) p0)) (pubF F n (opCake (F 0) p0)) := by
    rw [hop]
    rfl
  rw [hW1] at hP hD
  exact hm_i hQ hx hb hr hlk rfl () (by rw [hop]) trivial hP hD hS (by decide) (by decide) dX4_cake_67
theorem kX4_rosins : hkV RX4 yX4_rosins cX4_rosins 4 (some .int) 2 := ⟨q2522, qs42, q78, q2523, rfl, by decide +kernel⟩
set_option maxHeartbeats 4000000 in
theorem mX4_rosins (l : Launch) (g : hG) (E : hEnv) (ho : mOk g E) (h0 : Nat) (a : Nat → Nat) (I : Nat → Int32) (F : Nat → Nat → Int32) (p0 : Int32) (p1 : Int32) (nt : Nat) (nh : Nat) (nb : Nat) (nc : Nat) (tw : Nat) (hc : Cn (F 0) nt nh nb nc tw) : MM l yX4_rosins cX4_rosins 4 (some .int) 2 43 0 0 [.ref h0, .int p0, .int p1] g E (mW g h0 a I F) (S := Unit) (fun _ => (some (.int ((opRosin (F 0) p0 p1).2.2.1)))) (fun _ => True) (fun _ => mW g h0 a (opI I (opRosin (F 0) p0 p1)) (va_up F 0 (opRosin (F 0) p0 p1).2.2.2)) := by
  refine MM.mk (by decide) (Nat.le_of_ble_eq_true rfl) ?_
  intro p e R s m args below meth c Q A H locs ls hX hRc hRs hP hD hE hS hA hnm hl hQ
  obtain ⟨hx, hb, hr, hlk, hml, hown, hts, hRf, hRl⟩ := hX
  have hown : s.vm.findClass RX4 = some m.cls := hown
  have hK := ho.2 _ _ _ hE
  have hl : lv_has ls 4 [(0, .ref h0), (1, .int p0), (2, .int p1)] := hl
  have hc0 := hc
  obtain ⟨htw, htw6, ht, ht10, hh, hh20, hb6, hb6l, hk5, hk5l⟩ := hc
  have htc : (nI nt).toNatClampNeg = nt := nI_clamp (by omega)
  have hhc : (nI nh).toNatClampNeg = nh := nI_clamp (by omega)
  have hbc : (nI nb).toNatClampNeg = nb := nI_clamp (by omega)
  have hkc : (nI nc).toNatClampNeg = nc := nI_clamp (by omega)
  have htwc : (nI tw).toNatClampNeg = tw := nI_clamp (by omega)
  refine lv_aload_n hx hb dX4_rosins_0 rfl (lv_at hl 0 rfl) ?_
  refine lv_aload_n hx hb dX4_rosins_1 rfl (lv_at hl 0 rfl) ?_
  refine lv_iload_n hx hb dX4_rosins_2 rfl (lv_at hl 1 rfl) ?_
  refine rcV (As := [.int p0]) (rest := [.ref h0]) (st1 := [.int (if inR p0 0 (F 0 5 - 1) then 1 else 0), .ref h0]) (mX4_isBow l g E ho h0 a I F p0) kX4_isBow q2494 hx hb hml hown hts hRf hRl ho.1 hE hS hP (va_recv hK hP (ci := 0) (q0 := 0) rfl rfl) ⟨Nat.zero_le _, Nat.zero_le _⟩ hl ⟨rfl, rfl⟩ rfl rfl (Nat.le_of_ble_eq_true rfl) rfl dX4_rosins_3 ?_
  refine h_ifne_b (tgt := 13) hx hb dX4_rosins_6 (by decide) (fun c_1 => ?_) (fun c_1 => ?_)
  · rw [hb6] at c_1
    refine lv_iconst (v := 0) hx hb dX4_rosins_13 (by decide) ?_
    refine lv_iconst (v := 2) hx hb dX4_rosins_14 (by decide) ?_
    refine lv_iload_n hx hb dX4_rosins_15 rfl (lv_at hl 1 rfl) ?_
    refine rcV (As := [.int 0, .int 2, .int p0]) (rest := []) (st1 := [.int 0]) (mX4_isRefused0 l g E ho h0 a I F 2 p0) kX4_isRefused q2400 hx hb hml hown hts hRf hRl ho.1 hE hS hP (va_recv hK hP (ci := 0) (q0 := 0) rfl rfl) ⟨Nat.zero_le _, Nat.zero_le _⟩ hl ⟨rfl, rfl⟩ rfl rfl (Nat.le_of_ble_eq_true rfl) rfl dX4_rosins_16 ?_
    refine lv_if_ne (tgt := 121) hx hb dX4_rosins_19 (by decide) (fun c => absurd c (by decide)) (fun _ => ?_)
    have hrj := c_1
    obtain ⟨j, hj, rfl⟩ := inR_ix hrj rfl (by omega)
    have hjc : (nI j).toNatClampNeg = j := nI_clamp (by omega)
    refine lv_aload_n hx hb dX4_rosins_22 rfl (lv_at hl 0 rfl) ?_
    refine lv_aload_n hx hb dX4_rosins_23 rfl (lv_at hl 0 rfl) ?_
    refine lv_iload_n hx hb dX4_rosins_24 rfl (lv_at hl 2 rfl) ?_
    refine rcV (As := [.int p1]) (rest := [.ref h0]) (st1 := [.int (if inR p1 0 (F 0 6 - 1) then 1 else 0), .ref h0]) (mX4_isCake l g E ho h0 a I F p1) kX4_isCake q2524 hx hb hml hown hts hRf hRl ho.1 hE hS hP (va_recv hK hP (ci := 0) (q0 := 0) rfl rfl) ⟨Nat.zero_le _, Nat.zero_le _⟩ hl ⟨rfl, rfl⟩ rfl rfl (Nat.le_of_ble_eq_true rfl) rfl dX4_rosins_25 ?_
    refine h_ifne_b (tgt := 35) hx hb dX4_rosins_28 (by decide) (fun c_2 => ?_) (fun c_2 => ?_)
    · rw [hk5] at c_2
      refine lv_iconst (v := 0) hx hb dX4_rosins_35 (by decide) ?_
      refine lv_iconst (v := 2) hx hb dX4_rosins_36 (by decide) ?_
      refine lv_iload_n hx hb dX4_rosins_37 rfl (lv_at hl 2 rfl) ?_
      refine rcV (As := [.int 0, .int 2, .int p1]) (rest := []) (st1 := [.int 0]) (mX4_isRefused0 l g E ho h0 a I F 2 p1) kX4_isRefused q2400 hx hb hml hown hts hRf hRl ho.1 hE hS hP (va_recv hK hP (ci := 0) (q0 := 0) rfl rfl) ⟨Nat.zero_le _, Nat.zero_le _⟩ hl ⟨rfl, rfl⟩ rfl rfl (Nat.le_of_ble_eq_true rfl) rfl dX4_rosins_38 ?_
      refine lv_if_ne (tgt := 121) hx hb dX4_rosins_41 (by decide) (fun c => absurd c (by decide)) (fun _ => ?_)
      have hri := c_2
      obtain ⟨i, hi, rfl⟩ := inR_ix hri rfl (by omega)
      have hic : (nI i).toNatClampNeg = i := nI_clamp (by omega)
      refine lv_aload_n hx hb dX4_rosins_44 rfl (lv_at hl 0 rfl) ?_
      refine lv_aload_n hx hb dX4_rosins_45 rfl (lv_at hl 0 rfl) ?_
      refine lv_iload_n hx hb dX4_rosins_46 rfl (lv_at hl 1 rfl) ?_
      refine lv_iconst (v := 2) hx hb dX4_rosins_47 (by decide) ?_
      refine rcV (As := [.int (nI j), .int 2]) (rest := [.ref h0]) (st1 := [.int (F 0 (153 + 7 * j + 2)), .ref h0]) (mX4_ofBow l g E ho h0 a I F j 2 (by omega)) kX4_ofBow q2498 hx hb hml hown hts hRf hRl ho.1 hE hS hP (va_recv hK hP (ci := 0) (q0 := 0) rfl rfl) ⟨Nat.zero_le _, Nat.zero_le _⟩ hl ⟨rfl, rfl⟩ rfl rfl (Nat.le_of_ble_eq_true rfl) rfl dX4_rosins_48 ?_
      refine lv_if_ne (tgt := 58) hx hb dX4_rosins_51 (by decide) (fun c_3 => ?_) (fun c_3 => ?_)
      · refine lv_iconst (v := 0) hx hb dX4_rosins_58 (by decide) ?_
        refine lv_bipush (v := 10) hx hb dX4_rosins_59 (by decide) ?_
        refine lv_iconst (v := 0) hx hb dX4_rosins_61 (by decide) ?_
        refine rcV (As := [.int 0, .int 10, .int 0]) (rest := []) (st1 := [.int 0]) (mX4_isRefused0 l g E ho h0 a I F 10 0) kX4_isRefused q2400 hx hb hml hown hts hRf hRl ho.1 hE hS hP (va_recv hK hP (ci := 0) (q0 := 0) rfl rfl) ⟨Nat.zero_le _, Nat.zero_le _⟩ hl ⟨rfl, rfl⟩ rfl rfl (Nat.le_of_ble_eq_true rfl) rfl dX4_rosins_62 ?_
        refine lv_if_ne (tgt := 121) hx hb dX4_rosins_65 (by decide) (fun c => absurd c (by decide)) (fun _ => ?_)
        refine lv_aload_n hx hb dX4_rosins_68 rfl (lv_at hl 0 rfl) ?_
        refine lv_aload_n hx hb dX4_rosins_69 rfl (lv_at hl 0 rfl) ?_
        refine va_get (D := gD g) (ci := 0) (v := .ref (a 0)) (C := RX4) (T := TX4) (N := 21) hx hb hts in_X4 hown hK hP 0 rfl rfl 0 (by decide) (hts _ q2314) (fun _ h9 => h9) rfl dX4_rosins_70 ?_
        refine lv_bipush (v := 28) hx hb dX4_rosins_73 (by decide) ?_
        refine lv_iload_n hx hb dX4_rosins_75 rfl (lv_at hl 2 rfl) ?_
        refine lv_iadd hx hb dX4_rosins_76 ?_
        refine h_topi (v := nI (28 + i)) (h_nadd (a := 28) (b := i) (rfl) (rfl)) ?_
        refine h_iald (f := (F 0)) hx hb hK hP 1 0 rfl rfl (28 + i) rfl (by omega) (by decide) dX4_rosins_77 ?_
        refine lv_if_ne (tgt := 85) hx hb dX4_rosins_78 (by decide) (fun c_4 => ?_) (fun c_4 => ?_)
        · refine lv_iconst (v := 0) hx hb dX4_rosins_85 (by decide) ?_
          refine lv_bipush (v := 11) hx hb dX4_rosins_86 (by decide) ?_
          refine lv_iload_n hx hb dX4_rosins_88 rfl (lv_at hl 2 rfl) ?_
          refine rcV (As := [.int 0, .int 11, .int (nI i)]) (rest := []) (st1 := [.int 0]) (mX4_isRefused0 l g E ho h0 a I F 11 (nI i)) kX4_isRefused q2400 hx hb hml hown hts hRf hRl ho.1 hE hS hP (va_recv hK hP (ci := 0) (q0 := 0) rfl rfl) ⟨Nat.zero_le _, Nat.zero_le _⟩ hl ⟨rfl, rfl⟩ rfl rfl (Nat.le_of_ble_eq_true rfl) rfl dX4_rosins_89 ?_
          refine lv_if_ne (tgt := 121) hx hb dX4_rosins_92 (by decide) (fun c => absurd c (by decide)) (fun _ => ?_)
          refine lv_aload_n hx hb dX4_rosins_95 rfl (lv_at hl 0 rfl) ?_
          refine lv_aload_n hx hb dX4_rosins_96 rfl (lv_at hl 0 rfl) ?_
          refine lv_iload_n hx hb dX4_rosins_97 rfl (lv_at hl 1 rfl) ?_
          refine lv_iconst (v := 1) hx hb dX4_rosins_98 (by decide) ?_
          refine rcV (As := [.int (nI j), .int 1]) (rest := [.ref h0]) (st1 := [.int (F 0 (153 + 7 * j + 1)), .ref h0]) (mX4_ofBow l g E ho h0 a I F j 1 (by omega)) kX4_ofBow q2498 hx hb hml hown hts hRf hRl ho.1 hE hS hP (va_recv hK hP (ci := 0) (q0 := 0) rfl rfl) ⟨Nat.zero_le _, Nat.zero_le _⟩ hl ⟨rfl, rfl⟩ rfl rfl (Nat.le_of_ble_eq_true rfl) rfl dX4_rosins_99 ?_
          refine lv_bipush (v := 9) hx hb dX4_rosins_102 (by decide) ?_
          refine lv_icmp_ne (tgt := 111) hx hb dX4_rosins_104 (by decide) (fun c_5 => ?_) (fun c_5 => ?_)
          · refine lv_iconst (v := 0) hx hb dX4_rosins_111 (by decide) ?_
            refine lv_bipush (v := 12) hx hb dX4_rosins_112 (by decide) ?_
            refine lv_iload_n hx hb dX4_rosins_114 rfl (lv_at hl 1 rfl) ?_
            refine rcV (As := [.int 0, .int 12, .int (nI j)]) (rest := []) (st1 := [.int 0]) (mX4_isRefused0 l g E ho h0 a I F 12 (nI j)) kX4_isRefused q2400 hx hb hml hown hts hRf hRl ho.1 hE hS hP (va_recv hK hP (ci := 0) (q0 := 0) rfl rfl) ⟨Nat.zero_le _, Nat.zero_le _⟩ hl ⟨rfl, rfl⟩ rfl rfl (Nat.le_of_ble_eq_true rfl) rfl dX4_rosins_115 ?_
            refine lv_if_eq (tgt := 123) hx hb dX4_rosins_118 (by decide) (fun _ => ?_) (fun c => absurd c (by decide))
            refine lv_bipush (v := 9) hx hb dX4_rosins_123 (by decide) ?_
            refine lv_aload_n hx hb dX4_rosins_125 rfl (lv_at hl 0 rfl) ?_
            refine lv_iload_n hx hb dX4_rosins_126 rfl (lv_at hl 1 rfl) ?_
            refine lv_iconst (v := 1) hx hb dX4_rosins_127 (by decide) ?_
            refine rcV (As := [.int (nI j), .int 1]) (rest := [.int 9]) (st1 := [.int (F 0 (153 + 7 * j + 1)), .int 9]) (mX4_ofBow l g E ho h0 a I F j 1 (by omega)) kX4_ofBow q2498 hx hb hml hown hts hRf hRl ho.1 hE hS hP (va_recv hK hP (ci := 0) (q0 := 0) rfl rfl) ⟨Nat.zero_le _, Nat.zero_le _⟩ hl ⟨rfl, rfl⟩ rfl rfl (Nat.le_of_ble_eq_true rfl) rfl dX4_rosins_128 ?_
            refine lv_isub hx hb dX4_rosins_131 ?_
            refine lv_aload_n hx hb dX4_rosins_132 rfl (lv_at hl 0 rfl) ?_
            refine va_get (D := gD g) (ci := 0) (v := .ref (a 0)) (C := RX4) (T := TX4) (N := 21) hx hb hts in_X4 hown hK hP 0 rfl rfl 0 (by decide) (hts _ q2314) (fun _ h9 => h9) rfl dX4_rosins_133 ?_
            refine lv_bipush (v := 28) hx hb dX4_rosins_136 (by decide) ?_
            refine lv_iload_n hx hb dX4_rosins_138 rfl (lv_at hl 2 rfl) ?_
            refine lv_iadd hx hb dX4_rosins_139 ?_
            refine h_topi (v := nI (28 + i)) (h_nadd (a := 28) (b := i) (rfl) (rfl)) ?_
            refine h_iald (f := (F 0)) hx hb hK hP 1 0 rfl rfl (28 + i) rfl (by omega) (by decide) dX4_rosins_140 ?_
            refine rcS (As := [.int (9 - (F 0 (153 + 7 * j + 1))), .int (F 0 (28 + i))]) (rest := []) (st1 := [.int (minI (9 - (F 0 (153 + 7 * j + 1))) (F 0 (28 + i)))]) (mX4_lesser l g E ho (9 - (F 0 (153 + 7 * j + 1))) (F 0 (28 + i))) kX4_lesser q2457 hx hb hml hown hts hRf hRl ho.1 hE hS (hP.sub [] rfl) ⟨Nat.zero_le _, Nat.zero_le _⟩ hl ⟨rfl, rfl⟩ rfl rfl (Nat.le_of_ble_eq_true rfl) rfl dX4_rosins_141 ?_
            refine lv_istore_n (lv' := [(3, .int (minI (9 - (F 0 (153 + 7 * j + 1))) (F 0 (28 + i)))), (0, .ref h0), (1, .int (nI j)), (2, .int (nI i))]) hx hb dX4_rosins_144 rfl hl (by decide) rfl (fun ls hl => ?_)
            refine lv_aload_n hx hb dX4_rosins_145 rfl (lv_at hl 1 rfl) ?_
            refine va_get (D := gD g) (ci := 0) (v := .ref (a 0)) (C := RX4) (T := TX4) (N := 21) hx hb hts in_X4 hown hK hP 0 rfl rfl 0 (by decide) (hts _ q2314) (fun _ h9 => h9) rfl dX4_rosins_146 ?_
            refine lv_bipush (v := 28) hx hb dX4_rosins_149 (by decide) ?_
            refine lv_iload_n hx hb dX4_rosins_151 rfl (lv_at hl 3 rfl) ?_
            refine lv_iadd hx hb dX4_rosins_152 ?_
            refine h_topi (v := nI (28 + i)) (h_nadd (a := 28) (b := i) (rfl) (rfl)) ?_
            refine lv_dup2_11 hx hb dX4_rosins_153 rfl rfl ?_
            refine h_iald (f := (F 0)) hx hb hK hP 1 0 rfl rfl (28 + i) rfl (by omega) (by decide) dX4_rosins_154 ?_
            refine lv_iload_n hx hb dX4_rosins_155 rfl (lv_at hl 0 rfl) ?_
            refine lv_isub hx hb dX4_rosins_156 ?_
            refine h_iast (f := (F 0)) hx hb hK hP hD hS 1 0 rfl rfl (28 + i) rfl (by omega) (by decide) dX4_rosins_157 (fun H locs hP hD hS => ?_)
            have hP : va_P (gD g) Cl (mW g h0 a I (va_up F 0 (upd (F 0) (28 + i) ((F 0 (28 + i)) - (minI (9 - (F 0 (153 + 7 * j + 1))) (F 0 (28 + i))))))) H := hP
            have hD : va_D A (mW g h0 a I (va_up F 0 (upd (F 0) (28 + i) ((F 0 (28 + i)) - (minI (9 - (F 0 (153 + 7 * j + 1))) (F 0 (28 + i))))))) := hD
            refine lv_aload_n hx hb dX4_rosins_158 rfl (lv_at hl 1 rfl) ?_
            refine va_get (D := gD g) (ci := 0) (v := .ref (a 0)) (C := RX4) (T := TX4) (N := 21) hx hb hts in_X4 hown hK hP 0 rfl rfl 0 (by decide) (hts _ q2314) (fun _ h9 => h9) rfl dX4_rosins_159 ?_
            refine lv_iload_n hx hb dX4_rosins_162 rfl (lv_at hl 2 rfl) ?_
            refine lv_iconst (v := 1) hx hb dX4_rosins_163 (by decide) ?_
            refine rcS (As := [.int (nI j), .int 1]) (rest := [.ref (a 0)]) (st1 := [.int (nI (153 + 7 * j + 1)), .ref (a 0)]) (mX4_bowAt l g E ho j 1) kX4_bowAt q2483 hx hb hml hown hts hRf hRl ho.1 hE hS (hP.sub [] rfl) ⟨Nat.zero_le _, Nat.zero_le _⟩ hl ⟨rfl, rfl⟩ rfl rfl (Nat.le_of_ble_eq_true rfl) rfl dX4_rosins_164 ?_
            refine lv_dup2_11 hx hb dX4_rosins_167 rfl rfl ?_
            refine h_iald (f := (upd (F 0) (28 + i) ((F 0 (28 + i)) - (minI (9 - (F 0 (153 + 7 * j + 1))) (F 0 (28 + i)))))) hx hb hK hP 1 0 rfl rfl (153 + 7 * j + 1) rfl (by omega) (by decide) dX4_rosins_168 ?_
            refine h_topi (v := F 0 (153 + 7 * j + 1)) (by rw [pk_un (by omega)]) ?_
            refine lv_iload_n hx hb dX4_rosins_169 rfl (lv_at hl 0 rfl) ?_
            refine lv_iadd hx hb dX4_rosins_170 ?_
            refine h_iast (f := (upd (F 0) (28 + i) ((F 0 (28 + i)) - (minI (9 - (F 0 (153 + 7 * j + 1))) (F 0 (28 + i)))))) hx hb hK hP hD hS 1 0 rfl rfl (153 + 7 * j + 1) rfl (by omega) (by decide) dX4_rosins_171 (fun H locs hP hD hS => ?_)
            have hP : va_P (gD g) Cl (mW g h0 a I (va_up F 0 (upd (upd (F 0) (28 + i) ((F 0 (28 + i)) - (minI (9 - (F 0 (153 + 7 * j + 1))) (F 0 (28 + i))))) (153 + 7 * j + 1) ((F 0 (153 + 7 * j + 1)) + (minI (9 - (F 0 (153 + 7 * j + 1))) (F 0 (28 + i))))))) H := hP
            have hD : va_D A (mW g h0 a I (va_up F 0 (upd (upd (F 0) (28 + i) ((F 0 (28 + i)) - (minI (9 - (F 0 (153 + 7 * j + 1))) (F 0 (28 + i))))) (153 + 7 * j + 1) ((F 0 (153 + 7 * j + 1)) + (minI (9 - (F 0 (153 + 7 * j + 1))) (F 0 (28 + i))))))) := hD
            refine lv_aload_n hx hb dX4_rosins_172 rfl (lv_at hl 1 rfl) ?_
            refine lv_iload_n hx hb dX4_rosins_173 rfl (lv_at hl 2 rfl) ?_
            refine lv_iconst (v := 1) hx hb dX4_rosins_174 (by decide) ?_
            refine rcV (As := [.int (nI j), .int 1]) (rest := []) (st1 := [.int ((upd (upd (F 0) (28 + i) ((F 0 (28 + i)) - (minI (9 - (F 0 (153 + 7 * j + 1))) (F 0 (28 + i))))) (153 + 7 * j + 1) ((F 0 (153 + 7 * j + 1)) + (minI (9 - (F 0 (153 + 7 * j + 1))) (F 0 (28 + i))))) (153 + 7 * j + 1))]) (mX4_ofBow l g E ho h0 a I (va_up F 0 (upd (upd (F 0) (28 + i) ((F 0 (28 + i)) - (minI (9 - (F 0 (153 + 7 * j + 1))) (F 0 (28 + i))))) (153 + 7 * j + 1) ((F 0 (153 + 7 * j + 1)) + (minI (9 - (F 0 (153 + 7 * j + 1))) (F 0 (28 + i)))))) j 1 (by omega)) kX4_ofBow q2498 hx hb hml hown hts hRf hRl ho.1 hE hS hP (va_recv hK hP (ci := 0) (q0 := 0) rfl rfl) ⟨Nat.zero_le _, Nat.zero_le _⟩ hl ⟨rfl, rfl⟩ rfl rfl (Nat.le_of_ble_eq_true rfl) rfl dX4_rosins_175 ?_
            refine h_topi (v := (F 0 (153 + 7 * j + 1)) + (minI (9 - (F 0 (153 + 7 * j + 1))) (F 0 (28 + i)))) (by rw [pk_us]) ?_
            have hop : opRosin (F 0) (nI j) (nI i) = (0, 0, (F 0 (153 + 7 * j + 1)) + (minI (9 - (F 0 (153 + 7 * j + 1))) (F 0 (28 + i))), (upd (upd (F 0) (28 + i) ((F 0 (28 + i)) - (minI (9 - (F 0 (153 + 7 * j + 1))) (F 0 (28 + i))))) (153 + 7 * j + 1) ((F 0 (153 + 7 * j + 1)) + (minI (9 - (F 0 (153 + 7 * j + 1))) (F 0 (28 + i)))))) := by simp only [htw, htwc, ht, htc, hh, hhc, hb6, hbc, hk5, hkc, opRosin, opRosinN, hjc, hic, eq_true c_1, eq_true c_2, eq_false c_3, eq_false c_4, eq_false c_5, if_true, if_false, not_true_eq_false, not_false_eq_true, ite_true, ite_false, reduceIte, Nat.add_zero, Nat.add_sub_cancel]
            have hW1 : (mW g h0 a I (va_up F 0 (upd (upd (F 0) (28 + i) ((F 0 (28 + i)) - (minI (9 - (F 0 (153 + 7 * j + 1))) (F 0 (28 + i))))) (153 + 7 * j + 1) ((F 0 (153 + 7 * j + 1)) + (minI (9 - (F 0 (153 + 7 * j + 1))) (F 0 (28 + i))))))) = mW g h0 a (opI I (opRosin (F 0) (nI j) (nI i))) (va_up F 0 (opRosin (F 0) (nI j) (nI i)).2.2.2) := by
              rw [hop]
              first | rfl | (simp only [opI, hup_id]; rfl)
            rw [hW1] at hP hD
            exact hm_i hQ hx hb hr hlk rfl () (by rw [hop]) trivial hP hD hS (by decide) (by decide) dX4_rosins_178
          refine lv_iconst (v := 1) hx hb dX4_rosins_107 (by decide) ?_
          refine lv_goto (tgt := 112) hx hb dX4_rosins_108 (by decide) ?_
          refine lv_bipush (v := 12) hx hb dX4_rosins_112 (by decide) ?_
          refine lv_iload_n hx hb dX4_rosins_114 rfl (lv_at hl 1 rfl) ?_
          refine mcV (As := [.int 1, .int 12, .int (nI j)]) (rest := []) (wr := []) (mX4_isRefused1 l g E ho h0 a I F 12 (nI j)) kX4_isRefused q2400 hx hb hml hown hts hRf hRl ho.1 hE hS hP hD hA [0, 1, 2, 3, 4, 5, 6, 7, 8] [] rfl (by decide) rfl (by decide) (by decide) ⟨Nat.zero_le _, Nat.zero_le _⟩ (va_recv hK hP (ci := 0) (q0 := 0) rfl rfl) hl ⟨rfl, rfl⟩ rfl rfl (Nat.le_of_ble_eq_true rfl) dX4_rosins_115 (fun _ H locs _ hP hD hS _ _ => ?_)
          have hP : va_P (gD g) Cl (mW g h0 a (refI I 12 (nI j)) F) H := hP
          have hD : va_D A (mW g h0 a (refI I 12 (nI j)) F) := hD
          refine lv_if_eq (tgt := 123) hx hb dX4_rosins_118 (by decide) (fun c => absurd c (by decide)) (fun _ => ?_)
          refine lv_iconst (v := 0) hx hb dX4_rosins_121 (by decide) ?_
          have hop : opRosin (F 0) (nI j) (nI i) = (12, (nI j), 0, F 0) := by simp only [htw, htwc, ht, htc, hh, hhc, hb6, hbc, hk5, hkc, opRosin, opRosinN, hjc, hic, eq_true c_1, eq_true c_2, eq_false c_3, eq_false c_4, eq_true c_5, if_true, if_false, not_true_eq_false, not_false_eq_true, ite_true, ite_false, reduceIte, Nat.add_zero, Nat.add_sub_cancel]
          have hW1 : (mW g h0 a (refI I 12 (nI j)) F) = mW g h0 a (opI I (opRosin (F 0) (nI j) (nI i))) (va_up F 0 (opRosin (F 0) (nI j) (nI i)).2.2.2) := by
            rw [hop]
            first | rfl | (simp only [opI, hup_id]; rfl)
          rw [hW1] at hP hD
          exact hm_i hQ hx hb hr hlk rfl () (by rw [hop]) trivial hP hD hS (by decide) (by decide) dX4_rosins_122
        refine lv_iconst (v := 1) hx hb dX4_rosins_81 (by decide) ?_
        refine lv_goto (tgt := 86) hx hb dX4_rosins_82 (by decide) ?_
        refine lv_bipush (v := 11) hx hb dX4_rosins_86 (by decide) ?_
        refine lv_iload_n hx hb dX4_rosins_88 rfl (lv_at hl 2 rfl) ?_
        refine mcV (As := [.int 1, .int 11, .int (nI i)]) (rest := []) (wr := []) (mX4_isRefused1 l g E ho h0 a I F 11 (nI i)) kX4_isRefused q2400 hx hb hml hown hts hRf hRl ho.1 hE hS hP hD hA [0, 1, 2, 3, 4, 5, 6, 7, 8] [] rfl (by decide) rfl (by decide) (by decide) ⟨Nat.zero_le _, Nat.zero_le _⟩ (va_recv hK hP (ci := 0) (q0 := 0) rfl rfl) hl ⟨rfl, rfl⟩ rfl rfl (Nat.le_of_ble_eq_true rfl) dX4_rosins_89 (fun _ H locs _ hP hD hS _ _ => ?_)
        have hP : va_P (gD g) Cl (mW g h0 a (refI I 11 (nI i)) F) H := hP
        have hD : va_D A (mW g h0 a (refI I 11 (nI i)) F) := hD
        refine lv_if_ne (tgt := 121) hx hb dX4_rosins_92 (by decide) (fun _ => ?_) (fun c => absurd c (by decide))
        refine lv_iconst (v := 0) hx hb dX4_rosins_121 (by decide) ?_
        have hop : opRosin (F 0) (nI j) (nI i) = (11, (nI i), 0, F 0) := by simp only [htw, htwc, ht, htc, hh, hhc, hb6, hbc, hk5, hkc, opRosin, opRosinN, hjc, hic, eq_true c_1, eq_true c_2, eq_false c_3, eq_true c_4, if_true, if_false, not_true_eq_false, not_false_eq_true, ite_true, ite_false, reduceIte, Nat.add_zero, Nat.add_sub_cancel]
        have hW1 : (mW g h0 a (refI I 11 (nI i)) F) = mW g h0 a (opI I (opRosin (F 0) (nI j) (nI i))) (va_up F 0 (opRosin (F 0) (nI j) (nI i)).2.2.2) := by
          rw [hop]
          first | rfl | (simp only [opI, hup_id]; rfl)
        rw [hW1] at hP hD
        exact hm_i hQ hx hb hr hlk rfl () (by rw [hop]) trivial hP hD hS (by decide) (by decide) dX4_rosins_122
      refine lv_iconst (v := 1) hx hb dX4_rosins_54 (by decide) ?_
      refine lv_goto (tgt := 59) hx hb dX4_rosins_55 (by decide) ?_
      refine lv_bipush (v := 10) hx hb dX4_rosins_59 (by decide) ?_
      refine lv_iconst (v := 0) hx hb dX4_rosins_61 (by decide) ?_
      refine mcV (As := [.int 1, .int 10, .int 0]) (rest := []) (wr := []) (mX4_isRefused1 l g E ho h0 a I F 10 0) kX4_isRefused q2400 hx hb hml hown hts hRf hRl ho.1 hE hS hP hD hA [0, 1, 2, 3, 4, 5, 6, 7, 8] [] rfl (by decide) rfl (by decide) (by decide) ⟨Nat.zero_le _, Nat.zero_le _⟩ (va_recv hK hP (ci := 0) (q0 := 0) rfl rfl) hl ⟨rfl, rfl⟩ rfl rfl (Nat.le_of_ble_eq_true rfl) dX4_rosins_62 (fun _ H locs _ hP hD hS _ _ => ?_)
      have hP : va_P (gD g) Cl (mW g h0 a (refI I 10 0) F) H := hP
      have hD : va_D A (mW g h0 a (refI I 10 0) F) := hD
      refine lv_if_ne (tgt := 121) hx hb dX4_rosins_65 (by decide) (fun _ => ?_) (fun c => absurd c (by decide))
      refine lv_iconst (v := 0) hx hb dX4_rosins_121 (by decide) ?_
      have hop : opRosin (F 0) (nI j) (nI i) = (10, 0, 0, F 0) := by simp only [htw, htwc, ht, htc, hh, hhc, hb6, hbc, hk5, hkc, opRosin, opRosinN, hjc, hic, eq_true c_1, eq_true c_2, eq_true c_3, if_true, if_false, not_true_eq_false, not_false_eq_true, ite_true, ite_false, reduceIte, Nat.add_zero, Nat.add_sub_cancel]
      have hW1 : (mW g h0 a (refI I 10 0) F) = mW g h0 a (opI I (opRosin (F 0) (nI j) (nI i))) (va_up F 0 (opRosin (F 0) (nI j) (nI i)).2.2.2) := by
        rw [hop]
        first | rfl | (simp only [opI, hup_id]; rfl)
      rw [hW1] at hP hD
      exact hm_i hQ hx hb hr hlk rfl () (by rw [hop]) trivial hP hD hS (by decide) (by decide) dX4_rosins_122
    rw [hk5] at c_2
    refine lv_iconst (v := 1) hx hb dX4_rosins_31 (by decide) ?_
    refine lv_goto (tgt := 36) hx hb dX4_rosins_32 (by decide) ?_
    refine lv_iconst (v := 2) hx hb dX4_rosins_36 (by decide) ?_
    refine lv_iload_n hx hb dX4_rosins_37 rfl (lv_at hl 2 rfl) ?_
    refine mcV (As := [.int 1, .int 2, .int p1]) (rest := []) (wr := []) (mX4_isRefused1 l g E ho h0 a I F 2 p1) kX4_isRefused q2400 hx hb hml hown hts hRf hRl ho.1 hE hS hP hD hA [0, 1, 2, 3, 4, 5, 6, 7, 8] [] rfl (by decide) rfl (by decide) (by decide) ⟨Nat.zero_le _, Nat.zero_le _⟩ (va_recv hK hP (ci := 0) (q0 := 0) rfl rfl) hl ⟨rfl, rfl⟩ rfl rfl (Nat.le_of_ble_eq_true rfl) dX4_rosins_38 (fun _ H locs _ hP hD hS _ _ => ?_)
    have hP : va_P (gD g) Cl (mW g h0 a (refI I 2 p1) F) H := hP
    have hD : va_D A (mW g h0 a (refI I 2 p1) F) := hD
    refine lv_if_ne (tgt := 121) hx hb dX4_rosins_41 (by decide) (fun _ => ?_) (fun c => absurd c (by decide))
    refine lv_iconst (v := 0) hx hb dX4_rosins_121 (by decide) ?_
    have hop : opRosin (F 0) (nI j) p1 = (2, p1, 0, F 0) := by simp only [htw, htwc, ht, htc, hh, hhc, hb6, hbc, hk5, hkc, opRosin, opRosinN, hjc, eq_true c_1, eq_false c_2, if_true, if_false, not_true_eq_false, not_false_eq_true, ite_true, ite_false, reduceIte, Nat.add_zero, Nat.add_sub_cancel]
    have hW1 : (mW g h0 a (refI I 2 p1) F) = mW g h0 a (opI I (opRosin (F 0) (nI j) p1)) (va_up F 0 (opRosin (F 0) (nI j) p1).2.2.2) := by
      rw [hop]
      first | rfl | (simp only [opI, hup_id]; rfl)
    rw [hW1] at hP hD
    exact hm_i hQ hx hb hr hlk rfl () (by rw [hop]) trivial hP hD hS (by decide) (by decide) dX4_rosins_122
  rw [hb6] at c_1
  refine lv_iconst (v := 1) hx hb dX4_rosins_9 (by decide) ?_
  refine lv_goto (tgt := 14) hx hb dX4_rosins_10 (by decide) ?_
  refine lv_iconst (v := 2) hx hb dX4_rosins_14 (by decide) ?_
  refine lv_iload_n hx hb dX4_rosins_15 rfl (lv_at hl 1 rfl) ?_
  refine mcV (As := [.int 1, .int 2, .int p0]) (rest := []) (wr := []) (mX4_isRefused1 l g E ho h0 a I F 2 p0) kX4_isRefused q2400 hx hb hml hown hts hRf hRl ho.1 hE hS hP hD hA [0, 1, 2, 3, 4, 5, 6, 7, 8] [] rfl (by decide) rfl (by decide) (by decide) ⟨Nat.zero_le _, Nat.zero_le _⟩ (va_recv hK hP (ci := 0) (q0 := 0) rfl rfl) hl ⟨rfl, rfl⟩ rfl rfl (Nat.le_of_ble_eq_true rfl) dX4_rosins_16 (fun _ H locs _ hP hD hS _ _ => ?_)
  have hP : va_P (gD g) Cl (mW g h0 a (refI I 2 p0) F) H := hP
  have hD : va_D A (mW g h0 a (refI I 2 p0) F) := hD
  refine lv_if_ne (tgt := 121) hx hb dX4_rosins_19 (by decide) (fun _ => ?_) (fun c => absurd c (by decide))
  refine lv_iconst (v := 0) hx hb dX4_rosins_121 (by decide) ?_
  have hop : opRosin (F 0) p0 p1 = (2, p0, 0, F 0) := by simp only [htw, htwc, ht, htc, hh, hhc, hb6, hbc, hk5, hkc, opRosin, opRosinN, eq_false c_1, if_true, if_false, not_true_eq_false, not_false_eq_true, ite_true, ite_false, reduceIte, Nat.add_zero, Nat.add_sub_cancel]
  have hW1 : (mW g h0 a (refI I 2 p0) F) = mW g h0 a (opI I (opRosin (F 0) p0 p1)) (va_up F 0 (opRosin (F 0) p0 p1).2.2.2) := by
    rw [hop]
    first | rfl | (simp only [opI, hup_id]; rfl)
  rw [hW1] at hP hD
  exact hm_i hQ hx hb hr hlk rfl () (by rw [hop]) trivial hP hD hS (by decide) (by decide) dX4_rosins_122
theorem kX4_rosin : hkV RX4 yX4_rosin cX4_rosin 3 (some .int) 2 := ⟨q2517, q2518, q78, q2519, rfl, by decide +kernel⟩
set_option maxHeartbeats 4000000 in
theorem mX4_rosin (l : Launch) (g : hG) (E : hEnv) (ho : mOk g E) (h0 : Nat) (a : Nat → Nat) (I : Nat → Int32) (F : Nat → Nat → Int32) (p0 : Int32) (p1 : Int32) (nt : Nat) (nh : Nat) (nb : Nat) (nc : Nat) (tw : Nat) (n : Nat) (hc : Cn (F 0) nt nh nb nc tw) (hn : I 0 = nI n) (hn8 : n ≤ 8) : MM l yX4_rosin cX4_rosin 3 (some .int) 3 66 0 0 [.ref h0, .int p0, .int p1] g E (mW g h0 a I F) (S := Unit) (fun _ => (some (.int ((opRosin (F 0) p0 p1).2.2.1)))) (fun _ => True) (fun _ => mW g h0 a (pubI I n (opRosin (F 0) p0 p1)) (pubF F n (opRosin (F 0) p0 p1))) := by
  refine MM.mk (by decide) (Nat.le_of_ble_eq_true rfl) ?_
  intro p e R s m args below meth c Q A H locs ls hX hRc hRs hP hD hE hS hA hnm hl hQ
  obtain ⟨hx, hb, hr, hlk, hml, hown, hts, hRf, hRl⟩ := hX
  have hown : s.vm.findClass RX4 = some m.cls := hown
  have hK := ho.2 _ _ _ hE
  have hl : lv_has ls 3 [(0, .ref h0), (1, .int p0), (2, .int p1)] := hl
  have hc0 := hc
  obtain ⟨htw, htw6, ht, ht10, hh, hh20, hb6, hb6l, hk5, hk5l⟩ := hc
  have htc : (nI nt).toNatClampNeg = nt := nI_clamp (by omega)
  have hhc : (nI nh).toNatClampNeg = nh := nI_clamp (by omega)
  have hbc : (nI nb).toNatClampNeg = nb := nI_clamp (by omega)
  have hkc : (nI nc).toNatClampNeg = nc := nI_clamp (by omega)
  have htwc : (nI tw).toNatClampNeg = tw := nI_clamp (by omega)
  refine lv_aload_n hx hb dX4_rosin_0 rfl (lv_at hl 0 rfl) ?_
  refine mcV (As := []) (rest := []) (wr := []) (mX4_begins l g E ho h0 a I F) kX4_begins q2386 hx hb hml hown hts hRf hRl ho.1 hE hS hP hD hA [0, 1, 2, 3, 4, 5, 6, 7, 8] [] rfl (by decide) rfl (by decide) (by decide) ⟨Nat.zero_le _, Nat.zero_le _⟩ (va_recv hK hP (ci := 0) (q0 := 0) rfl rfl) hl ⟨rfl, rfl⟩ rfl rfl (Nat.le_of_ble_eq_true rfl) dX4_rosin_1 (fun _ H locs _ hP hD hS _ _ => ?_)
  have hP : va_P (gD g) Cl (mW g h0 a (upd (upd I 5 0) 1 0) (va_up F 1 (va_cpy (F 0) (F 1) 0 0 195))) H := hP
  have hD : va_D A (mW g h0 a (upd (upd I 5 0) 1 0) (va_up F 1 (va_cpy (F 0) (F 1) 0 0 195))) := hD
  refine lv_aload_n hx hb dX4_rosin_4 rfl (lv_at hl 0 rfl) ?_
  refine lv_aload_n hx hb dX4_rosin_5 rfl (lv_at hl 0 rfl) ?_
  refine lv_iload_n hx hb dX4_rosin_6 rfl (lv_at hl 1 rfl) ?_
  refine lv_iload_n hx hb dX4_rosin_7 rfl (lv_at hl 2 rfl) ?_
  refine mcV (As := [.int p0, .int p1]) (rest := [.ref h0]) (wr := []) (mX4_rosins l g E ho h0 a (upd (upd I 5 0) 1 0) (va_up F 1 (va_cpy (F 0) (F 1) 0 0 195)) p0 p1 nt nh nb nc tw hc0) kX4_rosins q2520 hx hb hml hown hts hRf hRl ho.1 hE hS hP hD hA [0, 1, 2, 3, 4, 5, 6, 7, 8] [] rfl (by decide) rfl (by decide) (by decide) ⟨Nat.zero_le _, Nat.zero_le _⟩ (va_recv hK hP (ci := 0) (q0 := 0) rfl rfl) hl ⟨rfl, rfl⟩ rfl rfl (Nat.le_of_ble_eq_true rfl) dX4_rosin_8 (fun _ H locs _ hP hD hS _ _ => ?_)
  have hP : va_P (gD g) Cl (mW g h0 a (opI (upd (upd I 5 0) 1 0) (opRosin (F 0) p0 p1)) (va_up (va_up F 0 ((opRosin (F 0) p0 p1).2.2.2)) 1 (va_cpy (F 0) (F 1) 0 0 195))) H := hP
  have hD : va_D A (mW g h0 a (opI (upd (upd I 5 0) 1 0) (opRosin (F 0) p0 p1)) (va_up (va_up F 0 ((opRosin (F 0) p0 p1).2.2.2)) 1 (va_cpy (F 0) (F 1) 0 0 195))) := hD
  by_cases hz : (opRosin (F 0) p0 p1).1 = 0
  · have hI : opI (upd (upd I 5 0) 1 0) (opRosin (F 0) p0 p1) = (upd (upd I 5 0) 1 0) := if_pos hz
    rw [hI] at hP hD
    refine mcV (As := [.int ((opRosin (F 0) p0 p1).2.2.1)]) (rest := []) (wr := []) (mX4_ends0 l g E ho h0 a (upd (upd I 5 0) 1 0) (va_up (va_up F 0 ((opRosin (F 0) p0 p1).2.2.2)) 1 (va_cpy (F 0) (F 1) 0 0 195)) ((opRosin (F 0) p0 p1).2.2.1) n rfl hn hn8) kX4_ends q2411 hx hb hml hown hts hRf hRl ho.1 hE hS hP hD hA [0, 1, 2, 3, 4, 5, 6, 7, 8] [] rfl (by decide) rfl (by decide) (by decide) ⟨Nat.zero_le _, Nat.zero_le _⟩ (va_recv hK hP (ci := 0) (q0 := 0) rfl rfl) hl ⟨rfl, rfl⟩ rfl rfl (Nat.le_of_ble_eq_true rfl) dX4_rosin_11 (fun _ H locs _ hP hD hS _ _ => ?_)
    have hP : va_P (gD g) Cl (mW g h0 a (upd (upd (upd I 5 0) 1 0) 0 (nI (chN n))) (va_up (va_up (va_up F 0 ((opRosin (F 0) p0 p1).2.2.2)) 1 (va_cpy (F 0) (F 1) 0 0 195)) 3 (chP (va_cpy (F 0) (F 1) 0 0 195) (F 3) n))) H := hP
    have hD : va_D A (mW g h0 a (upd (upd (upd I 5 0) 1 0) 0 (nI (chN n))) (va_up (va_up (va_up F 0 ((opRosin (F 0) p0 p1).2.2.2)) 1 (va_cpy (F 0) (F 1) 0 0 195)) 3 (chP (va_cpy (F 0) (F 1) 0 0 195) (F 3) n))) := hD
    have hW1 : (mW g h0 a (upd (upd (upd I 5 0) 1 0) 0 (nI (chN n))) (va_up (va_up (va_up F 0 ((opRosin (F 0) p0 p1).2.2.2)) 1 (va_cpy (F 0) (F 1) 0 0 195)) 3 (chP (va_cpy (F 0) (F 1) 0 0 195) (F 3) n))) = mW g h0 a (pubI I n (opRosin (F 0) p0 p1)) (pubF F n (opRosin (F 0) p0 p1)) := by
      rw [show pubI I n (opRosin (F 0) p0 p1) = chI (upd (upd I 5 0) 1 0) n from if_pos hz, show pubF F n (opRosin (F 0) p0 p1) = chF (va_up (kpF F) 0 (opRosin (F 0) p0 p1).2.2.2) n from if_pos hz]
      rfl
    rw [hW1] at hP hD
    exact hm_i hQ hx hb hr hlk rfl () rfl trivial hP hD hS (by decide) (by decide) dX4_rosin_14
  obtain ⟨hv0, hs0⟩ := opRosin_ref (F 0) p0 p1 hz
  have hI : opI (upd (upd I 5 0) 1 0) (opRosin (F 0) p0 p1) = (refI (upd (upd I 5 0) 1 0) (opRosin (F 0) p0 p1).1 (opRosin (F 0) p0 p1).2.1) := if_neg hz
  rw [hI] at hP hD
  refine rcV (As := [.int ((opRosin (F 0) p0 p1).2.2.1)]) (rest := []) (st1 := [.int 0]) (mX4_ends1 l g E ho h0 a (refI (upd (upd I 5 0) 1 0) (opRosin (F 0) p0 p1).1 (opRosin (F 0) p0 p1).2.1) (va_up (va_up F 0 ((opRosin (F 0) p0 p1).2.2.2)) 1 (va_cpy (F 0) (F 1) 0 0 195)) ((opRosin (F 0) p0 p1).2.2.1) (by show ¬ (1 : Int32) = 0; decide)) kX4_ends q2411 hx hb hml hown hts hRf hRl ho.1 hE hS hP (va_recv hK hP (ci := 0) (q0 := 0) rfl rfl) ⟨Nat.zero_le _, Nat.zero_le _⟩ hl ⟨rfl, rfl⟩ rfl rfl (Nat.le_of_ble_eq_true rfl) rfl dX4_rosin_11 ?_
  have hW1 : (mW g h0 a (refI (upd (upd I 5 0) 1 0) (opRosin (F 0) p0 p1).1 (opRosin (F 0) p0 p1).2.1) (va_up (va_up F 0 ((opRosin (F 0) p0 p1).2.2.2)) 1 (va_cpy (F 0) (F 1) 0 0 195))) = mW g h0 a (pubI I n (opRosin (F 0) p0 p1)) (pubF F n (opRosin (F 0) p0 p1)) := by
    rw [show pubI I n (opRosin (F 0) p0 p1) = refI (upd (upd I 5 0) 1 0) (opRosin (F 0) p0 p1).1 (opRosin (F 0) p0 p1).2.1 from if_neg hz, show pubF F n (opRosin (F 0) p0 p1) = kpF F from if_neg hz, hs0]
    rfl
  rw [hW1] at hP hD
  exact hm_i hQ hx hb hr hlk rfl () (by rw [hv0]) trivial hP hD hS (by decide) (by decide) dX4_rosin_14
theorem kX4_road : hkV RX4 yX4_road cX4_road 4 (some .int) 2 := ⟨q2540, q2541, q78, q2542, rfl, by decide +kernel⟩
set_option maxHeartbeats 4000000 in
theorem mX4_road (l : Launch) (g : hG) (E : hEnv) (ho : mOk g E) (h0 : Nat) (a : Nat → Nat) (I : Nat → Int32) (F : Nat → Nat → Int32) (p0 : Int32) (p1 : Int32) (nt : Nat) (nh : Nat) (nb : Nat) (nc : Nat) (tw : Nat) (n : Nat) (hc : Cn (F 0) nt nh nb nc tw) (hn : I 0 = nI n) (hn8 : n ≤ 8) : MM l yX4_road cX4_road 4 (some .int) 3 66 0 0 [.ref h0, .int p0, .int p1] g E (mW g h0 a I F) (S := Unit) (fun _ => (some (.int ((opRoad (F 0) p0 p1).2.2.1)))) (fun _ => True) (fun _ => mW g h0 a (pubI I n (opRoad (F 0) p0 p1)) (pubF F n (opRoad (F 0) p0 p1))) := by
  refine MM.mk (by decide) (Nat.le_of_ble_eq_true rfl) ?_
  intro p e R s m args below meth c Q A H locs ls hX hRc hRs hP hD hE hS hA hnm hl hQ
  obtain ⟨hx, hb, hr, hlk, hml, hown, hts, hRf, hRl⟩ := hX
  have hown : s.vm.findClass RX4 = some m.cls := hown
  have hK := ho.2 _ _ _ hE
  have hl : lv_has ls 4 [(0, .ref h0), (1, .int p0), (2, .int p1)] := hl
  have hc0 := hc
  obtain ⟨htw, htw6, ht, ht10, hh, hh20, hb6, hb6l, hk5, hk5l⟩ := hc
  have htc : (nI nt).toNatClampNeg = nt := nI_clamp (by omega)
  have hhc : (nI nh).toNatClampNeg = nh := nI_clamp (by omega)
  have hbc : (nI nb).toNatClampNeg = nb := nI_clamp (by omega)
  have hkc : (nI nc).toNatClampNeg = nc := nI_clamp (by omega)
  have htwc : (nI tw).toNatClampNeg = tw := nI_clamp (by omega)
  refine lv_aload_n hx hb dX4_road_0 rfl (lv_at hl 0 rfl) ?_
  refine mcV (As := []) (rest := []) (wr := []) (mX4_begins l g E ho h0 a I F) kX4_begins q2386 hx hb hml hown hts hRf hRl ho.1 hE hS hP hD hA [0, 1, 2, 3, 4, 5, 6, 7, 8] [] rfl (by decide) rfl (by decide) (by decide) ⟨Nat.zero_le _, Nat.zero_le _⟩ (va_recv hK hP (ci := 0) (q0 := 0) rfl rfl) hl ⟨rfl, rfl⟩ rfl rfl (Nat.le_of_ble_eq_true rfl) dX4_road_1 (fun _ H locs _ hP hD hS _ _ => ?_)
  have hP : va_P (gD g) Cl (mW g h0 a (upd (upd I 5 0) 1 0) (va_up F 1 (va_cpy (F 0) (F 1) 0 0 195))) H := hP
  have hD : va_D A (mW g h0 a (upd (upd I 5 0) 1 0) (va_up F 1 (va_cpy (F 0) (F 1) 0 0 195))) := hD
  refine lv_aload_n hx hb dX4_road_4 rfl (lv_at hl 0 rfl) ?_
  refine lv_iload_n hx hb dX4_road_5 rfl (lv_at hl 1 rfl) ?_
  refine rcS (As := [.int p0]) (rest := [.ref h0]) (st1 := [.int (if inR p0 0 5 then 1 else 0), .ref h0]) (mX4_isTown l g E ho p0) kX4_isTown q2543 hx hb hml hown hts hRf hRl ho.1 hE hS (hP.sub [] rfl) ⟨Nat.zero_le _, Nat.zero_le _⟩ hl ⟨rfl, rfl⟩ rfl rfl (Nat.le_of_ble_eq_true rfl) rfl dX4_road_6 ?_
  refine h_ifne_b (tgt := 16) hx hb dX4_road_9 (by decide) (fun c_1 => ?_) (fun c_1 => ?_)
  · refine lv_iconst (v := 0) hx hb dX4_road_16 (by decide) ?_
    refine lv_iconst (v := 2) hx hb dX4_road_17 (by decide) ?_
    refine lv_iload_n hx hb dX4_road_18 rfl (lv_at hl 1 rfl) ?_
    refine rcV (As := [.int 0, .int 2, .int p0]) (rest := []) (st1 := [.int 0]) (mX4_isRefused0 l g E ho h0 a (upd (upd I 5 0) 1 0) (va_up F 1 (va_cpy (F 0) (F 1) 0 0 195)) 2 p0) kX4_isRefused q2400 hx hb hml hown hts hRf hRl ho.1 hE hS hP (va_recv hK hP (ci := 0) (q0 := 0) rfl rfl) ⟨Nat.zero_le _, Nat.zero_le _⟩ hl ⟨rfl, rfl⟩ rfl rfl (Nat.le_of_ble_eq_true rfl) rfl dX4_road_19 ?_
    refine lv_if_ne (tgt := 48) hx hb dX4_road_22 (by decide) (fun c => absurd c (by decide)) (fun _ => ?_)
    refine lv_aload_n hx hb dX4_road_25 rfl (lv_at hl 0 rfl) ?_
    refine lv_iload_n hx hb dX4_road_26 rfl (lv_at hl 2 rfl) ?_
    refine lv_iconst (v := 1) hx hb dX4_road_27 (by decide) ?_
    refine lv_iconst (v := 5) hx hb dX4_road_28 (by decide) ?_
    refine rcS (As := [.int p1, .int 1, .int 5]) (rest := [.ref h0]) (st1 := [.int (if inR p1 1 5 then 1 else 0), .ref h0]) (mX4_isIn l g E ho p1 1 5) kX4_isIn q2397 hx hb hml hown hts hRf hRl ho.1 hE hS (hP.sub [] rfl) ⟨Nat.zero_le _, Nat.zero_le _⟩ hl ⟨rfl, rfl⟩ rfl rfl (Nat.le_of_ble_eq_true rfl) rfl dX4_road_29 ?_
    refine h_ifne_b (tgt := 39) hx hb dX4_road_32 (by decide) (fun c_2 => ?_) (fun c_2 => ?_)
    · refine lv_iconst (v := 0) hx hb dX4_road_39 (by decide) ?_
      refine lv_iconst (v := 3) hx hb dX4_road_40 (by decide) ?_
      refine lv_iload_n hx hb dX4_road_41 rfl (lv_at hl 2 rfl) ?_
      refine rcV (As := [.int 0, .int 3, .int p1]) (rest := []) (st1 := [.int 0]) (mX4_isRefused0 l g E ho h0 a (upd (upd I 5 0) 1 0) (va_up F 1 (va_cpy (F 0) (F 1) 0 0 195)) 3 p1) kX4_isRefused q2400 hx hb hml hown hts hRf hRl ho.1 hE hS hP (va_recv hK hP (ci := 0) (q0 := 0) rfl rfl) ⟨Nat.zero_le _, Nat.zero_le _⟩ hl ⟨rfl, rfl⟩ rfl rfl (Nat.le_of_ble_eq_true rfl) rfl dX4_road_42 ?_
      refine lv_if_eq (tgt := 50) hx hb dX4_road_45 (by decide) (fun _ => ?_) (fun c => absurd c (by decide))
      have hrj := c_1
      obtain ⟨j, hj1, hj2, rfl⟩ := inR_lit (a := 0) (b := 5) hrj rfl rfl (by decide) (by decide)
      have hjc : (nI j).toNatClampNeg = j := nI_clamp (by omega)
      refine lv_aload_n hx hb dX4_road_50 rfl (lv_at hl 0 rfl) ?_
      refine va_get (D := gD g) (ci := 0) (v := .ref (a 0)) (C := RX4) (T := TX4) (N := 21) hx hb hts in_X4 hown hK hP 0 rfl rfl 0 (by decide) (hts _ q2314) (fun _ h9 => h9) rfl dX4_road_51 ?_
      refine lv_bipush (v := 12) hx hb dX4_road_54 (by decide) ?_
      refine lv_iload_n hx hb dX4_road_56 rfl (lv_at hl 1 rfl) ?_
      refine lv_iadd hx hb dX4_road_57 ?_
      refine h_topi (v := nI (12 + j)) (h_nadd (a := 12) (b := j) (rfl) (rfl)) ?_
      refine h_iald (f := (F 0)) hx hb hK hP 1 0 rfl rfl (12 + j) rfl (by omega) (by decide) dX4_road_58 ?_
      refine lv_istore_n (lv' := [(3, .int (F 0 (12 + j))), (0, .ref h0), (1, .int (nI j)), (2, .int p1)]) hx hb dX4_road_59 rfl hl (by decide) rfl (fun ls hl => ?_)
      refine lv_aload_n hx hb dX4_road_60 rfl (lv_at hl 1 rfl) ?_
      refine va_get (D := gD g) (ci := 0) (v := .ref (a 0)) (C := RX4) (T := TX4) (N := 21) hx hb hts in_X4 hown hK hP 0 rfl rfl 0 (by decide) (hts _ q2314) (fun _ h9 => h9) rfl dX4_road_61 ?_
      refine lv_bipush (v := 12) hx hb dX4_road_64 (by decide) ?_
      refine lv_iload_n hx hb dX4_road_66 rfl (lv_at hl 2 rfl) ?_
      refine lv_iadd hx hb dX4_road_67 ?_
      refine h_topi (v := nI (12 + j)) (h_nadd (a := 12) (b := j) (rfl) (rfl)) ?_
      refine lv_iload_n hx hb dX4_road_68 rfl (lv_at hl 3 rfl) ?_
      refine h_iast (f := (F 0)) hx hb hK hP hD hS 1 0 rfl rfl (12 + j) rfl (by omega) (by decide) dX4_road_69 (fun H locs hP hD hS => ?_)
      have hP : va_P (gD g) Cl (mW g h0 a (upd (upd I 5 0) 1 0) (va_up (va_up F 0 (upd (F 0) (12 + j) p1)) 1 (va_cpy (F 0) (F 1) 0 0 195))) H := hP
      have hD : va_D A (mW g h0 a (upd (upd I 5 0) 1 0) (va_up (va_up F 0 (upd (F 0) (12 + j) p1)) 1 (va_cpy (F 0) (F 1) 0 0 195))) := hD
      refine lv_aload_n hx hb dX4_road_70 rfl (lv_at hl 1 rfl) ?_
      refine lv_iload_n hx hb dX4_road_71 rfl (lv_at hl 0 rfl) ?_
      refine mcV (As := [.int (F 0 (12 + j))]) (rest := []) (wr := []) (mX4_ends0 l g E ho h0 a (upd (upd I 5 0) 1 0) (va_up (va_up F 0 (upd (F 0) (12 + j) p1)) 1 (va_cpy (F 0) (F 1) 0 0 195)) (F 0 (12 + j)) n rfl hn hn8) kX4_ends q2411 hx hb hml hown hts hRf hRl ho.1 hE hS hP hD hA [0, 1, 2, 3, 4, 5, 6, 7, 8] [] rfl (by decide) rfl (by decide) (by decide) ⟨Nat.zero_le _, Nat.zero_le _⟩ (va_recv hK hP (ci := 0) (q0 := 0) rfl rfl) hl ⟨rfl, rfl⟩ rfl rfl (Nat.le_of_ble_eq_true rfl) dX4_road_72 (fun _ H locs _ hP hD hS _ _ => ?_)
      have hP : va_P (gD g) Cl (mW g h0 a (upd (upd (upd I 5 0) 1 0) 0 (nI (chN n))) (va_up (va_up (va_up F 0 (upd (F 0) (12 + j) p1)) 1 (va_cpy (F 0) (F 1) 0 0 195)) 3 (chP (va_cpy (F 0) (F 1) 0 0 195) (F 3) n))) H := hP
      have hD : va_D A (mW g h0 a (upd (upd (upd I 5 0) 1 0) 0 (nI (chN n))) (va_up (va_up (va_up F 0 (upd (F 0) (12 + j) p1)) 1 (va_cpy (F 0) (F 1) 0 0 195)) 3 (chP (va_cpy (F 0) (F 1) 0 0 195) (F 3) n))) := hD
      have hop : opRoad (F 0) (nI j) p1 = (0, 0, (F 0 (12 + j)), (upd (F 0) (12 + j) p1)) := by simp only [htw, htwc, ht, htc, hh, hhc, hb6, hbc, hk5, hkc, opRoad, hjc, eq_true c_1, eq_true c_2, if_true, if_false, not_true_eq_false, not_false_eq_true, ite_true, ite_false, reduceIte, Nat.add_zero, Nat.add_sub_cancel]
      have hW1 : (mW g h0 a (upd (upd (upd I 5 0) 1 0) 0 (nI (chN n))) (va_up (va_up (va_up F 0 (upd (F 0) (12 + j) p1)) 1 (va_cpy (F 0) (F 1) 0 0 195)) 3 (chP (va_cpy (F 0) (F 1) 0 0 195) (F 3) n))) = mW g h0 a (pubI I n (opRoad (F 0) (nI j) p1)) (pubF F n (opRoad (F 0) (nI j) p1)) := by
        rw [hop]
        rfl
      rw [hW1] at hP hD
      exact hm_i hQ hx hb hr hlk rfl () (by rw [hop]) trivial hP hD hS (by decide) (by decide) dX4_road_75
    refine lv_iconst (v := 1) hx hb dX4_road_35 (by decide) ?_
    refine lv_goto (tgt := 40) hx hb dX4_road_36 (by decide) ?_
    refine lv_iconst (v := 3) hx hb dX4_road_40 (by decide) ?_
    refine lv_iload_n hx hb dX4_road_41 rfl (lv_at hl 2 rfl) ?_
    refine mcV (As := [.int 1, .int 3, .int p1]) (rest := []) (wr := []) (mX4_isRefused1 l g E ho h0 a (upd (upd I 5 0) 1 0) (va_up F 1 (va_cpy (F 0) (F 1) 0 0 195)) 3 p1) kX4_isRefused q2400 hx hb hml hown hts hRf hRl ho.1 hE hS hP hD hA [0, 1, 2, 3, 4, 5, 6, 7, 8] [] rfl (by decide) rfl (by decide) (by decide) ⟨Nat.zero_le _, Nat.zero_le _⟩ (va_recv hK hP (ci := 0) (q0 := 0) rfl rfl) hl ⟨rfl, rfl⟩ rfl rfl (Nat.le_of_ble_eq_true rfl) dX4_road_42 (fun _ H locs _ hP hD hS _ _ => ?_)
    have hP : va_P (gD g) Cl (mW g h0 a (refI (upd (upd I 5 0) 1 0) 3 p1) (va_up F 1 (va_cpy (F 0) (F 1) 0 0 195))) H := hP
    have hD : va_D A (mW g h0 a (refI (upd (upd I 5 0) 1 0) 3 p1) (va_up F 1 (va_cpy (F 0) (F 1) 0 0 195))) := hD
    refine lv_if_eq (tgt := 50) hx hb dX4_road_45 (by decide) (fun c => absurd c (by decide)) (fun _ => ?_)
    refine lv_iconst (v := 0) hx hb dX4_road_48 (by decide) ?_
    have hop : opRoad (F 0) p0 p1 = (3, p1, 0, F 0) := by simp only [htw, htwc, ht, htc, hh, hhc, hb6, hbc, hk5, hkc, opRoad, eq_true c_1, eq_false c_2, if_true, if_false, not_true_eq_false, not_false_eq_true, ite_true, ite_false, reduceIte, Nat.add_zero, Nat.add_sub_cancel]
    have hW1 : (mW g h0 a (refI (upd (upd I 5 0) 1 0) 3 p1) (va_up F 1 (va_cpy (F 0) (F 1) 0 0 195))) = mW g h0 a (pubI I n (opRoad (F 0) p0 p1)) (pubF F n (opRoad (F 0) p0 p1)) := by
      rw [hop]
      rfl
    rw [hW1] at hP hD
    exact hm_i hQ hx hb hr hlk rfl () (by rw [hop]) trivial hP hD hS (by decide) (by decide) dX4_road_49
  refine lv_iconst (v := 1) hx hb dX4_road_12 (by decide) ?_
  refine lv_goto (tgt := 17) hx hb dX4_road_13 (by decide) ?_
  refine lv_iconst (v := 2) hx hb dX4_road_17 (by decide) ?_
  refine lv_iload_n hx hb dX4_road_18 rfl (lv_at hl 1 rfl) ?_
  refine mcV (As := [.int 1, .int 2, .int p0]) (rest := []) (wr := []) (mX4_isRefused1 l g E ho h0 a (upd (upd I 5 0) 1 0) (va_up F 1 (va_cpy (F 0) (F 1) 0 0 195)) 2 p0) kX4_isRefused q2400 hx hb hml hown hts hRf hRl ho.1 hE hS hP hD hA [0, 1, 2, 3, 4, 5, 6, 7, 8] [] rfl (by decide) rfl (by decide) (by decide) ⟨Nat.zero_le _, Nat.zero_le _⟩ (va_recv hK hP (ci := 0) (q0 := 0) rfl rfl) hl ⟨rfl, rfl⟩ rfl rfl (Nat.le_of_ble_eq_true rfl) dX4_road_19 (fun _ H locs _ hP hD hS _ _ => ?_)
  have hP : va_P (gD g) Cl (mW g h0 a (refI (upd (upd I 5 0) 1 0) 2 p0) (va_up F 1 (va_cpy (F 0) (F 1) 0 0 195))) H := hP
  have hD : va_D A (mW g h0 a (refI (upd (upd I 5 0) 1 0) 2 p0) (va_up F 1 (va_cpy (F 0) (F 1) 0 0 195))) := hD
  refine lv_if_ne (tgt := 48) hx hb dX4_road_22 (by decide) (fun _ => ?_) (fun c => absurd c (by decide))
  refine lv_iconst (v := 0) hx hb dX4_road_48 (by decide) ?_
  have hop : opRoad (F 0) p0 p1 = (2, p0, 0, F 0) := by simp only [htw, htwc, ht, htc, hh, hhc, hb6, hbc, hk5, hkc, opRoad, eq_false c_1, if_true, if_false, not_true_eq_false, not_false_eq_true, ite_true, ite_false, reduceIte, Nat.add_zero, Nat.add_sub_cancel]
  have hW1 : (mW g h0 a (refI (upd (upd I 5 0) 1 0) 2 p0) (va_up F 1 (va_cpy (F 0) (F 1) 0 0 195))) = mW g h0 a (pubI I n (opRoad (F 0) p0 p1)) (pubF F n (opRoad (F 0) p0 p1)) := by
    rw [hop]
    rfl
  rw [hW1] at hP hD
  exact hm_i hQ hx hb hr hlk rfl () (by rw [hop]) trivial hP hD hS (by decide) (by decide) dX4_road_49
theorem kX4_sells : hkV RX4 yX4_sells cX4_sells 3 (some .int) 1 := ⟨q2560, qs46, q78, q2561, rfl, by decide +kernel⟩
set_option maxHeartbeats 4000000 in
theorem mX4_sells (l : Launch) (g : hG) (E : hEnv) (ho : mOk g E) (h0 : Nat) (a : Nat → Nat) (I : Nat → Int32) (F : Nat → Nat → Int32) (p0 : Int32) (nt : Nat) (nh : Nat) (nb : Nat) (nc : Nat) (tw : Nat) (hc : Cn (F 0) nt nh nb nc tw) : MM l yX4_sells cX4_sells 3 (some .int) 2 42 0 0 [.ref h0, .int p0] g E (mW g h0 a I F) (S := Unit) (fun _ => (some (.int ((opSell (F 0) p0).2.2.1)))) (fun _ => True) (fun _ => mW g h0 a (opI I (opSell (F 0) p0)) (va_up F 0 (opSell (F 0) p0).2.2.2)) := by
  refine MM.mk (by decide) (Nat.le_of_ble_eq_true rfl) ?_
  intro p e R s m args below meth c Q A H locs ls hX hRc hRs hP hD hE hS hA hnm hl hQ
  obtain ⟨hx, hb, hr, hlk, hml, hown, hts, hRf, hRl⟩ := hX
  have hown : s.vm.findClass RX4 = some m.cls := hown
  have hK := ho.2 _ _ _ hE
  have hl : lv_has ls 3 [(0, .ref h0), (1, .int p0)] := hl
  have hc0 := hc
  obtain ⟨htw, htw6, ht, ht10, hh, hh20, hb6, hb6l, hk5, hk5l⟩ := hc
  have htc : (nI nt).toNatClampNeg = nt := nI_clamp (by omega)
  have hhc : (nI nh).toNatClampNeg = nh := nI_clamp (by omega)
  have hbc : (nI nb).toNatClampNeg = nb := nI_clamp (by omega)
  have hkc : (nI nc).toNatClampNeg = nc := nI_clamp (by omega)
  have htwc : (nI tw).toNatClampNeg = tw := nI_clamp (by omega)
  refine lv_aload_n hx hb dX4_sells_0 rfl (lv_at hl 0 rfl) ?_
  refine lv_iload_n hx hb dX4_sells_1 rfl (lv_at hl 1 rfl) ?_
  refine rcS (As := [.int p0]) (rest := [.ref h0]) (st1 := [.int (if inR p0 1 9 then 1 else 0), .ref h0]) (mX4_isMesh l g E ho p0) kX4_isMesh q2472 hx hb hml hown hts hRf hRl ho.1 hE hS (hP.sub [] rfl) ⟨Nat.zero_le _, Nat.zero_le _⟩ hl ⟨rfl, rfl⟩ rfl rfl (Nat.le_of_ble_eq_true rfl) rfl dX4_sells_2 ?_
  refine h_ifne_b (tgt := 12) hx hb dX4_sells_5 (by decide) (fun c_1 => ?_) (fun c_1 => ?_)
  · refine lv_iconst (v := 0) hx hb dX4_sells_12 (by decide) ?_
    refine lv_iconst (v := 3) hx hb dX4_sells_13 (by decide) ?_
    refine lv_iload_n hx hb dX4_sells_14 rfl (lv_at hl 1 rfl) ?_
    refine rcV (As := [.int 0, .int 3, .int p0]) (rest := []) (st1 := [.int 0]) (mX4_isRefused0 l g E ho h0 a I F 3 p0) kX4_isRefused q2400 hx hb hml hown hts hRf hRl ho.1 hE hS hP (va_recv hK hP (ci := 0) (q0 := 0) rfl rfl) ⟨Nat.zero_le _, Nat.zero_le _⟩ hl ⟨rfl, rfl⟩ rfl rfl (Nat.le_of_ble_eq_true rfl) rfl dX4_sells_15 ?_
    refine lv_if_ne (tgt := 48) hx hb dX4_sells_18 (by decide) (fun c => absurd c (by decide)) (fun _ => ?_)
    have hrj := c_1
    obtain ⟨j, hj1, hj2, rfl⟩ := inR_lit (a := 1) (b := 9) hrj rfl rfl (by decide) (by decide)
    have hjc : (nI j).toNatClampNeg = j := nI_clamp (by omega)
    refine lv_aload_n hx hb dX4_sells_21 rfl (lv_at hl 0 rfl) ?_
    refine lv_aload_n hx hb dX4_sells_22 rfl (lv_at hl 0 rfl) ?_
    refine va_get (D := gD g) (ci := 0) (v := .ref (a 0)) (C := RX4) (T := TX4) (N := 21) hx hb hts in_X4 hown hK hP 0 rfl rfl 0 (by decide) (hts _ q2314) (fun _ h9 => h9) rfl dX4_sells_23 ?_
    refine lv_bipush (v := 18) hx hb dX4_sells_26 (by decide) ?_
    refine lv_iload_n hx hb dX4_sells_28 rfl (lv_at hl 1 rfl) ?_
    refine lv_iadd hx hb dX4_sells_29 ?_
    refine h_topi (v := nI (18 + j)) (h_nadd (a := 18) (b := j) (rfl) (rfl)) ?_
    refine h_iald (f := (F 0)) hx hb hK hP 1 0 rfl rfl (18 + j) rfl (by omega) (by decide) dX4_sells_30 ?_
    refine lv_if_ne (tgt := 38) hx hb dX4_sells_31 (by decide) (fun c_2 => ?_) (fun c_2 => ?_)
    · refine lv_iconst (v := 0) hx hb dX4_sells_38 (by decide) ?_
      refine lv_bipush (v := 9) hx hb dX4_sells_39 (by decide) ?_
      refine lv_iload_n hx hb dX4_sells_41 rfl (lv_at hl 1 rfl) ?_
      refine rcV (As := [.int 0, .int 9, .int (nI j)]) (rest := []) (st1 := [.int 0]) (mX4_isRefused0 l g E ho h0 a I F 9 (nI j)) kX4_isRefused q2400 hx hb hml hown hts hRf hRl ho.1 hE hS hP (va_recv hK hP (ci := 0) (q0 := 0) rfl rfl) ⟨Nat.zero_le _, Nat.zero_le _⟩ hl ⟨rfl, rfl⟩ rfl rfl (Nat.le_of_ble_eq_true rfl) rfl dX4_sells_42 ?_
      refine lv_if_eq (tgt := 50) hx hb dX4_sells_45 (by decide) (fun _ => ?_) (fun c => absurd c (by decide))
      refine lv_iconst (v := 3) hx hb dX4_sells_50 (by decide) ?_
      refine lv_iload_n hx hb dX4_sells_51 rfl (lv_at hl 1 rfl) ?_
      refine lv_iadd hx hb dX4_sells_52 ?_
      refine h_topi (v := nI (3 + j)) (h_nadd (a := 3) (b := j) (rfl) (rfl)) ?_
      refine lv_aload_n hx hb dX4_sells_53 rfl (lv_at hl 0 rfl) ?_
      refine rcV (As := []) (rest := [.int (nI (3 + j))]) (st1 := [.int (if fairP (F 0) then 1 else 0), .int (nI (3 + j))]) (mX4_isFair l g E ho h0 a I F) kX4_isFair q2562 hx hb hml hown hts hRf hRl ho.1 hE hS hP (va_recv hK hP (ci := 0) (q0 := 0) rfl rfl) ⟨Nat.zero_le _, Nat.zero_le _⟩ hl ⟨rfl, rfl⟩ rfl rfl (Nat.le_of_ble_eq_true rfl) rfl dX4_sells_54 ?_
      refine h_join (J := 65) (v := if fairP (F 0) then 2 else 1) (rest := [.int (nI (3 + j))]) ?_ ?_
      rotate_left
      · intro hJ
        refine h_ifeq_b (tgt := 64) hx hb dX4_sells_57 (by decide) (fun c_3 => ?_) (fun c_3 => ?_)
        · refine lv_iconst (v := 1) hx hb dX4_sells_64 (by decide) ?_
          exact h_topi (if_neg c_3).symm hJ
        refine lv_iconst (v := 2) hx hb dX4_sells_60 (by decide) ?_
        refine lv_goto (tgt := 65) hx hb dX4_sells_61 (by decide) ?_
        exact h_topi (if_pos c_3).symm hJ
      refine lv_imul hx hb dX4_sells_65 ?_
      refine lv_istore_n (lv' := [(2, .int ((nI (3 + j)) * (if fairP (F 0) then 2 else 1))), (0, .ref h0), (1, .int (nI j))]) hx hb dX4_sells_66 rfl hl (by decide) rfl (fun ls hl => ?_)
      refine lv_aload_n hx hb dX4_sells_67 rfl (lv_at hl 1 rfl) ?_
      refine va_get (D := gD g) (ci := 0) (v := .ref (a 0)) (C := RX4) (T := TX4) (N := 21) hx hb hts in_X4 hown hK hP 0 rfl rfl 0 (by decide) (hts _ q2314) (fun _ h9 => h9) rfl dX4_sells_68 ?_
      refine lv_bipush (v := 18) hx hb dX4_sells_71 (by decide) ?_
      refine lv_iload_n hx hb dX4_sells_73 rfl (lv_at hl 2 rfl) ?_
      refine lv_iadd hx hb dX4_sells_74 ?_
      refine h_topi (v := nI (18 + j)) (h_nadd (a := 18) (b := j) (rfl) (rfl)) ?_
      refine lv_dup2_11 hx hb dX4_sells_75 rfl rfl ?_
      refine h_iald (f := (F 0)) hx hb hK hP 1 0 rfl rfl (18 + j) rfl (by omega) (by decide) dX4_sells_76 ?_
      refine lv_iconst (v := 1) hx hb dX4_sells_77 (by decide) ?_
      refine lv_isub hx hb dX4_sells_78 ?_
      refine h_iast (f := (F 0)) hx hb hK hP hD hS 1 0 rfl rfl (18 + j) rfl (by omega) (by decide) dX4_sells_79 (fun H locs hP hD hS => ?_)
      have hP : va_P (gD g) Cl (mW g h0 a I (va_up F 0 (upd (F 0) (18 + j) ((F 0 (18 + j)) - 1)))) H := hP
      have hD : va_D A (mW g h0 a I (va_up F 0 (upd (F 0) (18 + j) ((F 0 (18 + j)) - 1)))) := hD
      refine lv_aload_n hx hb dX4_sells_80 rfl (lv_at hl 1 rfl) ?_
      refine va_get (D := gD g) (ci := 0) (v := .ref (a 0)) (C := RX4) (T := TX4) (N := 21) hx hb hts in_X4 hown hK hP 0 rfl rfl 0 (by decide) (hts _ q2314) (fun _ h9 => h9) rfl dX4_sells_81 ?_
      refine lv_bipush (v := 7) hx hb dX4_sells_84 (by decide) ?_
      refine lv_dup2_11 hx hb dX4_sells_86 rfl rfl ?_
      refine h_iald (f := (upd (F 0) (18 + j) ((F 0 (18 + j)) - 1))) hx hb hK hP 1 0 rfl rfl 7 rfl (by decide) (by decide) dX4_sells_87 ?_
      refine h_topi (v := F 0 7) (by rw [pk_un (by omega)]) ?_
      refine lv_iconst (v := 1) hx hb dX4_sells_88 (by decide) ?_
      refine lv_iadd hx hb dX4_sells_89 ?_
      refine h_iast (f := (upd (F 0) (18 + j) ((F 0 (18 + j)) - 1))) hx hb hK hP hD hS 1 0 rfl rfl 7 rfl (by decide) (by decide) dX4_sells_90 (fun H locs hP hD hS => ?_)
      have hP : va_P (gD g) Cl (mW g h0 a I (va_up F 0 (upd (upd (F 0) (18 + j) ((F 0 (18 + j)) - 1)) 7 ((F 0 7) + 1)))) H := hP
      have hD : va_D A (mW g h0 a I (va_up F 0 (upd (upd (F 0) (18 + j) ((F 0 (18 + j)) - 1)) 7 ((F 0 7) + 1)))) := hD
      refine lv_aload_n hx hb dX4_sells_91 rfl (lv_at hl 1 rfl) ?_
      refine va_get (D := gD g) (ci := 0) (v := .ref (a 0)) (C := RX4) (T := TX4) (N := 21) hx hb hts in_X4 hown hK hP 0 rfl rfl 0 (by decide) (hts _ q2314) (fun _ h9 => h9) rfl dX4_sells_92 ?_
      refine lv_iconst (v := 0) hx hb dX4_sells_95 (by decide) ?_
      refine lv_dup2_11 hx hb dX4_sells_96 rfl rfl ?_
      refine h_iald (f := (upd (upd (F 0) (18 + j) ((F 0 (18 + j)) - 1)) 7 ((F 0 7) + 1))) hx hb hK hP 1 0 rfl rfl 0 rfl (by decide) (by decide) dX4_sells_97 ?_
      refine h_topi (v := F 0 0) (by rw [pk_un (by decide), pk_un (by omega)]) ?_
      refine lv_iload_n hx hb dX4_sells_98 rfl (lv_at hl 0 rfl) ?_
      refine lv_iadd hx hb dX4_sells_99 ?_
      refine h_iast (f := (upd (upd (F 0) (18 + j) ((F 0 (18 + j)) - 1)) 7 ((F 0 7) + 1))) hx hb hK hP hD hS 1 0 rfl rfl 0 rfl (by decide) (by decide) dX4_sells_100 (fun H locs hP hD hS => ?_)
      have hP : va_P (gD g) Cl (mW g h0 a I (va_up F 0 (upd (upd (upd (F 0) (18 + j) ((F 0 (18 + j)) - 1)) 7 ((F 0 7) + 1)) 0 ((F 0 0) + ((nI (3 + j)) * (if fairP (F 0) then 2 else 1)))))) H := hP
      have hD : va_D A (mW g h0 a I (va_up F 0 (upd (upd (upd (F 0) (18 + j) ((F 0 (18 + j)) - 1)) 7 ((F 0 7) + 1)) 0 ((F 0 0) + ((nI (3 + j)) * (if fairP (F 0) then 2 else 1)))))) := hD
      refine lv_iload_n hx hb dX4_sells_101 rfl (lv_at hl 0 rfl) ?_
      have hop : opSell (F 0) (nI j) = (0, 0, (nI (3 + j)) * (if fairP (F 0) then 2 else 1), (upd (upd (upd (F 0) (18 + j) ((F 0 (18 + j)) - 1)) 7 ((F 0 7) + 1)) 0 ((F 0 0) + ((nI (3 + j)) * (if fairP (F 0) then 2 else 1))))) := by simp only [htw, htwc, ht, htc, hh, hhc, hb6, hbc, hk5, hkc, opSell, opSellN, hjc, eq_true c_1, eq_false c_2, if_true, if_false, not_true_eq_false, not_false_eq_true, ite_true, ite_false, reduceIte, Nat.add_zero, Nat.add_sub_cancel]
      have hW1 : (mW g h0 a I (va_up F 0 (upd (upd (upd (F 0) (18 + j) ((F 0 (18 + j)) - 1)) 7 ((F 0 7) + 1)) 0 ((F 0 0) + ((nI (3 + j)) * (if fairP (F 0) then 2 else 1)))))) = mW g h0 a (opI I (opSell (F 0) (nI j))) (va_up F 0 (opSell (F 0) (nI j)).2.2.2) := by
        rw [hop]
        first | rfl | (simp only [opI, hup_id]; rfl)
      rw [hW1] at hP hD
      exact hm_i hQ hx hb hr hlk rfl () (by rw [hop]) trivial hP hD hS (by decide) (by decide) dX4_sells_102
    refine lv_iconst (v := 1) hx hb dX4_sells_34 (by decide) ?_
    refine lv_goto (tgt := 39) hx hb dX4_sells_35 (by decide) ?_
    refine lv_bipush (v := 9) hx hb dX4_sells_39 (by decide) ?_
    refine lv_iload_n hx hb dX4_sells_41 rfl (lv_at hl 1 rfl) ?_
    refine mcV (As := [.int 1, .int 9, .int (nI j)]) (rest := []) (wr := []) (mX4_isRefused1 l g E ho h0 a I F 9 (nI j)) kX4_isRefused q2400 hx hb hml hown hts hRf hRl ho.1 hE hS hP hD hA [0, 1, 2, 3, 4, 5, 6, 7, 8] [] rfl (by decide) rfl (by decide) (by decide) ⟨Nat.zero_le _, Nat.zero_le _⟩ (va_recv hK hP (ci := 0) (q0 := 0) rfl rfl) hl ⟨rfl, rfl⟩ rfl rfl (Nat.le_of_ble_eq_true rfl) dX4_sells_42 (fun _ H locs _ hP hD hS _ _ => ?_)
    have hP : va_P (gD g) Cl (mW g h0 a (refI I 9 (nI j)) F) H := hP
    have hD : va_D A (mW g h0 a (refI I 9 (nI j)) F) := hD
    refine lv_if_eq (tgt := 50) hx hb dX4_sells_45 (by decide) (fun c => absurd c (by decide)) (fun _ => ?_)
    refine lv_iconst (v := 0) hx hb dX4_sells_48 (by decide) ?_
    have hop : opSell (F 0) (nI j) = (9, (nI j), 0, F 0) := by simp only [htw, htwc, ht, htc, hh, hhc, hb6, hbc, hk5, hkc, opSell, opSellN, hjc, eq_true c_1, eq_true c_2, if_true, if_false, not_true_eq_false, not_false_eq_true, ite_true, ite_false, reduceIte, Nat.add_zero, Nat.add_sub_cancel]
    have hW1 : (mW g h0 a (refI I 9 (nI j)) F) = mW g h0 a (opI I (opSell (F 0) (nI j))) (va_up F 0 (opSell (F 0) (nI j)).2.2.2) := by
      rw [hop]
      first | rfl | (simp only [opI, hup_id]; rfl)
    rw [hW1] at hP hD
    exact hm_i hQ hx hb hr hlk rfl () (by rw [hop]) trivial hP hD hS (by decide) (by decide) dX4_sells_49
  refine lv_iconst (v := 1) hx hb dX4_sells_8 (by decide) ?_
  refine lv_goto (tgt := 13) hx hb dX4_sells_9 (by decide) ?_
  refine lv_iconst (v := 3) hx hb dX4_sells_13 (by decide) ?_
  refine lv_iload_n hx hb dX4_sells_14 rfl (lv_at hl 1 rfl) ?_
  refine mcV (As := [.int 1, .int 3, .int p0]) (rest := []) (wr := []) (mX4_isRefused1 l g E ho h0 a I F 3 p0) kX4_isRefused q2400 hx hb hml hown hts hRf hRl ho.1 hE hS hP hD hA [0, 1, 2, 3, 4, 5, 6, 7, 8] [] rfl (by decide) rfl (by decide) (by decide) ⟨Nat.zero_le _, Nat.zero_le _⟩ (va_recv hK hP (ci := 0) (q0 := 0) rfl rfl) hl ⟨rfl, rfl⟩ rfl rfl (Nat.le_of_ble_eq_true rfl) dX4_sells_15 (fun _ H locs _ hP hD hS _ _ => ?_)
  have hP : va_P (gD g) Cl (mW g h0 a (refI I 3 p0) F) H := hP
  have hD : va_D A (mW g h0 a (refI I 3 p0) F) := hD
  refine lv_if_ne (tgt := 48) hx hb dX4_sells_18 (by decide) (fun _ => ?_) (fun c => absurd c (by decide))
  refine lv_iconst (v := 0) hx hb dX4_sells_48 (by decide) ?_
  have hop : opSell (F 0) p0 = (3, p0, 0, F 0) := by simp only [htw, htwc, ht, htc, hh, hhc, hb6, hbc, hk5, hkc, opSell, opSellN, eq_false c_1, if_true, if_false, not_true_eq_false, not_false_eq_true, ite_true, ite_false, reduceIte, Nat.add_zero, Nat.add_sub_cancel]
  have hW1 : (mW g h0 a (refI I 3 p0) F) = mW g h0 a (opI I (opSell (F 0) p0)) (va_up F 0 (opSell (F 0) p0).2.2.2) := by
    rw [hop]
    first | rfl | (simp only [opI, hup_id]; rfl)
  rw [hW1] at hP hD
  exact hm_i hQ hx hb hr hlk rfl () (by rw [hop]) trivial hP hD hS (by decide) (by decide) dX4_sells_49
theorem kX4_sell : hkV RX4 yX4_sell cX4_sell 2 (some .int) 1 := ⟨q2555, q2556, q78, q2557, rfl, by decide +kernel⟩
set_option maxHeartbeats 4000000 in
theorem mX4_sell (l : Launch) (g : hG) (E : hEnv) (ho : mOk g E) (h0 : Nat) (a : Nat → Nat) (I : Nat → Int32) (F : Nat → Nat → Int32) (p0 : Int32) (nt : Nat) (nh : Nat) (nb : Nat) (nc : Nat) (tw : Nat) (n : Nat) (hc : Cn (F 0) nt nh nb nc tw) (hn : I 0 = nI n) (hn8 : n ≤ 8) : MM l yX4_sell cX4_sell 2 (some .int) 3 66 0 0 [.ref h0, .int p0] g E (mW g h0 a I F) (S := Unit) (fun _ => (some (.int ((opSell (F 0) p0).2.2.1)))) (fun _ => True) (fun _ => mW g h0 a (pubI I n (opSell (F 0) p0)) (pubF F n (opSell (F 0) p0))) := by
  refine MM.mk (by decide) (Nat.le_of_ble_eq_true rfl) ?_
  intro p e R s m args below meth c Q A H locs ls hX hRc hRs hP hD hE hS hA hnm hl hQ
  obtain ⟨hx, hb, hr, hlk, hml, hown, hts, hRf, hRl⟩ := hX
  have hown : s.vm.findClass RX4 = some m.cls := hown
  have hK := ho.2 _ _ _ hE
  have hl : lv_has ls 2 [(0, .ref h0), (1, .int p0)] := hl
  have hc0 := hc
  obtain ⟨htw, htw6, ht, ht10, hh, hh20, hb6, hb6l, hk5, hk5l⟩ := hc
  have htc : (nI nt).toNatClampNeg = nt := nI_clamp (by omega)
  have hhc : (nI nh).toNatClampNeg = nh := nI_clamp (by omega)
  have hbc : (nI nb).toNatClampNeg = nb := nI_clamp (by omega)
  have hkc : (nI nc).toNatClampNeg = nc := nI_clamp (by omega)
  have htwc : (nI tw).toNatClampNeg = tw := nI_clamp (by omega)
  refine lv_aload_n hx hb dX4_sell_0 rfl (lv_at hl 0 rfl) ?_
  refine mcV (As := []) (rest := []) (wr := []) (mX4_begins l g E ho h0 a I F) kX4_begins q2386 hx hb hml hown hts hRf hRl ho.1 hE hS hP hD hA [0, 1, 2, 3, 4, 5, 6, 7, 8] [] rfl (by decide) rfl (by decide) (by decide) ⟨Nat.zero_le _, Nat.zero_le _⟩ (va_recv hK hP (ci := 0) (q0 := 0) rfl rfl) hl ⟨rfl, rfl⟩ rfl rfl (Nat.le_of_ble_eq_true rfl) dX4_sell_1 (fun _ H locs _ hP hD hS _ _ => ?_)
  have hP : va_P (gD g) Cl (mW g h0 a (upd (upd I 5 0) 1 0) (va_up F 1 (va_cpy (F 0) (F 1) 0 0 195))) H := hP
  have hD : va_D A (mW g h0 a (upd (upd I 5 0) 1 0) (va_up F 1 (va_cpy (F 0) (F 1) 0 0 195))) := hD
  refine lv_aload_n hx hb dX4_sell_4 rfl (lv_at hl 0 rfl) ?_
  refine lv_aload_n hx hb dX4_sell_5 rfl (lv_at hl 0 rfl) ?_
  refine lv_iload_n hx hb dX4_sell_6 rfl (lv_at hl 1 rfl) ?_
  refine mcV (As := [.int p0]) (rest := [.ref h0]) (wr := []) (mX4_sells l g E ho h0 a (upd (upd I 5 0) 1 0) (va_up F 1 (va_cpy (F 0) (F 1) 0 0 195)) p0 nt nh nb nc tw hc0) kX4_sells q2558 hx hb hml hown hts hRf hRl ho.1 hE hS hP hD hA [0, 1, 2, 3, 4, 5, 6, 7, 8] [] rfl (by decide) rfl (by decide) (by decide) ⟨Nat.zero_le _, Nat.zero_le _⟩ (va_recv hK hP (ci := 0) (q0 := 0) rfl rfl) hl ⟨rfl, rfl⟩ rfl rfl (Nat.le_of_ble_eq_true rfl) dX4_sell_7 (fun _ H locs _ hP hD hS _ _ => ?_)
  have hP : va_P (gD g) Cl (mW g h0 a (opI (upd (upd I 5 0) 1 0) (opSell (F 0) p0)) (va_up (va_up F 0 ((opSell (F 0) p0).2.2.2)) 1 (va_cpy (F 0) (F 1) 0 0 195))) H := hP
  have hD : va_D A (mW g h0 a (opI (upd (upd I 5 0) 1 0) (opSell (F 0) p0)) (va_up (va_up F 0 ((opSell (F 0) p0).2.2.2)) 1 (va_cpy (F 0) (F 1) 0 0 195))) := hD
  by_cases hz : (opSell (F 0) p0).1 = 0
  · have hI : opI (upd (upd I 5 0) 1 0) (opSell (F 0) p0) = (upd (upd I 5 0) 1 0) := if_pos hz
    rw [hI] at hP hD
    refine mcV (As := [.int ((opSell (F 0) p0).2.2.1)]) (rest := []) (wr := []) (mX4_ends0 l g E ho h0 a (upd (upd I 5 0) 1 0) (va_up (va_up F 0 ((opSell (F 0) p0).2.2.2)) 1 (va_cpy (F 0) (F 1) 0 0 195)) ((opSell (F 0) p0).2.2.1) n rfl hn hn8) kX4_ends q2411 hx hb hml hown hts hRf hRl ho.1 hE hS hP hD hA [0, 1, 2, 3, 4, 5, 6, 7, 8] [] rfl (by decide) rfl (by decide) (by decide) ⟨Nat.zero_le _, Nat.zero_le _⟩ (va_recv hK hP (ci := 0) (q0 := 0) rfl rfl) hl ⟨rfl, rfl⟩ rfl rfl (Nat.le_of_ble_eq_true rfl) dX4_sell_10 (fun _ H locs _ hP hD hS _ _ => ?_)
    have hP : va_P (gD g) Cl (mW g h0 a (upd (upd (upd I 5 0) 1 0) 0 (nI (chN n))) (va_up (va_up (va_up F 0 ((opSell (F 0) p0).2.2.2)) 1 (va_cpy (F 0) (F 1) 0 0 195)) 3 (chP (va_cpy (F 0) (F 1) 0 0 195) (F 3) n))) H := hP
    have hD : va_D A (mW g h0 a (upd (upd (upd I 5 0) 1 0) 0 (nI (chN n))) (va_up (va_up (va_up F 0 ((opSell (F 0) p0).2.2.2)) 1 (va_cpy (F 0) (F 1) 0 0 195)) 3 (chP (va_cpy (F 0) (F 1) 0 0 195) (F 3) n))) := hD
    have hW1 : (mW g h0 a (upd (upd (upd I 5 0) 1 0) 0 (nI (chN n))) (va_up (va_up (va_up F 0 ((opSell (F 0) p0).2.2.2)) 1 (va_cpy (F 0) (F 1) 0 0 195)) 3 (chP (va_cpy (F 0) (F 1) 0 0 195) (F 3) n))) = mW g h0 a (pubI I n (opSell (F 0) p0)) (pubF F n (opSell (F 0) p0)) := by
      rw [show pubI I n (opSell (F 0) p0) = chI (upd (upd I 5 0) 1 0) n from if_pos hz, show pubF F n (opSell (F 0) p0) = chF (va_up (kpF F) 0 (opSell (F 0) p0).2.2.2) n from if_pos hz]
      rfl
    rw [hW1] at hP hD
    exact hm_i hQ hx hb hr hlk rfl () rfl trivial hP hD hS (by decide) (by decide) dX4_sell_13
  obtain ⟨hv0, hs0⟩ := opSell_ref (F 0) p0 hz
  have hI : opI (upd (upd I 5 0) 1 0) (opSell (F 0) p0) = (refI (upd (upd I 5 0) 1 0) (opSell (F 0) p0).1 (opSell (F 0) p0).2.1) := if_neg hz
  rw [hI] at hP hD
  refine rcV (As := [.int ((opSell (F 0) p0).2.2.1)]) (rest := []) (st1 := [.int 0]) (mX4_ends1 l g E ho h0 a (refI (upd (upd I 5 0) 1 0) (opSell (F 0) p0).1 (opSell (F 0) p0).2.1) (va_up (va_up F 0 ((opSell (F 0) p0).2.2.2)) 1 (va_cpy (F 0) (F 1) 0 0 195)) ((opSell (F 0) p0).2.2.1) (by show ¬ (1 : Int32) = 0; decide)) kX4_ends q2411 hx hb hml hown hts hRf hRl ho.1 hE hS hP (va_recv hK hP (ci := 0) (q0 := 0) rfl rfl) ⟨Nat.zero_le _, Nat.zero_le _⟩ hl ⟨rfl, rfl⟩ rfl rfl (Nat.le_of_ble_eq_true rfl) rfl dX4_sell_10 ?_
  have hW1 : (mW g h0 a (refI (upd (upd I 5 0) 1 0) (opSell (F 0) p0).1 (opSell (F 0) p0).2.1) (va_up (va_up F 0 ((opSell (F 0) p0).2.2.2)) 1 (va_cpy (F 0) (F 1) 0 0 195))) = mW g h0 a (pubI I n (opSell (F 0) p0)) (pubF F n (opSell (F 0) p0)) := by
    rw [show pubI I n (opSell (F 0) p0) = refI (upd (upd I 5 0) 1 0) (opSell (F 0) p0).1 (opSell (F 0) p0).2.1 from if_neg hz, show pubF F n (opSell (F 0) p0) = kpF F from if_neg hz, hs0]
    rfl
  rw [hW1] at hP hD
  exact hm_i hQ hx hb hr hlk rfl () (by rw [hv0]) trivial hP hD hS (by decide) (by decide) dX4_sell_13
theorem kX4_paid : hkV RX4 yX4_paid cX4_paid 3 (some .int) 1 := ⟨q2567, q2568, q78, q2569, rfl, by decide +kernel⟩
set_option maxHeartbeats 4000000 in
theorem mX4_paid (l : Launch) (g : hG) (E : hEnv) (ho : mOk g E) (h0 : Nat) (a : Nat → Nat) (I : Nat → Int32) (F : Nat → Nat → Int32) (p0 : Int32) (nt : Nat) (nh : Nat) (nb : Nat) (nc : Nat) (tw : Nat) (n : Nat) (hc : Cn (F 0) nt nh nb nc tw) (hn : I 0 = nI n) (hn8 : n ≤ 8) : MM l yX4_paid cX4_paid 3 (some .int) 3 66 0 0 [.ref h0, .int p0] g E (mW g h0 a I F) (S := Unit) (fun _ => (some (.int ((opPaid (F 0) p0).2.2.1)))) (fun _ => True) (fun _ => mW g h0 a (pubI I n (opPaid (F 0) p0)) (pubF F n (opPaid (F 0) p0))) := by
  refine MM.mk (by decide) (Nat.le_of_ble_eq_true rfl) ?_
  intro p e R s m args below meth c Q A H locs ls hX hRc hRs hP hD hE hS hA hnm hl hQ
  obtain ⟨hx, hb, hr, hlk, hml, hown, hts, hRf, hRl⟩ := hX
  have hown : s.vm.findClass RX4 = some m.cls := hown
  have hK := ho.2 _ _ _ hE
  have hl : lv_has ls 3 [(0, .ref h0), (1, .int p0)] := hl
  have hc0 := hc
  obtain ⟨htw, htw6, ht, ht10, hh, hh20, hb6, hb6l, hk5, hk5l⟩ := hc
  have htc : (nI nt).toNatClampNeg = nt := nI_clamp (by omega)
  have hhc : (nI nh).toNatClampNeg = nh := nI_clamp (by omega)
  have hbc : (nI nb).toNatClampNeg = nb := nI_clamp (by omega)
  have hkc : (nI nc).toNatClampNeg = nc := nI_clamp (by omega)
  have htwc : (nI tw).toNatClampNeg = tw := nI_clamp (by omega)
  refine lv_aload_n hx hb dX4_paid_0 rfl (lv_at hl 0 rfl) ?_
  refine mcV (As := []) (rest := []) (wr := []) (mX4_begins l g E ho h0 a I F) kX4_begins q2386 hx hb hml hown hts hRf hRl ho.1 hE hS hP hD hA [0, 1, 2, 3, 4, 5, 6, 7, 8] [] rfl (by decide) rfl (by decide) (by decide) ⟨Nat.zero_le _, Nat.zero_le _⟩ (va_recv hK hP (ci := 0) (q0 := 0) rfl rfl) hl ⟨rfl, rfl⟩ rfl rfl (Nat.le_of_ble_eq_true rfl) dX4_paid_1 (fun _ H locs _ hP hD hS _ _ => ?_)
  have hP : va_P (gD g) Cl (mW g h0 a (upd (upd I 5 0) 1 0) (va_up F 1 (va_cpy (F 0) (F 1) 0 0 195))) H := hP
  have hD : va_D A (mW g h0 a (upd (upd I 5 0) 1 0) (va_up F 1 (va_cpy (F 0) (F 1) 0 0 195))) := hD
  refine lv_aload_n hx hb dX4_paid_4 rfl (lv_at hl 0 rfl) ?_
  refine lv_aload_n hx hb dX4_paid_5 rfl (lv_at hl 0 rfl) ?_
  refine lv_iload_n hx hb dX4_paid_6 rfl (lv_at hl 1 rfl) ?_
  refine rcV (As := [.int p0]) (rest := [.ref h0]) (st1 := [.int (if inR p0 0 (F 0 5 - 1) then 1 else 0), .ref h0]) (mX4_isBow l g E ho h0 a (upd (upd I 5 0) 1 0) (va_up F 1 (va_cpy (F 0) (F 1) 0 0 195)) p0) kX4_isBow q2494 hx hb hml hown hts hRf hRl ho.1 hE hS hP (va_recv hK hP (ci := 0) (q0 := 0) rfl rfl) ⟨Nat.zero_le _, Nat.zero_le _⟩ hl ⟨rfl, rfl⟩ rfl rfl (Nat.le_of_ble_eq_true rfl) rfl dX4_paid_7 ?_
  refine h_ifne_b (tgt := 17) hx hb dX4_paid_10 (by decide) (fun c_1 => ?_) (fun c_1 => ?_)
  · rw [hb6] at c_1
    refine lv_iconst (v := 0) hx hb dX4_paid_17 (by decide) ?_
    refine lv_iconst (v := 2) hx hb dX4_paid_18 (by decide) ?_
    refine lv_iload_n hx hb dX4_paid_19 rfl (lv_at hl 1 rfl) ?_
    refine rcV (As := [.int 0, .int 2, .int p0]) (rest := []) (st1 := [.int 0]) (mX4_isRefused0 l g E ho h0 a (upd (upd I 5 0) 1 0) (va_up F 1 (va_cpy (F 0) (F 1) 0 0 195)) 2 p0) kX4_isRefused q2400 hx hb hml hown hts hRf hRl ho.1 hE hS hP (va_recv hK hP (ci := 0) (q0 := 0) rfl rfl) ⟨Nat.zero_le _, Nat.zero_le _⟩ hl ⟨rfl, rfl⟩ rfl rfl (Nat.le_of_ble_eq_true rfl) rfl dX4_paid_20 ?_
    refine lv_if_ne (tgt := 92) hx hb dX4_paid_23 (by decide) (fun c => absurd c (by decide)) (fun _ => ?_)
    have hrj := c_1
    obtain ⟨j, hj, rfl⟩ := inR_ix hrj rfl (by omega)
    have hjc : (nI j).toNatClampNeg = j := nI_clamp (by omega)
    refine lv_aload_n hx hb dX4_paid_26 rfl (lv_at hl 0 rfl) ?_
    refine lv_aload_n hx hb dX4_paid_27 rfl (lv_at hl 0 rfl) ?_
    refine lv_iload_n hx hb dX4_paid_28 rfl (lv_at hl 1 rfl) ?_
    refine lv_iconst (v := 4) hx hb dX4_paid_29 (by decide) ?_
    refine rcV (As := [.int (nI j), .int 4]) (rest := [.ref h0]) (st1 := [.int (F 0 (153 + 7 * j + 4)), .ref h0]) (mX4_ofBow l g E ho h0 a (upd (upd I 5 0) 1 0) (va_up F 1 (va_cpy (F 0) (F 1) 0 0 195)) j 4 (by omega)) kX4_ofBow q2498 hx hb hml hown hts hRf hRl ho.1 hE hS hP (va_recv hK hP (ci := 0) (q0 := 0) rfl rfl) ⟨Nat.zero_le _, Nat.zero_le _⟩ hl ⟨rfl, rfl⟩ rfl rfl (Nat.le_of_ble_eq_true rfl) rfl dX4_paid_30 ?_
    refine lv_iconst (v := 1) hx hb dX4_paid_33 (by decide) ?_
    refine lv_icmp_ne (tgt := 41) hx hb dX4_paid_34 (by decide) (fun c_2 => ?_) (fun c_2 => ?_)
    · refine lv_iconst (v := 0) hx hb dX4_paid_41 (by decide) ?_
      refine lv_bipush (v := 13) hx hb dX4_paid_42 (by decide) ?_
      refine lv_iload_n hx hb dX4_paid_44 rfl (lv_at hl 1 rfl) ?_
      refine rcV (As := [.int 0, .int 13, .int (nI j)]) (rest := []) (st1 := [.int 0]) (mX4_isRefused0 l g E ho h0 a (upd (upd I 5 0) 1 0) (va_up F 1 (va_cpy (F 0) (F 1) 0 0 195)) 13 (nI j)) kX4_isRefused q2400 hx hb hml hown hts hRf hRl ho.1 hE hS hP (va_recv hK hP (ci := 0) (q0 := 0) rfl rfl) ⟨Nat.zero_le _, Nat.zero_le _⟩ hl ⟨rfl, rfl⟩ rfl rfl (Nat.le_of_ble_eq_true rfl) rfl dX4_paid_45 ?_
      refine lv_if_ne (tgt := 92) hx hb dX4_paid_48 (by decide) (fun c => absurd c (by decide)) (fun _ => ?_)
      refine lv_aload_n hx hb dX4_paid_51 rfl (lv_at hl 0 rfl) ?_
      refine lv_aload_n hx hb dX4_paid_52 rfl (lv_at hl 0 rfl) ?_
      refine lv_iload_n hx hb dX4_paid_53 rfl (lv_at hl 1 rfl) ?_
      refine lv_iconst (v := 2) hx hb dX4_paid_54 (by decide) ?_
      refine rcV (As := [.int (nI j), .int 2]) (rest := [.ref h0]) (st1 := [.int (F 0 (153 + 7 * j + 2)), .ref h0]) (mX4_ofBow l g E ho h0 a (upd (upd I 5 0) 1 0) (va_up F 1 (va_cpy (F 0) (F 1) 0 0 195)) j 2 (by omega)) kX4_ofBow q2498 hx hb hml hown hts hRf hRl ho.1 hE hS hP (va_recv hK hP (ci := 0) (q0 := 0) rfl rfl) ⟨Nat.zero_le _, Nat.zero_le _⟩ hl ⟨rfl, rfl⟩ rfl rfl (Nat.le_of_ble_eq_true rfl) rfl dX4_paid_55 ?_
      refine lv_aload_n hx hb dX4_paid_58 rfl (lv_at hl 0 rfl) ?_
      refine lv_iload_n hx hb dX4_paid_59 rfl (lv_at hl 1 rfl) ?_
      refine lv_iconst (v := 0) hx hb dX4_paid_60 (by decide) ?_
      refine rcV (As := [.int (nI j), .int 0]) (rest := [.int (F 0 (153 + 7 * j + 2)), .ref h0]) (st1 := [.int (F 0 (153 + 7 * j)), .int (F 0 (153 + 7 * j + 2)), .ref h0]) (mX4_ofBow l g E ho h0 a (upd (upd I 5 0) 1 0) (va_up F 1 (va_cpy (F 0) (F 1) 0 0 195)) j 0 (by omega)) kX4_ofBow q2498 hx hb hml hown hts hRf hRl ho.1 hE hS hP (va_recv hK hP (ci := 0) (q0 := 0) rfl rfl) ⟨Nat.zero_le _, Nat.zero_le _⟩ hl ⟨rfl, rfl⟩ rfl rfl (Nat.le_of_ble_eq_true rfl) rfl dX4_paid_61 ?_
      refine rcS (As := [.int (F 0 (153 + 7 * j))]) (rest := [.int (F 0 (153 + 7 * j + 2)), .ref h0]) (st1 := [.int (needsK (F 0 (153 + 7 * j))), .int (F 0 (153 + 7 * j + 2)), .ref h0]) (mX4_needs l g E ho (F 0 (153 + 7 * j))) kX4_needs q2505 hx hb hml hown hts hRf hRl ho.1 hE hS (hP.sub [] rfl) ⟨Nat.zero_le _, Nat.zero_le _⟩ hl ⟨rfl, rfl⟩ rfl rfl (Nat.le_of_ble_eq_true rfl) rfl dX4_paid_64 ?_
      refine lv_bipush (v := 20) hx hb dX4_paid_67 (by decide) ?_
      refine lv_isub hx hb dX4_paid_69 ?_
      refine lv_icmp_ge (tgt := 77) hx hb dX4_paid_70 (by decide) (fun c_3 => ?_) (fun c_3 => ?_)
      · refine lv_iconst (v := 0) hx hb dX4_paid_77 (by decide) ?_
        refine lv_bipush (v := 10) hx hb dX4_paid_78 (by decide) ?_
        refine lv_aload_n hx hb dX4_paid_80 rfl (lv_at hl 0 rfl) ?_
        refine lv_iload_n hx hb dX4_paid_81 rfl (lv_at hl 1 rfl) ?_
        refine lv_iconst (v := 2) hx hb dX4_paid_82 (by decide) ?_
        refine rcV (As := [.int (nI j), .int 2]) (rest := [.int 10, .int 0, .ref h0]) (st1 := [.int (F 0 (153 + 7 * j + 2)), .int 10, .int 0, .ref h0]) (mX4_ofBow l g E ho h0 a (upd (upd I 5 0) 1 0) (va_up F 1 (va_cpy (F 0) (F 1) 0 0 195)) j 2 (by omega)) kX4_ofBow q2498 hx hb hml hown hts hRf hRl ho.1 hE hS hP (va_recv hK hP (ci := 0) (q0 := 0) rfl rfl) ⟨Nat.zero_le _, Nat.zero_le _⟩ hl ⟨rfl, rfl⟩ rfl rfl (Nat.le_of_ble_eq_true rfl) rfl dX4_paid_83 ?_
        refine rcV (As := [.int 0, .int 10, .int (F 0 (153 + 7 * j + 2))]) (rest := []) (st1 := [.int 0]) (mX4_isRefused0 l g E ho h0 a (upd (upd I 5 0) 1 0) (va_up F 1 (va_cpy (F 0) (F 1) 0 0 195)) 10 (F 0 (153 + 7 * j + 2))) kX4_isRefused q2400 hx hb hml hown hts hRf hRl ho.1 hE hS hP (va_recv hK hP (ci := 0) (q0 := 0) rfl rfl) ⟨Nat.zero_le _, Nat.zero_le _⟩ hl ⟨rfl, rfl⟩ rfl rfl (Nat.le_of_ble_eq_true rfl) rfl dX4_paid_86 ?_
        refine lv_if_eq (tgt := 94) hx hb dX4_paid_89 (by decide) (fun _ => ?_) (fun c => absurd c (by decide))
        refine lv_iconst (v := 4) hx hb dX4_paid_94 (by decide) ?_
        refine lv_iconst (v := 1) hx hb dX4_paid_95 (by decide) ?_
        refine lv_aload_n hx hb dX4_paid_96 rfl (lv_at hl 0 rfl) ?_
        refine lv_iload_n hx hb dX4_paid_97 rfl (lv_at hl 1 rfl) ?_
        refine lv_iconst (v := 3) hx hb dX4_paid_98 (by decide) ?_
        refine rcV (As := [.int (nI j), .int 3]) (rest := [.int 1, .int 4]) (st1 := [.int (F 0 (153 + 7 * j + 3)), .int 1, .int 4]) (mX4_ofBow l g E ho h0 a (upd (upd I 5 0) 1 0) (va_up F 1 (va_cpy (F 0) (F 1) 0 0 195)) j 3 (by omega)) kX4_ofBow q2498 hx hb hml hown hts hRf hRl ho.1 hE hS hP (va_recv hK hP (ci := 0) (q0 := 0) rfl rfl) ⟨Nat.zero_le _, Nat.zero_le _⟩ hl ⟨rfl, rfl⟩ rfl rfl (Nat.le_of_ble_eq_true rfl) rfl dX4_paid_99 ?_
        refine lv_iadd hx hb dX4_paid_102 ?_
        refine lv_imul hx hb dX4_paid_103 ?_
        refine lv_istore_n (lv' := [(2, .int (4 * (1 + (F 0 (153 + 7 * j + 3))))), (0, .ref h0), (1, .int (nI j))]) hx hb dX4_paid_104 rfl hl (by decide) rfl (fun ls hl => ?_)
        refine lv_aload_n hx hb dX4_paid_105 rfl (lv_at hl 1 rfl) ?_
        refine va_get (D := gD g) (ci := 0) (v := .ref (a 0)) (C := RX4) (T := TX4) (N := 21) hx hb hts in_X4 hown hK hP 0 rfl rfl 0 (by decide) (hts _ q2314) (fun _ h9 => h9) rfl dX4_paid_106 ?_
        refine lv_iload_n hx hb dX4_paid_109 rfl (lv_at hl 2 rfl) ?_
        refine lv_iconst (v := 4) hx hb dX4_paid_110 (by decide) ?_
        refine rcS (As := [.int (nI j), .int 4]) (rest := [.ref (a 0)]) (st1 := [.int (nI (153 + 7 * j + 4)), .ref (a 0)]) (mX4_bowAt l g E ho j 4) kX4_bowAt q2483 hx hb hml hown hts hRf hRl ho.1 hE hS (hP.sub [] rfl) ⟨Nat.zero_le _, Nat.zero_le _⟩ hl ⟨rfl, rfl⟩ rfl rfl (Nat.le_of_ble_eq_true rfl) rfl dX4_paid_111 ?_
        refine lv_iconst (v := 1) hx hb dX4_paid_114 (by decide) ?_
        refine h_iast (f := (F 0)) hx hb hK hP hD hS 1 0 rfl rfl (153 + 7 * j + 4) rfl (by omega) (by decide) dX4_paid_115 (fun H locs hP hD hS => ?_)
        have hP : va_P (gD g) Cl (mW g h0 a (upd (upd I 5 0) 1 0) (va_up (va_up F 0 (upd (F 0) (153 + 7 * j + 4) 1)) 1 (va_cpy (F 0) (F 1) 0 0 195))) H := hP
        have hD : va_D A (mW g h0 a (upd (upd I 5 0) 1 0) (va_up (va_up F 0 (upd (F 0) (153 + 7 * j + 4) 1)) 1 (va_cpy (F 0) (F 1) 0 0 195))) := hD
        refine lv_aload_n hx hb dX4_paid_116 rfl (lv_at hl 1 rfl) ?_
        refine va_get (D := gD g) (ci := 0) (v := .ref (a 0)) (C := RX4) (T := TX4) (N := 21) hx hb hts in_X4 hown hK hP 0 rfl rfl 0 (by decide) (hts _ q2314) (fun _ h9 => h9) rfl dX4_paid_117 ?_
        refine lv_iconst (v := 0) hx hb dX4_paid_120 (by decide) ?_
        refine lv_dup2_11 hx hb dX4_paid_121 rfl rfl ?_
        refine h_iald (f := (upd (F 0) (153 + 7 * j + 4) 1)) hx hb hK hP 1 0 rfl rfl 0 rfl (by decide) (by decide) dX4_paid_122 ?_
        refine h_topi (v := F 0 0) (by rw [pk_un (by omega)]) ?_
        refine lv_iload_n hx hb dX4_paid_123 rfl (lv_at hl 0 rfl) ?_
        refine lv_iadd hx hb dX4_paid_124 ?_
        refine h_iast (f := (upd (F 0) (153 + 7 * j + 4) 1)) hx hb hK hP hD hS 1 0 rfl rfl 0 rfl (by decide) (by decide) dX4_paid_125 (fun H locs hP hD hS => ?_)
        have hP : va_P (gD g) Cl (mW g h0 a (upd (upd I 5 0) 1 0) (va_up (va_up F 0 (upd (upd (F 0) (153 + 7 * j + 4) 1) 0 ((F 0 0) + (4 * (1 + (F 0 (153 + 7 * j + 3))))))) 1 (va_cpy (F 0) (F 1) 0 0 195))) H := hP
        have hD : va_D A (mW g h0 a (upd (upd I 5 0) 1 0) (va_up (va_up F 0 (upd (upd (F 0) (153 + 7 * j + 4) 1) 0 ((F 0 0) + (4 * (1 + (F 0 (153 + 7 * j + 3))))))) 1 (va_cpy (F 0) (F 1) 0 0 195))) := hD
        refine lv_aload_n hx hb dX4_paid_126 rfl (lv_at hl 1 rfl) ?_
        refine lv_iload_n hx hb dX4_paid_127 rfl (lv_at hl 0 rfl) ?_
        refine mcV (As := [.int (4 * (1 + (F 0 (153 + 7 * j + 3))))]) (rest := []) (wr := []) (mX4_ends0 l g E ho h0 a (upd (upd I 5 0) 1 0) (va_up (va_up F 0 (upd (upd (F 0) (153 + 7 * j + 4) 1) 0 ((F 0 0) + (4 * (1 + (F 0 (153 + 7 * j + 3))))))) 1 (va_cpy (F 0) (F 1) 0 0 195)) (4 * (1 + (F 0 (153 + 7 * j + 3)))) n rfl hn hn8) kX4_ends q2411 hx hb hml hown hts hRf hRl ho.1 hE hS hP hD hA [0, 1, 2, 3, 4, 5, 6, 7, 8] [] rfl (by decide) rfl (by decide) (by decide) ⟨Nat.zero_le _, Nat.zero_le _⟩ (va_recv hK hP (ci := 0) (q0 := 0) rfl rfl) hl ⟨rfl, rfl⟩ rfl rfl (Nat.le_of_ble_eq_true rfl) dX4_paid_128 (fun _ H locs _ hP hD hS _ _ => ?_)
        have hP : va_P (gD g) Cl (mW g h0 a (upd (upd (upd I 5 0) 1 0) 0 (nI (chN n))) (va_up (va_up (va_up F 0 (upd (upd (F 0) (153 + 7 * j + 4) 1) 0 ((F 0 0) + (4 * (1 + (F 0 (153 + 7 * j + 3))))))) 1 (va_cpy (F 0) (F 1) 0 0 195)) 3 (chP (va_cpy (F 0) (F 1) 0 0 195) (F 3) n))) H := hP
        have hD : va_D A (mW g h0 a (upd (upd (upd I 5 0) 1 0) 0 (nI (chN n))) (va_up (va_up (va_up F 0 (upd (upd (F 0) (153 + 7 * j + 4) 1) 0 ((F 0 0) + (4 * (1 + (F 0 (153 + 7 * j + 3))))))) 1 (va_cpy (F 0) (F 1) 0 0 195)) 3 (chP (va_cpy (F 0) (F 1) 0 0 195) (F 3) n))) := hD
        have hop : opPaid (F 0) (nI j) = (0, 0, (4 * (1 + (F 0 (153 + 7 * j + 3)))), (upd (upd (F 0) (153 + 7 * j + 4) 1) 0 ((F 0 0) + (4 * (1 + (F 0 (153 + 7 * j + 3))))))) := by simp only [htw, htwc, ht, htc, hh, hhc, hb6, hbc, hk5, hkc, opPaid, hjc, eq_true c_1, eq_false c_2, eq_true c_3, eq_false (Int32.not_lt.mpr c_3), if_true, if_false, not_true_eq_false, not_false_eq_true, ite_true, ite_false, reduceIte, Nat.add_zero, Nat.add_sub_cancel]
        have hW1 : (mW g h0 a (upd (upd (upd I 5 0) 1 0) 0 (nI (chN n))) (va_up (va_up (va_up F 0 (upd (upd (F 0) (153 + 7 * j + 4) 1) 0 ((F 0 0) + (4 * (1 + (F 0 (153 + 7 * j + 3))))))) 1 (va_cpy (F 0) (F 1) 0 0 195)) 3 (chP (va_cpy (F 0) (F 1) 0 0 195) (F 3) n))) = mW g h0 a (pubI I n (opPaid (F 0) (nI j))) (pubF F n (opPaid (F 0) (nI j))) := by
          rw [hop]
          rfl
        rw [hW1] at hP hD
        exact hm_i hQ hx hb hr hlk rfl () (by rw [hop]) trivial hP hD hS (by decide) (by decide) dX4_paid_131
      refine lv_iconst (v := 1) hx hb dX4_paid_73 (by decide) ?_
      refine lv_goto (tgt := 78) hx hb dX4_paid_74 (by decide) ?_
      refine lv_bipush (v := 10) hx hb dX4_paid_78 (by decide) ?_
      refine lv_aload_n hx hb dX4_paid_80 rfl (lv_at hl 0 rfl) ?_
      refine lv_iload_n hx hb dX4_paid_81 rfl (lv_at hl 1 rfl) ?_
      refine lv_iconst (v := 2) hx hb dX4_paid_82 (by decide) ?_
      refine rcV (As := [.int (nI j), .int 2]) (rest := [.int 10, .int 1, .ref h0]) (st1 := [.int (F 0 (153 + 7 * j + 2)), .int 10, .int 1, .ref h0]) (mX4_ofBow l g E ho h0 a (upd (upd I 5 0) 1 0) (va_up F 1 (va_cpy (F 0) (F 1) 0 0 195)) j 2 (by omega)) kX4_ofBow q2498 hx hb hml hown hts hRf hRl ho.1 hE hS hP (va_recv hK hP (ci := 0) (q0 := 0) rfl rfl) ⟨Nat.zero_le _, Nat.zero_le _⟩ hl ⟨rfl, rfl⟩ rfl rfl (Nat.le_of_ble_eq_true rfl) rfl dX4_paid_83 ?_
      refine mcV (As := [.int 1, .int 10, .int (F 0 (153 + 7 * j + 2))]) (rest := []) (wr := []) (mX4_isRefused1 l g E ho h0 a (upd (upd I 5 0) 1 0) (va_up F 1 (va_cpy (F 0) (F 1) 0 0 195)) 10 (F 0 (153 + 7 * j + 2))) kX4_isRefused q2400 hx hb hml hown hts hRf hRl ho.1 hE hS hP hD hA [0, 1, 2, 3, 4, 5, 6, 7, 8] [] rfl (by decide) rfl (by decide) (by decide) ⟨Nat.zero_le _, Nat.zero_le _⟩ (va_recv hK hP (ci := 0) (q0 := 0) rfl rfl) hl ⟨rfl, rfl⟩ rfl rfl (Nat.le_of_ble_eq_true rfl) dX4_paid_86 (fun _ H locs _ hP hD hS _ _ => ?_)
      have hP : va_P (gD g) Cl (mW g h0 a (refI (upd (upd I 5 0) 1 0) 10 (F 0 (153 + 7 * j + 2))) (va_up F 1 (va_cpy (F 0) (F 1) 0 0 195))) H := hP
      have hD : va_D A (mW g h0 a (refI (upd (upd I 5 0) 1 0) 10 (F 0 (153 + 7 * j + 2))) (va_up F 1 (va_cpy (F 0) (F 1) 0 0 195))) := hD
      refine lv_if_eq (tgt := 94) hx hb dX4_paid_89 (by decide) (fun c => absurd c (by decide)) (fun _ => ?_)
      refine lv_iconst (v := 0) hx hb dX4_paid_92 (by decide) ?_
      have hop : opPaid (F 0) (nI j) = (10, (F 0 (153 + 7 * j + 2)), 0, F 0) := by simp only [htw, htwc, ht, htc, hh, hhc, hb6, hbc, hk5, hkc, opPaid, hjc, eq_true c_1, eq_false c_2, eq_false c_3, eq_true (Int32.not_le.mp c_3), if_true, if_false, not_true_eq_false, not_false_eq_true, ite_true, ite_false, reduceIte, Nat.add_zero, Nat.add_sub_cancel]
      have hW1 : (mW g h0 a (refI (upd (upd I 5 0) 1 0) 10 (F 0 (153 + 7 * j + 2))) (va_up F 1 (va_cpy (F 0) (F 1) 0 0 195))) = mW g h0 a (pubI I n (opPaid (F 0) (nI j))) (pubF F n (opPaid (F 0) (nI j))) := by
        rw [hop]
        rfl
      rw [hW1] at hP hD
      exact hm_i hQ hx hb hr hlk rfl () (by rw [hop]) trivial hP hD hS (by decide) (by decide) dX4_paid_93
    refine lv_iconst (v := 1) hx hb dX4_paid_37 (by decide) ?_
    refine lv_goto (tgt := 42) hx hb dX4_paid_38 (by decide) ?_
    refine lv_bipush (v := 13) hx hb dX4_paid_42 (by decide) ?_
    refine lv_iload_n hx hb dX4_paid_44 rfl (lv_at hl 1 rfl) ?_
    refine mcV (As := [.int 1, .int 13, .int (nI j)]) (rest := []) (wr := []) (mX4_isRefused1 l g E ho h0 a (upd (upd I 5 0) 1 0) (va_up F 1 (va_cpy (F 0) (F 1) 0 0 195)) 13 (nI j)) kX4_isRefused q2400 hx hb hml hown hts hRf hRl ho.1 hE hS hP hD hA [0, 1, 2, 3, 4, 5, 6, 7, 8] [] rfl (by decide) rfl (by decide) (by decide) ⟨Nat.zero_le _, Nat.zero_le _⟩ (va_recv hK hP (ci := 0) (q0 := 0) rfl rfl) hl ⟨rfl, rfl⟩ rfl rfl (Nat.le_of_ble_eq_true rfl) dX4_paid_45 (fun _ H locs _ hP hD hS _ _ => ?_)
    have hP : va_P (gD g) Cl (mW g h0 a (refI (upd (upd I 5 0) 1 0) 13 (nI j)) (va_up F 1 (va_cpy (F 0) (F 1) 0 0 195))) H := hP
    have hD : va_D A (mW g h0 a (refI (upd (upd I 5 0) 1 0) 13 (nI j)) (va_up F 1 (va_cpy (F 0) (F 1) 0 0 195))) := hD
    refine lv_if_ne (tgt := 92) hx hb dX4_paid_48 (by decide) (fun _ => ?_) (fun c => absurd c (by decide))
    refine lv_iconst (v := 0) hx hb dX4_paid_92 (by decide) ?_
    have hop : opPaid (F 0) (nI j) = (13, (nI j), 0, F 0) := by simp only [htw, htwc, ht, htc, hh, hhc, hb6, hbc, hk5, hkc, opPaid, hjc, eq_true c_1, eq_true c_2, if_true, if_false, not_true_eq_false, not_false_eq_true, ite_true, ite_false, reduceIte, Nat.add_zero, Nat.add_sub_cancel]
    have hW1 : (mW g h0 a (refI (upd (upd I 5 0) 1 0) 13 (nI j)) (va_up F 1 (va_cpy (F 0) (F 1) 0 0 195))) = mW g h0 a (pubI I n (opPaid (F 0) (nI j))) (pubF F n (opPaid (F 0) (nI j))) := by
      rw [hop]
      rfl
    rw [hW1] at hP hD
    exact hm_i hQ hx hb hr hlk rfl () (by rw [hop]) trivial hP hD hS (by decide) (by decide) dX4_paid_93
  rw [hb6] at c_1
  refine lv_iconst (v := 1) hx hb dX4_paid_13 (by decide) ?_
  refine lv_goto (tgt := 18) hx hb dX4_paid_14 (by decide) ?_
  refine lv_iconst (v := 2) hx hb dX4_paid_18 (by decide) ?_
  refine lv_iload_n hx hb dX4_paid_19 rfl (lv_at hl 1 rfl) ?_
  refine mcV (As := [.int 1, .int 2, .int p0]) (rest := []) (wr := []) (mX4_isRefused1 l g E ho h0 a (upd (upd I 5 0) 1 0) (va_up F 1 (va_cpy (F 0) (F 1) 0 0 195)) 2 p0) kX4_isRefused q2400 hx hb hml hown hts hRf hRl ho.1 hE hS hP hD hA [0, 1, 2, 3, 4, 5, 6, 7, 8] [] rfl (by decide) rfl (by decide) (by decide) ⟨Nat.zero_le _, Nat.zero_le _⟩ (va_recv hK hP (ci := 0) (q0 := 0) rfl rfl) hl ⟨rfl, rfl⟩ rfl rfl (Nat.le_of_ble_eq_true rfl) dX4_paid_20 (fun _ H locs _ hP hD hS _ _ => ?_)
  have hP : va_P (gD g) Cl (mW g h0 a (refI (upd (upd I 5 0) 1 0) 2 p0) (va_up F 1 (va_cpy (F 0) (F 1) 0 0 195))) H := hP
  have hD : va_D A (mW g h0 a (refI (upd (upd I 5 0) 1 0) 2 p0) (va_up F 1 (va_cpy (F 0) (F 1) 0 0 195))) := hD
  refine lv_if_ne (tgt := 92) hx hb dX4_paid_23 (by decide) (fun _ => ?_) (fun c => absurd c (by decide))
  refine lv_iconst (v := 0) hx hb dX4_paid_92 (by decide) ?_
  have hop : opPaid (F 0) p0 = (2, p0, 0, F 0) := by simp only [htw, htwc, ht, htc, hh, hhc, hb6, hbc, hk5, hkc, opPaid, eq_false c_1, if_true, if_false, not_true_eq_false, not_false_eq_true, ite_true, ite_false, reduceIte, Nat.add_zero, Nat.add_sub_cancel]
  have hW1 : (mW g h0 a (refI (upd (upd I 5 0) 1 0) 2 p0) (va_up F 1 (va_cpy (F 0) (F 1) 0 0 195))) = mW g h0 a (pubI I n (opPaid (F 0) p0)) (pubF F n (opPaid (F 0) p0)) := by
    rw [hop]
    rfl
  rw [hW1] at hP hD
  exact hm_i hQ hx hb hr hlk rfl () (by rw [hop]) trivial hP hD hS (by decide) (by decide) dX4_paid_93
