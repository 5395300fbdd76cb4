/-! THE REFERENCE: what is read -/
set_option maxRecDepth 100000
theorem kX4_tailOf : hkV RX4 yX4_tailOf cX4_tailOf 3 (some .int) 2 := ⟨q2571, q2572, q78, q2573, rfl, by decide +kernel⟩
set_option maxHeartbeats 4000000 in
theorem mX4_tailOf (l : Launch) (g : hG) (E : hEnv) (ho : mOk g E) (h0 : Nat) (a : Nat → Nat) (I : Nat → Int32) (F : Nat → Nat → Int32) (p0 : Int32) (p1 : Int32) (nt : Nat) (nh : Nat) (nb : Nat) (nc : Nat) (tw : Nat) (hc : Cn (F 0) nt nh nb nc tw) : MM l yX4_tailOf cX4_tailOf 3 (some .int) 2 43 0 0 [.ref h0, .int p0, .int p1] g E (mW g h0 a I F) (S := Unit) (fun _ => (some (.int ((gTailOf (F 0) p0 p1).2)))) (fun _ => True) (fun _ => mW g h0 a (upd I 1 (gTailOf (F 0) p0 p1).1) F) := by
  refine MM.mk (by decide) (Nat.le_of_ble_eq_true rfl) ?_
  intro p e R s m args below meth c Q A H locs ls hX hRc hRs hP hD hE hS hA hnm hl hQ
  obtain ⟨hx, hb, hr, hlk, hml, hown, hts, hRf, hRl⟩ := hX
  have hown : s.vm.findClass RX4 = some m.cls := hown
  have hK := ho.2 _ _ _ hE
  have hl : lv_has ls 3 [(0, .ref h0), (1, .int p0), (2, .int p1)] := hl
  have hc0 := hc
  obtain ⟨htw, htw6, ht, ht10, hh, hh20, hb6, hb6l, hk5, hk5l⟩ := hc
  have htc : (nI nt).toNatClampNeg = nt := nI_clamp (by omega)
  have hhc : (nI nh).toNatClampNeg = nh := nI_clamp (by omega)
  have hbc : (nI nb).toNatClampNeg = nb := nI_clamp (by omega)
  have hkc : (nI nc).toNatClampNeg = nc := nI_clamp (by omega)
  have htwc : (nI tw).toNatClampNeg = tw := nI_clamp (by omega)
  refine lv_aload_n hx hb dX4_tailOf_0 rfl (lv_at hl 0 rfl) ?_
  refine lv_aload_n hx hb dX4_tailOf_1 rfl (lv_at hl 0 rfl) ?_
  refine lv_iload_n hx hb dX4_tailOf_2 rfl (lv_at hl 1 rfl) ?_
  refine rcV (As := [.int p0]) (rest := [.ref h0]) (st1 := [.int (if inR p0 0 (F 0 3 - 1) then 1 else 0), .ref h0]) (mX4_isTail l g E ho h0 a I F p0) kX4_isTail q2427 hx hb hml hown hts hRf hRl ho.1 hE hS hP (va_recv hK hP (ci := 0) (q0 := 0) rfl rfl) ⟨Nat.zero_le _, Nat.zero_le _⟩ hl ⟨rfl, rfl⟩ rfl rfl (Nat.le_of_ble_eq_true rfl) rfl dX4_tailOf_3 ?_
  refine h_ifne_b (tgt := 13) hx hb dX4_tailOf_6 (by decide) (fun c_1 => ?_) (fun c_1 => ?_)
  · rw [ht] at c_1
    refine lv_iconst (v := 0) hx hb dX4_tailOf_13 (by decide) ?_
    refine lv_iconst (v := 1) hx hb dX4_tailOf_14 (by decide) ?_
    refine mcV (As := [.int 0, .int 1]) (rest := []) (wr := []) (mX4_isThrown0 l g E ho h0 a I F 1) kX4_isThrown q2574 hx hb hml hown hts hRf hRl ho.1 hE hS hP hD hA [0, 1, 2, 3, 4, 5, 6, 7, 8] [] rfl (by decide) rfl (by decide) (by decide) ⟨Nat.zero_le _, Nat.zero_le _⟩ (va_recv hK hP (ci := 0) (q0 := 0) rfl rfl) hl ⟨rfl, rfl⟩ rfl rfl (Nat.le_of_ble_eq_true rfl) dX4_tailOf_15 (fun _ H locs _ hP hD hS _ _ => ?_)
    have hP : va_P (gD g) Cl (mW g h0 a (upd I 1 0) F) H := hP
    have hD : va_D A (mW g h0 a (upd I 1 0) F) := hD
    refine lv_if_ne (tgt := 43) hx hb dX4_tailOf_18 (by decide) (fun c => absurd c (by decide)) (fun _ => ?_)
    refine lv_aload_n hx hb dX4_tailOf_21 rfl (lv_at hl 0 rfl) ?_
    refine lv_iload_n hx hb dX4_tailOf_22 rfl (lv_at hl 2 rfl) ?_
    refine lv_iconst (v := 0) hx hb dX4_tailOf_23 (by decide) ?_
    refine lv_iconst (v := 4) hx hb dX4_tailOf_24 (by decide) ?_
    refine rcS (As := [.int p1, .int 0, .int 4]) (rest := [.ref h0]) (st1 := [.int (if inR p1 0 4 then 1 else 0), .ref h0]) (mX4_isIn l g E ho p1 0 4) kX4_isIn q2397 hx hb hml hown hts hRf hRl ho.1 hE hS (hP.sub [] rfl) ⟨Nat.zero_le _, Nat.zero_le _⟩ hl ⟨rfl, rfl⟩ rfl rfl (Nat.le_of_ble_eq_true rfl) rfl dX4_tailOf_25 ?_
    refine h_ifne_b (tgt := 35) hx hb dX4_tailOf_28 (by decide) (fun c_2 => ?_) (fun c_2 => ?_)
    · refine lv_iconst (v := 0) hx hb dX4_tailOf_35 (by decide) ?_
      refine lv_iconst (v := 2) hx hb dX4_tailOf_36 (by decide) ?_
      refine mcV (As := [.int 0, .int 2]) (rest := []) (wr := []) (mX4_isThrown0 l g E ho h0 a (upd I 1 0) F 2) kX4_isThrown q2574 hx hb hml hown hts hRf hRl ho.1 hE hS hP hD hA [0, 1, 2, 3, 4, 5, 6, 7, 8] [] rfl (by decide) rfl (by decide) (by decide) ⟨Nat.zero_le _, Nat.zero_le _⟩ (va_recv hK hP (ci := 0) (q0 := 0) rfl rfl) hl ⟨rfl, rfl⟩ rfl rfl (Nat.le_of_ble_eq_true rfl) dX4_tailOf_37 (fun _ H locs _ hP hD hS _ _ => ?_)
      have hP : va_P (gD g) Cl (mW g h0 a (upd I 1 0) F) H := hP
      have hD : va_D A (mW g h0 a (upd I 1 0) F) := hD
      refine lv_if_eq (tgt := 45) hx hb dX4_tailOf_40 (by decide) (fun _ => ?_) (fun c => absurd c (by decide))
      have hrj := c_1
      obtain ⟨j, hj, rfl⟩ := inR_ix hrj rfl (by omega)
      have hjc : (nI j).toNatClampNeg = j := nI_clamp (by omega)
      have hrq := c_2
      obtain ⟨q, hq1, hq2, rfl⟩ := inR_lit (a := 0) (b := 4) hrq rfl rfl (by decide) (by decide)
      have hqc : (nI q).toNatClampNeg = q := nI_clamp (by omega)
      refine lv_iload_n hx hb dX4_tailOf_45 rfl (lv_at hl 2 rfl) ?_
      refine lv_iconst (v := 4) hx hb dX4_tailOf_46 (by decide) ?_
      refine lv_icmp_ne (tgt := 58) hx hb dX4_tailOf_47 (by decide) (fun c_3 => ?_) (fun c_3 => ?_)
      · refine lv_aload_n hx hb dX4_tailOf_58 rfl (lv_at hl 0 rfl) ?_
        refine va_get (D := gD g) (ci := 0) (v := .ref (a 0)) (C := RX4) (T := TX4) (N := 21) hx hb hts in_X4 hown hK hP 0 rfl rfl 0 (by decide) (hts _ q2314) (fun _ h9 => h9) rfl dX4_tailOf_59 ?_
        refine lv_iload_n hx hb dX4_tailOf_62 rfl (lv_at hl 1 rfl) ?_
        refine lv_iload_n hx hb dX4_tailOf_63 rfl (lv_at hl 2 rfl) ?_
        refine rcS (As := [.int (nI j), .int (nI q)]) (rest := [.ref (a 0)]) (st1 := [.int (nI (33 + 4 * j + q)), .ref (a 0)]) (mX4_tailAt l g E ho j q) kX4_tailAt q2408 hx hb hml hown hts hRf hRl ho.1 hE hS (hP.sub [] rfl) ⟨Nat.zero_le _, Nat.zero_le _⟩ hl ⟨rfl, rfl⟩ rfl rfl (Nat.le_of_ble_eq_true rfl) rfl dX4_tailOf_64 ?_
        refine h_iald (f := (F 0)) hx hb hK hP 1 0 rfl rfl (33 + 4 * j + q) rfl (by omega) (by decide) dX4_tailOf_67 ?_
        have hop : gTailOf (F 0) (nI j) (nI q) = (0, F 0 (33 + 4 * j + q)) := by simp only [htw, htwc, ht, htc, hh, hhc, hb6, hbc, hk5, hkc, gTailOf, hjc, hqc, eq_true c_1, eq_true c_2, eq_false c_3, if_true, if_false, not_true_eq_false, not_false_eq_true, ite_true, ite_false, reduceIte, Nat.add_zero, Nat.add_sub_cancel]
        have hW1 : (mW g h0 a (upd I 1 0) F) = mW g h0 a (upd I 1 (gTailOf (F 0) (nI j) (nI q)).1) F := by
          rw [hop]
        rw [hW1] at hP hD
        exact hm_i hQ hx hb hr hlk rfl () (by rw [hop]) trivial hP hD hS (by decide) (by decide) dX4_tailOf_68
      refine lv_aload_n hx hb dX4_tailOf_50 rfl (lv_at hl 0 rfl) ?_
      refine lv_iload_n hx hb dX4_tailOf_51 rfl (lv_at hl 1 rfl) ?_
      refine rcV (As := [.int (nI j)]) (rest := []) (st1 := [.int (nextL (F 0) j)]) (mX4_nextLength l g E ho h0 a (upd I 1 0) F j (by omega)) kX4_nextLength q2434 hx hb hml hown hts hRf hRl ho.1 hE hS hP (va_recv hK hP (ci := 0) (q0 := 0) rfl rfl) ⟨Nat.zero_le _, Nat.zero_le _⟩ hl ⟨rfl, rfl⟩ rfl rfl (Nat.le_of_ble_eq_true rfl) rfl dX4_tailOf_52 ?_
      refine lv_goto (tgt := 68) hx hb dX4_tailOf_55 (by decide) ?_
      have hop : gTailOf (F 0) (nI j) (nI q) = (0, nextL (F 0) j) := by simp only [htw, htwc, ht, htc, hh, hhc, hb6, hbc, hk5, hkc, gTailOf, hjc, hqc, eq_true c_1, eq_true c_2, eq_true c_3, if_true, if_false, not_true_eq_false, not_false_eq_true, ite_true, ite_false, reduceIte, Nat.add_zero, Nat.add_sub_cancel]
      have hW1 : (mW g h0 a (upd I 1 0) F) = mW g h0 a (upd I 1 (gTailOf (F 0) (nI j) (nI q)).1) F := by
        rw [hop]
      rw [hW1] at hP hD
      exact hm_i hQ hx hb hr hlk rfl () (by rw [hop]) trivial hP hD hS (by decide) (by decide) dX4_tailOf_68
    refine lv_iconst (v := 1) hx hb dX4_tailOf_31 (by decide) ?_
    refine lv_goto (tgt := 36) hx hb dX4_tailOf_32 (by decide) ?_
    refine lv_iconst (v := 2) hx hb dX4_tailOf_36 (by decide) ?_
    refine mcV (As := [.int 1, .int 2]) (rest := []) (wr := []) (mX4_isThrown1 l g E ho h0 a (upd I 1 0) F 2) kX4_isThrown q2574 hx hb hml hown hts hRf hRl ho.1 hE hS hP hD hA [0, 1, 2, 3, 4, 5, 6, 7, 8] [] rfl (by decide) rfl (by decide) (by decide) ⟨Nat.zero_le _, Nat.zero_le _⟩ (va_recv hK hP (ci := 0) (q0 := 0) rfl rfl) hl ⟨rfl, rfl⟩ rfl rfl (Nat.le_of_ble_eq_true rfl) dX4_tailOf_37 (fun _ H locs _ hP hD hS _ _ => ?_)
    have hP : va_P (gD g) Cl (mW g h0 a (upd I 1 2) F) H := hP
    have hD : va_D A (mW g h0 a (upd I 1 2) F) := hD
    refine lv_if_eq (tgt := 45) hx hb dX4_tailOf_40 (by decide) (fun c => absurd c (by decide)) (fun _ => ?_)
    refine lv_iconst (v := 0) hx hb dX4_tailOf_43 (by decide) ?_
    have hop : gTailOf (F 0) p0 p1 = (2, 0) := by simp only [htw, htwc, ht, htc, hh, hhc, hb6, hbc, hk5, hkc, gTailOf, eq_true c_1, eq_false c_2, if_true, if_false, not_true_eq_false, not_false_eq_true, ite_true, ite_false, reduceIte, Nat.add_zero, Nat.add_sub_cancel]
    have hW1 : (mW g h0 a (upd I 1 2) F) = mW g h0 a (upd I 1 (gTailOf (F 0) p0 p1).1) F := by
      rw [hop]
    rw [hW1] at hP hD
    exact hm_i hQ hx hb hr hlk rfl () (by rw [hop]) trivial hP hD hS (by decide) (by decide) dX4_tailOf_44
  rw [ht] at c_1
  refine lv_iconst (v := 1) hx hb dX4_tailOf_9 (by decide) ?_
  refine lv_goto (tgt := 14) hx hb dX4_tailOf_10 (by decide) ?_
  refine lv_iconst (v := 1) hx hb dX4_tailOf_14 (by decide) ?_
  refine mcV (As := [.int 1, .int 1]) (rest := []) (wr := []) (mX4_isThrown1 l g E ho h0 a I F 1) kX4_isThrown q2574 hx hb hml hown hts hRf hRl ho.1 hE hS hP hD hA [0, 1, 2, 3, 4, 5, 6, 7, 8] [] rfl (by decide) rfl (by decide) (by decide) ⟨Nat.zero_le _, Nat.zero_le _⟩ (va_recv hK hP (ci := 0) (q0 := 0) rfl rfl) hl ⟨rfl, rfl⟩ rfl rfl (Nat.le_of_ble_eq_true rfl) dX4_tailOf_15 (fun _ H locs _ hP hD hS _ _ => ?_)
  have hP : va_P (gD g) Cl (mW g h0 a (upd I 1 1) F) H := hP
  have hD : va_D A (mW g h0 a (upd I 1 1) F) := hD
  refine lv_if_ne (tgt := 43) hx hb dX4_tailOf_18 (by decide) (fun _ => ?_) (fun c => absurd c (by decide))
  refine lv_iconst (v := 0) hx hb dX4_tailOf_43 (by decide) ?_
  have hop : gTailOf (F 0) p0 p1 = (1, 0) := by simp only [htw, htwc, ht, htc, hh, hhc, hb6, hbc, hk5, hkc, gTailOf, eq_false c_1, if_true, if_false, not_true_eq_false, not_false_eq_true, ite_true, ite_false, reduceIte, Nat.add_zero, Nat.add_sub_cancel]
  have hW1 : (mW g h0 a (upd I 1 1) F) = mW g h0 a (upd I 1 (gTailOf (F 0) p0 p1).1) F := by
    rw [hop]
  rw [hW1] at hP hD
  exact hm_i hQ hx hb hr hlk rfl () (by rw [hop]) trivial hP hD hS (by decide) (by decide) dX4_tailOf_44
theorem kX4_hankOf : hkV RX4 yX4_hankOf cX4_hankOf 3 (some .int) 2 := ⟨q2579, q2580, q78, q2581, rfl, by decide +kernel⟩
set_option maxHeartbeats 4000000 in
theorem mX4_hankOf (l : Launch) (g : hG) (E : hEnv) (ho : mOk g E) (h0 : Nat) (a : Nat → Nat) (I : Nat → Int32) (F : Nat → Nat → Int32) (p0 : Int32) (p1 : Int32) (nt : Nat) (nh : Nat) (nb : Nat) (nc : Nat) (tw : Nat) (hc : Cn (F 0) nt nh nb nc tw) : MM l yX4_hankOf cX4_hankOf 3 (some .int) 2 43 0 0 [.ref h0, .int p0, .int p1] g E (mW g h0 a I F) (S := Unit) (fun _ => (some (.int ((gHankOf (F 0) p0 p1).2)))) (fun _ => True) (fun _ => mW g h0 a (upd I 1 (gHankOf (F 0) p0 p1).1) F) := by
  refine MM.mk (by decide) (Nat.le_of_ble_eq_true rfl) ?_
  intro p e R s m args below meth c Q A H locs ls hX hRc hRs hP hD hE hS hA hnm hl hQ
  obtain ⟨hx, hb, hr, hlk, hml, hown, hts, hRf, hRl⟩ := hX
  have hown : s.vm.findClass RX4 = some m.cls := hown
  have hK := ho.2 _ _ _ hE
  have hl : lv_has ls 3 [(0, .ref h0), (1, .int p0), (2, .int p1)] := hl
  have hc0 := hc
  obtain ⟨htw, htw6, ht, ht10, hh, hh20, hb6, hb6l, hk5, hk5l⟩ := hc
  have htc : (nI nt).toNatClampNeg = nt := nI_clamp (by omega)
  have hhc : (nI nh).toNatClampNeg = nh := nI_clamp (by omega)
  have hbc : (nI nb).toNatClampNeg = nb := nI_clamp (by omega)
  have hkc : (nI nc).toNatClampNeg = nc := nI_clamp (by omega)
  have htwc : (nI tw).toNatClampNeg = tw := nI_clamp (by omega)
  refine lv_aload_n hx hb dX4_hankOf_0 rfl (lv_at hl 0 rfl) ?_
  refine lv_aload_n hx hb dX4_hankOf_1 rfl (lv_at hl 0 rfl) ?_
  refine lv_iload_n hx hb dX4_hankOf_2 rfl (lv_at hl 1 rfl) ?_
  refine rcV (As := [.int p0]) (rest := [.ref h0]) (st1 := [.int (if inR p0 0 (F 0 4 - 1) then 1 else 0), .ref h0]) (mX4_isHank l g E ho h0 a I F p0) kX4_isHank q2449 hx hb hml hown hts hRf hRl ho.1 hE hS hP (va_recv hK hP (ci := 0) (q0 := 0) rfl rfl) ⟨Nat.zero_le _, Nat.zero_le _⟩ hl ⟨rfl, rfl⟩ rfl rfl (Nat.le_of_ble_eq_true rfl) rfl dX4_hankOf_3 ?_
  refine h_ifne_b (tgt := 13) hx hb dX4_hankOf_6 (by decide) (fun c_1 => ?_) (fun c_1 => ?_)
  · rw [hh] at c_1
    refine lv_iconst (v := 0) hx hb dX4_hankOf_13 (by decide) ?_
    refine lv_iconst (v := 1) hx hb dX4_hankOf_14 (by decide) ?_
    refine mcV (As := [.int 0, .int 1]) (rest := []) (wr := []) (mX4_isThrown0 l g E ho h0 a I F 1) kX4_isThrown q2574 hx hb hml hown hts hRf hRl ho.1 hE hS hP hD hA [0, 1, 2, 3, 4, 5, 6, 7, 8] [] rfl (by decide) rfl (by decide) (by decide) ⟨Nat.zero_le _, Nat.zero_le _⟩ (va_recv hK hP (ci := 0) (q0 := 0) rfl rfl) hl ⟨rfl, rfl⟩ rfl rfl (Nat.le_of_ble_eq_true rfl) dX4_hankOf_15 (fun _ H locs _ hP hD hS _ _ => ?_)
    have hP : va_P (gD g) Cl (mW g h0 a (upd I 1 0) F) H := hP
    have hD : va_D A (mW g h0 a (upd I 1 0) F) := hD
    refine lv_if_ne (tgt := 43) hx hb dX4_hankOf_18 (by decide) (fun c => absurd c (by decide)) (fun _ => ?_)
    refine lv_aload_n hx hb dX4_hankOf_21 rfl (lv_at hl 0 rfl) ?_
    refine lv_iload_n hx hb dX4_hankOf_22 rfl (lv_at hl 2 rfl) ?_
    refine lv_iconst (v := 0) hx hb dX4_hankOf_23 (by decide) ?_
    refine lv_iconst (v := 3) hx hb dX4_hankOf_24 (by decide) ?_
    refine rcS (As := [.int p1, .int 0, .int 3]) (rest := [.ref h0]) (st1 := [.int (if inR p1 0 3 then 1 else 0), .ref h0]) (mX4_isIn l g E ho p1 0 3) kX4_isIn q2397 hx hb hml hown hts hRf hRl ho.1 hE hS (hP.sub [] rfl) ⟨Nat.zero_le _, Nat.zero_le _⟩ hl ⟨rfl, rfl⟩ rfl rfl (Nat.le_of_ble_eq_true rfl) rfl dX4_hankOf_25 ?_
    refine h_ifne_b (tgt := 35) hx hb dX4_hankOf_28 (by decide) (fun c_2 => ?_) (fun c_2 => ?_)
    · refine lv_iconst (v := 0) hx hb dX4_hankOf_35 (by decide) ?_
      refine lv_iconst (v := 2) hx hb dX4_hankOf_36 (by decide) ?_
      refine mcV (As := [.int 0, .int 2]) (rest := []) (wr := []) (mX4_isThrown0 l g E ho h0 a (upd I 1 0) F 2) kX4_isThrown q2574 hx hb hml hown hts hRf hRl ho.1 hE hS hP hD hA [0, 1, 2, 3, 4, 5, 6, 7, 8] [] rfl (by decide) rfl (by decide) (by decide) ⟨Nat.zero_le _, Nat.zero_le _⟩ (va_recv hK hP (ci := 0) (q0 := 0) rfl rfl) hl ⟨rfl, rfl⟩ rfl rfl (Nat.le_of_ble_eq_true rfl) dX4_hankOf_37 (fun _ H locs _ hP hD hS _ _ => ?_)
      have hP : va_P (gD g) Cl (mW g h0 a (upd I 1 0) F) H := hP
      have hD : va_D A (mW g h0 a (upd I 1 0) F) := hD
      refine lv_if_eq (tgt := 45) hx hb dX4_hankOf_40 (by decide) (fun _ => ?_) (fun c => absurd c (by decide))
      have hrj := c_1
      obtain ⟨j, hj, rfl⟩ := inR_ix hrj rfl (by omega)
      have hjc : (nI j).toNatClampNeg = j := nI_clamp (by omega)
      refine lv_iload_n hx hb dX4_hankOf_45 rfl (lv_at hl 2 rfl) ?_
      by_cases c_3 : p1 = 0
      · refine h_tsw (x := p1) (k := 0) (off := 26) (tgt := 72) hx hb dX4_hankOf_46 (by rw [c_3]; decide) (by decide) (by decide) rfl (by decide) ?_
        refine lv_aload_n hx hb dX4_hankOf_72 rfl (lv_at hl 0 rfl) ?_
        refine lv_iload_n hx hb dX4_hankOf_73 rfl (lv_at hl 1 rfl) ?_
        refine lv_iconst (v := 2) hx hb dX4_hankOf_74 (by decide) ?_
        refine rcV (As := [.int (nI j), .int 2]) (rest := []) (st1 := [.int (F 0 (73 + 4 * j + 2))]) (mX4_ofHank l g E ho h0 a (upd I 1 0) F j 2 (by omega)) kX4_ofHank q2453 hx hb hml hown hts hRf hRl ho.1 hE hS hP (va_recv hK hP (ci := 0) (q0 := 0) rfl rfl) ⟨Nat.zero_le _, Nat.zero_le _⟩ hl ⟨rfl, rfl⟩ rfl rfl (Nat.le_of_ble_eq_true rfl) rfl dX4_hankOf_75 ?_
        have hop : gHankOf (F 0) (nI j) p1 = (0, F 0 (73 + 4 * j + 2)) := by simp only [htw, htwc, ht, htc, hh, hhc, hb6, hbc, hk5, hkc, gHankOf, hjc, eq_true c_1, eq_true c_2, eq_true c_3, if_true, if_false, not_true_eq_false, not_false_eq_true, ite_true, ite_false, reduceIte, Nat.add_zero, Nat.add_sub_cancel]
        have hW1 : (mW g h0 a (upd I 1 0) F) = mW g h0 a (upd I 1 (gHankOf (F 0) (nI j) p1).1) F := by
          rw [hop]
        rw [hW1] at hP hD
        exact hm_i hQ hx hb hr hlk rfl () (by rw [hop]) trivial hP hD hS (by decide) (by decide) dX4_hankOf_78
      by_cases c_4 : p1 = 1
      · refine h_tsw (x := p1) (k := 1) (off := 33) (tgt := 79) hx hb dX4_hankOf_46 (by rw [c_4]; decide) (by decide) (by decide) rfl (by decide) ?_
        refine lv_aload_n hx hb dX4_hankOf_79 rfl (lv_at hl 0 rfl) ?_
        refine lv_iload_n hx hb dX4_hankOf_80 rfl (lv_at hl 1 rfl) ?_
        refine lv_iconst (v := 1) hx hb dX4_hankOf_81 (by decide) ?_
        refine rcV (As := [.int (nI j), .int 1]) (rest := []) (st1 := [.int (F 0 (73 + 4 * j + 1))]) (mX4_ofHank l g E ho h0 a (upd I 1 0) F j 1 (by omega)) kX4_ofHank q2453 hx hb hml hown hts hRf hRl ho.1 hE hS hP (va_recv hK hP (ci := 0) (q0 := 0) rfl rfl) ⟨Nat.zero_le _, Nat.zero_le _⟩ hl ⟨rfl, rfl⟩ rfl rfl (Nat.le_of_ble_eq_true rfl) rfl dX4_hankOf_82 ?_
        have hop : gHankOf (F 0) (nI j) p1 = (0, F 0 (73 + 4 * j + 1)) := by simp only [htw, htwc, ht, htc, hh, hhc, hb6, hbc, hk5, hkc, gHankOf, hjc, eq_true c_1, eq_true c_2, eq_false c_3, eq_true c_4, if_true, if_false, not_true_eq_false, not_false_eq_true, ite_true, ite_false, reduceIte, Nat.add_zero, Nat.add_sub_cancel]
        have hW1 : (mW g h0 a (upd I 1 0) F) = mW g h0 a (upd I 1 (gHankOf (F 0) (nI j) p1).1) F := by
          rw [hop]
        rw [hW1] at hP hD
        exact hm_i hQ hx hb hr hlk rfl () (by rw [hop]) trivial hP hD hS (by decide) (by decide) dX4_hankOf_85
      by_cases c_5 : p1 = 2
      · refine h_tsw (x := p1) (k := 2) (off := 40) (tgt := 86) hx hb dX4_hankOf_46 (by rw [c_5]; decide) (by decide) (by decide) rfl (by decide) ?_
        refine lv_aload_n hx hb dX4_hankOf_86 rfl (lv_at hl 0 rfl) ?_
        refine lv_iload_n hx hb dX4_hankOf_87 rfl (lv_at hl 1 rfl) ?_
        refine lv_iconst (v := 0) hx hb dX4_hankOf_88 (by decide) ?_
        refine rcV (As := [.int (nI j), .int 0]) (rest := []) (st1 := [.int (F 0 (73 + 4 * j))]) (mX4_ofHank l g E ho h0 a (upd I 1 0) F j 0 (by omega)) kX4_ofHank q2453 hx hb hml hown hts hRf hRl ho.1 hE hS hP (va_recv hK hP (ci := 0) (q0 := 0) rfl rfl) ⟨Nat.zero_le _, Nat.zero_le _⟩ hl ⟨rfl, rfl⟩ rfl rfl (Nat.le_of_ble_eq_true rfl) rfl dX4_hankOf_89 ?_
        have hop : gHankOf (F 0) (nI j) p1 = (0, F 0 (73 + 4 * j)) := by simp only [htw, htwc, ht, htc, hh, hhc, hb6, hbc, hk5, hkc, gHankOf, hjc, eq_true c_1, eq_true c_2, eq_false c_3, eq_false c_4, eq_true c_5, if_true, if_false, not_true_eq_false, not_false_eq_true, ite_true, ite_false, reduceIte, Nat.add_zero, Nat.add_sub_cancel]
        have hW1 : (mW g h0 a (upd I 1 0) F) = mW g h0 a (upd I 1 (gHankOf (F 0) (nI j) p1).1) F := by
          rw [hop]
        rw [hW1] at hP hD
        exact hm_i hQ hx hb hr hlk rfl () (by rw [hop]) trivial hP hD hS (by decide) (by decide) dX4_hankOf_92
      have e_c_3 : p1.toInt ≠ (0) := h_ne (y := 0) c_3
      have e_c_4 : p1.toInt ≠ (1) := h_ne (y := 1) c_4
      have e_c_5 : p1.toInt ≠ (2) := h_ne (y := 2) c_5
      refine lv_tableOut (tgt := 93) hx hb dX4_hankOf_46 (by omega) (by decide) ?_
      refine lv_aload_n hx hb dX4_hankOf_93 rfl (lv_at hl 0 rfl) ?_
      refine lv_iload_n hx hb dX4_hankOf_94 rfl (lv_at hl 1 rfl) ?_
      refine lv_iconst (v := 3) hx hb dX4_hankOf_95 (by decide) ?_
      refine rcV (As := [.int (nI j), .int 3]) (rest := []) (st1 := [.int (F 0 (73 + 4 * j + 3))]) (mX4_ofHank l g E ho h0 a (upd I 1 0) F j 3 (by omega)) kX4_ofHank q2453 hx hb hml hown hts hRf hRl ho.1 hE hS hP (va_recv hK hP (ci := 0) (q0 := 0) rfl rfl) ⟨Nat.zero_le _, Nat.zero_le _⟩ hl ⟨rfl, rfl⟩ rfl rfl (Nat.le_of_ble_eq_true rfl) rfl dX4_hankOf_96 ?_
      have hop : gHankOf (F 0) (nI j) p1 = (0, F 0 (73 + 4 * j + 3)) := by simp only [htw, htwc, ht, htc, hh, hhc, hb6, hbc, hk5, hkc, gHankOf, hjc, eq_true c_1, eq_true c_2, eq_false c_3, eq_false c_4, eq_false c_5, if_true, if_false, not_true_eq_false, not_false_eq_true, ite_true, ite_false, reduceIte, Nat.add_zero, Nat.add_sub_cancel]
      have hW1 : (mW g h0 a (upd I 1 0) F) = mW g h0 a (upd I 1 (gHankOf (F 0) (nI j) p1).1) F := by
        rw [hop]
      rw [hW1] at hP hD
      exact hm_i hQ hx hb hr hlk rfl () (by rw [hop]) trivial hP hD hS (by decide) (by decide) dX4_hankOf_99
    refine lv_iconst (v := 1) hx hb dX4_hankOf_31 (by decide) ?_
    refine lv_goto (tgt := 36) hx hb dX4_hankOf_32 (by decide) ?_
    refine lv_iconst (v := 2) hx hb dX4_hankOf_36 (by decide) ?_
    refine mcV (As := [.int 1, .int 2]) (rest := []) (wr := []) (mX4_isThrown1 l g E ho h0 a (upd I 1 0) F 2) kX4_isThrown q2574 hx hb hml hown hts hRf hRl ho.1 hE hS hP hD hA [0, 1, 2, 3, 4, 5, 6, 7, 8] [] rfl (by decide) rfl (by decide) (by decide) ⟨Nat.zero_le _, Nat.zero_le _⟩ (va_recv hK hP (ci := 0) (q0 := 0) rfl rfl) hl ⟨rfl, rfl⟩ rfl rfl (Nat.le_of_ble_eq_true rfl) dX4_hankOf_37 (fun _ H locs _ hP hD hS _ _ => ?_)
    have hP : va_P (gD g) Cl (mW g h0 a (upd I 1 2) F) H := hP
    have hD : va_D A (mW g h0 a (upd I 1 2) F) := hD
    refine lv_if_eq (tgt := 45) hx hb dX4_hankOf_40 (by decide) (fun c => absurd c (by decide)) (fun _ => ?_)
    refine lv_iconst (v := 0) hx hb dX4_hankOf_43 (by decide) ?_
    have hop : gHankOf (F 0) p0 p1 = (2, 0) := by simp only [htw, htwc, ht, htc, hh, hhc, hb6, hbc, hk5, hkc, gHankOf, eq_true c_1, eq_false c_2, if_true, if_false, not_true_eq_false, not_false_eq_true, ite_true, ite_false, reduceIte, Nat.add_zero, Nat.add_sub_cancel]
    have hW1 : (mW g h0 a (upd I 1 2) F) = mW g h0 a (upd I 1 (gHankOf (F 0) p0 p1).1) F := by
      rw [hop]
    rw [hW1] at hP hD
    exact hm_i hQ hx hb hr hlk rfl () (by rw [hop]) trivial hP hD hS (by decide) (by decide) dX4_hankOf_44
  rw [hh] at c_1
  refine lv_iconst (v := 1) hx hb dX4_hankOf_9 (by decide) ?_
  refine lv_goto (tgt := 14) hx hb dX4_hankOf_10 (by decide) ?_
  refine lv_iconst (v := 1) hx hb dX4_hankOf_14 (by decide) ?_
  refine mcV (As := [.int 1, .int 1]) (rest := []) (wr := []) (mX4_isThrown1 l g E ho h0 a I F 1) kX4_isThrown q2574 hx hb hml hown hts hRf hRl ho.1 hE hS hP hD hA [0, 1, 2, 3, 4, 5, 6, 7, 8] [] rfl (by decide) rfl (by decide) (by decide) ⟨Nat.zero_le _, Nat.zero_le _⟩ (va_recv hK hP (ci := 0) (q0 := 0) rfl rfl) hl ⟨rfl, rfl⟩ rfl rfl (Nat.le_of_ble_eq_true rfl) dX4_hankOf_15 (fun _ H locs _ hP hD hS _ _ => ?_)
  have hP : va_P (gD g) Cl (mW g h0 a (upd I 1 1) F) H := hP
  have hD : va_D A (mW g h0 a (upd I 1 1) F) := hD
  refine lv_if_ne (tgt := 43) hx hb dX4_hankOf_18 (by decide) (fun _ => ?_) (fun c => absurd c (by decide))
  refine lv_iconst (v := 0) hx hb dX4_hankOf_43 (by decide) ?_
  have hop : gHankOf (F 0) p0 p1 = (1, 0) := by simp only [htw, htwc, ht, htc, hh, hhc, hb6, hbc, hk5, hkc, gHankOf, eq_false c_1, if_true, if_false, not_true_eq_false, not_false_eq_true, ite_true, ite_false, reduceIte, Nat.add_zero, Nat.add_sub_cancel]
  have hW1 : (mW g h0 a (upd I 1 1) F) = mW g h0 a (upd I 1 (gHankOf (F 0) p0 p1).1) F := by
    rw [hop]
  rw [hW1] at hP hD
  exact hm_i hQ hx hb hr hlk rfl () (by rw [hop]) trivial hP hD hS (by decide) (by decide) dX4_hankOf_44
theorem kX4_bowOf : hkV RX4 yX4_bowOf cX4_bowOf 3 (some .int) 2 := ⟨q2583, q2584, q78, q2585, rfl, by decide +kernel⟩
set_option maxHeartbeats 4000000 in
theorem mX4_bowOf (l : Launch) (g : hG) (E : hEnv) (ho : mOk g E) (h0 : Nat) (a : Nat → Nat) (I : Nat → Int32) (F : Nat → Nat → Int32) (p0 : Int32) (p1 : Int32) (nt : Nat) (nh : Nat) (nb : Nat) (nc : Nat) (tw : Nat) (hc : Cn (F 0) nt nh nb nc tw) : MM l yX4_bowOf cX4_bowOf 3 (some .int) 2 43 0 0 [.ref h0, .int p0, .int p1] g E (mW g h0 a I F) (S := Unit) (fun _ => (some (.int ((gBowOf (F 0) p0 p1).2)))) (fun _ => True) (fun _ => mW g h0 a (upd I 1 (gBowOf (F 0) p0 p1).1) F) := by
  refine MM.mk (by decide) (Nat.le_of_ble_eq_true rfl) ?_
  intro p e R s m args below meth c Q A H locs ls hX hRc hRs hP hD hE hS hA hnm hl hQ
  obtain ⟨hx, hb, hr, hlk, hml, hown, hts, hRf, hRl⟩ := hX
  have hown : s.vm.findClass RX4 = some m.cls := hown
  have hK := ho.2 _ _ _ hE
  have hl : lv_has ls 3 [(0, .ref h0), (1, .int p0), (2, .int p1)] := hl
  have hc0 := hc
  obtain ⟨htw, htw6, ht, ht10, hh, hh20, hb6, hb6l, hk5, hk5l⟩ := hc
  have htc : (nI nt).toNatClampNeg = nt := nI_clamp (by omega)
  have hhc : (nI nh).toNatClampNeg = nh := nI_clamp (by omega)
  have hbc : (nI nb).toNatClampNeg = nb := nI_clamp (by omega)
  have hkc : (nI nc).toNatClampNeg = nc := nI_clamp (by omega)
  have htwc : (nI tw).toNatClampNeg = tw := nI_clamp (by omega)
  refine lv_aload_n hx hb dX4_bowOf_0 rfl (lv_at hl 0 rfl) ?_
  refine lv_aload_n hx hb dX4_bowOf_1 rfl (lv_at hl 0 rfl) ?_
  refine lv_iload_n hx hb dX4_bowOf_2 rfl (lv_at hl 1 rfl) ?_
  refine rcV (As := [.int p0]) (rest := [.ref h0]) (st1 := [.int (if inR p0 0 (F 0 5 - 1) then 1 else 0), .ref h0]) (mX4_isBow l g E ho h0 a I F p0) kX4_isBow q2494 hx hb hml hown hts hRf hRl ho.1 hE hS hP (va_recv hK hP (ci := 0) (q0 := 0) rfl rfl) ⟨Nat.zero_le _, Nat.zero_le _⟩ hl ⟨rfl, rfl⟩ rfl rfl (Nat.le_of_ble_eq_true rfl) rfl dX4_bowOf_3 ?_
  refine h_ifne_b (tgt := 13) hx hb dX4_bowOf_6 (by decide) (fun c_1 => ?_) (fun c_1 => ?_)
  · rw [hb6] at c_1
    refine lv_iconst (v := 0) hx hb dX4_bowOf_13 (by decide) ?_
    refine lv_iconst (v := 1) hx hb dX4_bowOf_14 (by decide) ?_
    refine mcV (As := [.int 0, .int 1]) (rest := []) (wr := []) (mX4_isThrown0 l g E ho h0 a I F 1) kX4_isThrown q2574 hx hb hml hown hts hRf hRl ho.1 hE hS hP hD hA [0, 1, 2, 3, 4, 5, 6, 7, 8] [] rfl (by decide) rfl (by decide) (by decide) ⟨Nat.zero_le _, Nat.zero_le _⟩ (va_recv hK hP (ci := 0) (q0 := 0) rfl rfl) hl ⟨rfl, rfl⟩ rfl rfl (Nat.le_of_ble_eq_true rfl) dX4_bowOf_15 (fun _ H locs _ hP hD hS _ _ => ?_)
    have hP : va_P (gD g) Cl (mW g h0 a (upd I 1 0) F) H := hP
    have hD : va_D A (mW g h0 a (upd I 1 0) F) := hD
    refine lv_if_ne (tgt := 44) hx hb dX4_bowOf_18 (by decide) (fun c => absurd c (by decide)) (fun _ => ?_)
    refine lv_aload_n hx hb dX4_bowOf_21 rfl (lv_at hl 0 rfl) ?_
    refine lv_iload_n hx hb dX4_bowOf_22 rfl (lv_at hl 2 rfl) ?_
    refine lv_iconst (v := 0) hx hb dX4_bowOf_23 (by decide) ?_
    refine lv_bipush (v := 6) hx hb dX4_bowOf_24 (by decide) ?_
    refine rcS (As := [.int p1, .int 0, .int 6]) (rest := [.ref h0]) (st1 := [.int (if inR p1 0 6 then 1 else 0), .ref h0]) (mX4_isIn l g E ho p1 0 6) kX4_isIn q2397 hx hb hml hown hts hRf hRl ho.1 hE hS (hP.sub [] rfl) ⟨Nat.zero_le _, Nat.zero_le _⟩ hl ⟨rfl, rfl⟩ rfl rfl (Nat.le_of_ble_eq_true rfl) rfl dX4_bowOf_26 ?_
    refine h_ifne_b (tgt := 36) hx hb dX4_bowOf_29 (by decide) (fun c_2 => ?_) (fun c_2 => ?_)
    · refine lv_iconst (v := 0) hx hb dX4_bowOf_36 (by decide) ?_
      refine lv_iconst (v := 2) hx hb dX4_bowOf_37 (by decide) ?_
      refine mcV (As := [.int 0, .int 2]) (rest := []) (wr := []) (mX4_isThrown0 l g E ho h0 a (upd I 1 0) F 2) kX4_isThrown q2574 hx hb hml hown hts hRf hRl ho.1 hE hS hP hD hA [0, 1, 2, 3, 4, 5, 6, 7, 8] [] rfl (by decide) rfl (by decide) (by decide) ⟨Nat.zero_le _, Nat.zero_le _⟩ (va_recv hK hP (ci := 0) (q0 := 0) rfl rfl) hl ⟨rfl, rfl⟩ rfl rfl (Nat.le_of_ble_eq_true rfl) dX4_bowOf_38 (fun _ H locs _ hP hD hS _ _ => ?_)
      have hP : va_P (gD g) Cl (mW g h0 a (upd I 1 0) F) H := hP
      have hD : va_D A (mW g h0 a (upd I 1 0) F) := hD
      refine lv_if_eq (tgt := 46) hx hb dX4_bowOf_41 (by decide) (fun _ => ?_) (fun c => absurd c (by decide))
      have hrj := c_1
      obtain ⟨j, hj, rfl⟩ := inR_ix hrj rfl (by omega)
      have hjc : (nI j).toNatClampNeg = j := nI_clamp (by omega)
      refine lv_iload_n hx hb dX4_bowOf_46 rfl (lv_at hl 2 rfl) ?_
      by_cases c_3 : p1 = 1
      · refine h_lsw (x := p1) (k := 1) (off := 25) (tgt := 72) hx hb dX4_bowOf_47 (by rw [c_3]; decide) (by decide) (by decide) (by decide) ?_
        refine lv_aload_n hx hb dX4_bowOf_72 rfl (lv_at hl 0 rfl) ?_
        refine lv_iload_n hx hb dX4_bowOf_73 rfl (lv_at hl 1 rfl) ?_
        refine lv_iconst (v := 2) hx hb dX4_bowOf_74 (by decide) ?_
        refine rcV (As := [.int (nI j), .int 2]) (rest := []) (st1 := [.int (F 0 (153 + 7 * j + 2))]) (mX4_ofBow l g E ho h0 a (upd I 1 0) F j 2 (by omega)) kX4_ofBow q2498 hx hb hml hown hts hRf hRl ho.1 hE hS hP (va_recv hK hP (ci := 0) (q0 := 0) rfl rfl) ⟨Nat.zero_le _, Nat.zero_le _⟩ hl ⟨rfl, rfl⟩ rfl rfl (Nat.le_of_ble_eq_true rfl) rfl dX4_bowOf_75 ?_
        have hop : gBowOf (F 0) (nI j) p1 = (0, F 0 (153 + 7 * j + 2)) := by simp only [htw, htwc, ht, htc, hh, hhc, hb6, hbc, hk5, hkc, gBowOf, hjc, eq_true c_1, eq_true c_2, eq_true c_3, if_true, if_false, not_true_eq_false, not_false_eq_true, ite_true, ite_false, reduceIte, Nat.add_zero, Nat.add_sub_cancel]
        have hW1 : (mW g h0 a (upd I 1 0) F) = mW g h0 a (upd I 1 (gBowOf (F 0) (nI j) p1).1) F := by
          rw [hop]
        rw [hW1] at hP hD
        exact hm_i hQ hx hb hr hlk rfl () (by rw [hop]) trivial hP hD hS (by decide) (by decide) dX4_bowOf_78
      by_cases c_4 : p1 = 2
      · refine h_lsw (x := p1) (k := 2) (off := 32) (tgt := 79) hx hb dX4_bowOf_47 (by rw [c_4]; decide) (by decide) (by decide) (by decide) ?_
        refine lv_aload_n hx hb dX4_bowOf_79 rfl (lv_at hl 0 rfl) ?_
        refine lv_iload_n hx hb dX4_bowOf_80 rfl (lv_at hl 1 rfl) ?_
        refine lv_iconst (v := 1) hx hb dX4_bowOf_81 (by decide) ?_
        refine rcV (As := [.int (nI j), .int 1]) (rest := []) (st1 := [.int (F 0 (153 + 7 * j + 1))]) (mX4_ofBow l g E ho h0 a (upd I 1 0) F j 1 (by omega)) kX4_ofBow q2498 hx hb hml hown hts hRf hRl ho.1 hE hS hP (va_recv hK hP (ci := 0) (q0 := 0) rfl rfl) ⟨Nat.zero_le _, Nat.zero_le _⟩ hl ⟨rfl, rfl⟩ rfl rfl (Nat.le_of_ble_eq_true rfl) rfl dX4_bowOf_82 ?_
        have hop : gBowOf (F 0) (nI j) p1 = (0, F 0 (153 + 7 * j + 1)) := by simp only [htw, htwc, ht, htc, hh, hhc, hb6, hbc, hk5, hkc, gBowOf, hjc, eq_true c_1, eq_true c_2, eq_false c_3, eq_true c_4, if_true, if_false, not_true_eq_false, not_false_eq_true, ite_true, ite_false, reduceIte, Nat.add_zero, Nat.add_sub_cancel]
        have hW1 : (mW g h0 a (upd I 1 0) F) = mW g h0 a (upd I 1 (gBowOf (F 0) (nI j) p1).1) F := by
          rw [hop]
        rw [hW1] at hP hD
        exact hm_i hQ hx hb hr hlk rfl () (by rw [hop]) trivial hP hD hS (by decide) (by decide) dX4_bowOf_85
      have e_c_3 : p1.toInt ≠ (1) := h_ne (y := 1) c_3
      have e_c_4 : p1.toInt ≠ (2) := h_ne (y := 2) c_4
      refine h_lswd (tgt := 86) hx hb dX4_bowOf_47 (by decide) (by simp [lookupswitch.offset, Ne.symm e_c_3, Ne.symm e_c_4]) (by decide) ?_
      have hrq := c_2
      obtain ⟨q, hq1, hq2, rfl⟩ := inR_lit (a := 0) (b := 6) hrq rfl rfl (by decide) (by decide)
      have hqc : (nI q).toNatClampNeg = q := nI_clamp (by omega)
      refine lv_aload_n hx hb dX4_bowOf_86 rfl (lv_at hl 0 rfl) ?_
      refine lv_iload_n hx hb dX4_bowOf_87 rfl (lv_at hl 1 rfl) ?_
      refine lv_iload_n hx hb dX4_bowOf_88 rfl (lv_at hl 2 rfl) ?_
      refine rcV (As := [.int (nI j), .int (nI q)]) (rest := []) (st1 := [.int (F 0 (153 + 7 * j + q))]) (mX4_ofBow l g E ho h0 a (upd I 1 0) F j q (by omega)) kX4_ofBow q2498 hx hb hml hown hts hRf hRl ho.1 hE hS hP (va_recv hK hP (ci := 0) (q0 := 0) rfl rfl) ⟨Nat.zero_le _, Nat.zero_le _⟩ hl ⟨rfl, rfl⟩ rfl rfl (Nat.le_of_ble_eq_true rfl) rfl dX4_bowOf_89 ?_
      have hop : gBowOf (F 0) (nI j) (nI q) = (0, F 0 (153 + 7 * j + q)) := by simp only [htw, htwc, ht, htc, hh, hhc, hb6, hbc, hk5, hkc, gBowOf, hjc, hqc, eq_true c_1, eq_true c_2, eq_false c_3, eq_false c_4, if_true, if_false, not_true_eq_false, not_false_eq_true, ite_true, ite_false, reduceIte, Nat.add_zero, Nat.add_sub_cancel]
      have hW1 : (mW g h0 a (upd I 1 0) F) = mW g h0 a (upd I 1 (gBowOf (F 0) (nI j) (nI q)).1) F := by
        rw [hop]
      rw [hW1] at hP hD
      exact hm_i hQ hx hb hr hlk rfl () (by rw [hop]) trivial hP hD hS (by decide) (by decide) dX4_bowOf_92
    refine lv_iconst (v := 1) hx hb dX4_bowOf_32 (by decide) ?_
    refine lv_goto (tgt := 37) hx hb dX4_bowOf_33 (by decide) ?_
    refine lv_iconst (v := 2) hx hb dX4_bowOf_37 (by decide) ?_
    refine mcV (As := [.int 1, .int 2]) (rest := []) (wr := []) (mX4_isThrown1 l g E ho h0 a (upd I 1 0) F 2) kX4_isThrown q2574 hx hb hml hown hts hRf hRl ho.1 hE hS hP hD hA [0, 1, 2, 3, 4, 5, 6, 7, 8] [] rfl (by decide) rfl (by decide) (by decide) ⟨Nat.zero_le _, Nat.zero_le _⟩ (va_recv hK hP (ci := 0) (q0 := 0) rfl rfl) hl ⟨rfl, rfl⟩ rfl rfl (Nat.le_of_ble_eq_true rfl) dX4_bowOf_38 (fun _ H locs _ hP hD hS _ _ => ?_)
    have hP : va_P (gD g) Cl (mW g h0 a (upd I 1 2) F) H := hP
    have hD : va_D A (mW g h0 a (upd I 1 2) F) := hD
    refine lv_if_eq (tgt := 46) hx hb dX4_bowOf_41 (by decide) (fun c => absurd c (by decide)) (fun _ => ?_)
    refine lv_iconst (v := 0) hx hb dX4_bowOf_44 (by decide) ?_
    have hop : gBowOf (F 0) p0 p1 = (2, 0) := by simp only [htw, htwc, ht, htc, hh, hhc, hb6, hbc, hk5, hkc, gBowOf, eq_true c_1, eq_false c_2, if_true, if_false, not_true_eq_false, not_false_eq_true, ite_true, ite_false, reduceIte, Nat.add_zero, Nat.add_sub_cancel]
    have hW1 : (mW g h0 a (upd I 1 2) F) = mW g h0 a (upd I 1 (gBowOf (F 0) p0 p1).1) F := by
      rw [hop]
    rw [hW1] at hP hD
    exact hm_i hQ hx hb hr hlk rfl () (by rw [hop]) trivial hP hD hS (by decide) (by decide) dX4_bowOf_45
  rw [hb6] at c_1
  refine lv_iconst (v := 1) hx hb dX4_bowOf_9 (by decide) ?_
  refine lv_goto (tgt := 14) hx hb dX4_bowOf_10 (by decide) ?_
  refine lv_iconst (v := 1) hx hb dX4_bowOf_14 (by decide) ?_
  refine mcV (As := [.int 1, .int 1]) (rest := []) (wr := []) (mX4_isThrown1 l g E ho h0 a I F 1) kX4_isThrown q2574 hx hb hml hown hts hRf hRl ho.1 hE hS hP hD hA [0, 1, 2, 3, 4, 5, 6, 7, 8] [] rfl (by decide) rfl (by decide) (by decide) ⟨Nat.zero_le _, Nat.zero_le _⟩ (va_recv hK hP (ci := 0) (q0 := 0) rfl rfl) hl ⟨rfl, rfl⟩ rfl rfl (Nat.le_of_ble_eq_true rfl) dX4_bowOf_15 (fun _ H locs _ hP hD hS _ _ => ?_)
  have hP : va_P (gD g) Cl (mW g h0 a (upd I 1 1) F) H := hP
  have hD : va_D A (mW g h0 a (upd I 1 1) F) := hD
  refine lv_if_ne (tgt := 44) hx hb dX4_bowOf_18 (by decide) (fun _ => ?_) (fun c => absurd c (by decide))
  refine lv_iconst (v := 0) hx hb dX4_bowOf_44 (by decide) ?_
  have hop : gBowOf (F 0) p0 p1 = (1, 0) := by simp only [htw, htwc, ht, htc, hh, hhc, hb6, hbc, hk5, hkc, gBowOf, eq_false c_1, if_true, if_false, not_true_eq_false, not_false_eq_true, ite_true, ite_false, reduceIte, Nat.add_zero, Nat.add_sub_cancel]
  have hW1 : (mW g h0 a (upd I 1 1) F) = mW g h0 a (upd I 1 (gBowOf (F 0) p0 p1).1) F := by
    rw [hop]
  rw [hW1] at hP hD
  exact hm_i hQ hx hb hr hlk rfl () (by rw [hop]) trivial hP hD hS (by decide) (by decide) dX4_bowOf_45
theorem kX4_cakeOf : hkV RX4 yX4_cakeOf cX4_cakeOf 2 (some .int) 1 := ⟨q2587, q2588, q78, q2589, rfl, by decide +kernel⟩
set_option maxHeartbeats 4000000 in
theorem mX4_cakeOf (l : Launch) (g : hG) (E : hEnv) (ho : mOk g E) (h0 : Nat) (a : Nat → Nat) (I : Nat → Int32) (F : Nat → Nat → Int32) (p0 : Int32) (nt : Nat) (nh : Nat) (nb : Nat) (nc : Nat) (tw : Nat) (hc : Cn (F 0) nt nh nb nc tw) : MM l yX4_cakeOf cX4_cakeOf 2 (some .int) 2 43 0 0 [.ref h0, .int p0] g E (mW g h0 a I F) (S := Unit) (fun _ => (some (.int ((gCakeOf (F 0) p0).2)))) (fun _ => True) (fun _ => mW g h0 a (upd I 1 (gCakeOf (F 0) p0).1) F) := by
  refine MM.mk (by decide) (Nat.le_of_ble_eq_true rfl) ?_
  intro p e R s m args below meth c Q A H locs ls hX hRc hRs hP hD hE hS hA hnm hl hQ
  obtain ⟨hx, hb, hr, hlk, hml, hown, hts, hRf, hRl⟩ := hX
  have hown : s.vm.findClass RX4 = some m.cls := hown
  have hK := ho.2 _ _ _ hE
  have hl : lv_has ls 2 [(0, .ref h0), (1, .int p0)] := hl
  have hc0 := hc
  obtain ⟨htw, htw6, ht, ht10, hh, hh20, hb6, hb6l, hk5, hk5l⟩ := hc
  have htc : (nI nt).toNatClampNeg = nt := nI_clamp (by omega)
  have hhc : (nI nh).toNatClampNeg = nh := nI_clamp (by omega)
  have hbc : (nI nb).toNatClampNeg = nb := nI_clamp (by omega)
  have hkc : (nI nc).toNatClampNeg = nc := nI_clamp (by omega)
  have htwc : (nI tw).toNatClampNeg = tw := nI_clamp (by omega)
  refine lv_aload_n hx hb dX4_cakeOf_0 rfl (lv_at hl 0 rfl) ?_
  refine lv_aload_n hx hb dX4_cakeOf_1 rfl (lv_at hl 0 rfl) ?_
  refine lv_iload_n hx hb dX4_cakeOf_2 rfl (lv_at hl 1 rfl) ?_
  refine rcV (As := [.int p0]) (rest := [.ref h0]) (st1 := [.int (if inR p0 0 (F 0 6 - 1) then 1 else 0), .ref h0]) (mX4_isCake l g E ho h0 a I F p0) kX4_isCake q2524 hx hb hml hown hts hRf hRl ho.1 hE hS hP (va_recv hK hP (ci := 0) (q0 := 0) rfl rfl) ⟨Nat.zero_le _, Nat.zero_le _⟩ hl ⟨rfl, rfl⟩ rfl rfl (Nat.le_of_ble_eq_true rfl) rfl dX4_cakeOf_3 ?_
  refine h_ifne_b (tgt := 13) hx hb dX4_cakeOf_6 (by decide) (fun c_1 => ?_) (fun c_1 => ?_)
  · rw [hk5] at c_1
    refine lv_iconst (v := 0) hx hb dX4_cakeOf_13 (by decide) ?_
    refine lv_iconst (v := 1) hx hb dX4_cakeOf_14 (by decide) ?_
    refine mcV (As := [.int 0, .int 1]) (rest := []) (wr := []) (mX4_isThrown0 l g E ho h0 a I F 1) kX4_isThrown q2574 hx hb hml hown hts hRf hRl ho.1 hE hS hP hD hA [0, 1, 2, 3, 4, 5, 6, 7, 8] [] rfl (by decide) rfl (by decide) (by decide) ⟨Nat.zero_le _, Nat.zero_le _⟩ (va_recv hK hP (ci := 0) (q0 := 0) rfl rfl) hl ⟨rfl, rfl⟩ rfl rfl (Nat.le_of_ble_eq_true rfl) dX4_cakeOf_15 (fun _ H locs _ hP hD hS _ _ => ?_)
    have hP : va_P (gD g) Cl (mW g h0 a (upd I 1 0) F) H := hP
    have hD : va_D A (mW g h0 a (upd I 1 0) F) := hD
    refine lv_if_eq (tgt := 25) hx hb dX4_cakeOf_18 (by decide) (fun _ => ?_) (fun c => absurd c (by decide))
    have hrj := c_1
    obtain ⟨j, hj, rfl⟩ := inR_ix hrj rfl (by omega)
    have hjc : (nI j).toNatClampNeg = j := nI_clamp (by omega)
    refine lv_aload_n hx hb dX4_cakeOf_25 rfl (lv_at hl 0 rfl) ?_
    refine va_get (D := gD g) (ci := 0) (v := .ref (a 0)) (C := RX4) (T := TX4) (N := 21) hx hb hts in_X4 hown hK hP 0 rfl rfl 0 (by decide) (hts _ q2314) (fun _ h9 => h9) rfl dX4_cakeOf_26 ?_
    refine lv_bipush (v := 28) hx hb dX4_cakeOf_29 (by decide) ?_
    refine lv_iload_n hx hb dX4_cakeOf_31 rfl (lv_at hl 1 rfl) ?_
    refine lv_iadd hx hb dX4_cakeOf_32 ?_
    refine h_topi (v := nI (28 + j)) (h_nadd (a := 28) (b := j) (rfl) (rfl)) ?_
    refine h_iald (f := (F 0)) hx hb hK hP 1 0 rfl rfl (28 + j) rfl (by omega) (by decide) dX4_cakeOf_33 ?_
    have hop : gCakeOf (F 0) (nI j) = (0, F 0 (28 + j)) := by simp only [htw, htwc, ht, htc, hh, hhc, hb6, hbc, hk5, hkc, gCakeOf, hjc, eq_true c_1, if_true, if_false, not_true_eq_false, not_false_eq_true, ite_true, ite_false, reduceIte, Nat.add_zero, Nat.add_sub_cancel]
    have hW1 : (mW g h0 a (upd I 1 0) F) = mW g h0 a (upd I 1 (gCakeOf (F 0) (nI j)).1) F := by
      rw [hop]
    rw [hW1] at hP hD
    exact hm_i hQ hx hb hr hlk rfl () (by rw [hop]) trivial hP hD hS (by decide) (by decide) dX4_cakeOf_34
  rw [hk5] at c_1
  refine lv_iconst (v := 1) hx hb dX4_cakeOf_9 (by decide) ?_
  refine lv_goto (tgt := 14) hx hb dX4_cakeOf_10 (by decide) ?_
  refine lv_iconst (v := 1) hx hb dX4_cakeOf_14 (by decide) ?_
  refine mcV (As := [.int 1, .int 1]) (rest := []) (wr := []) (mX4_isThrown1 l g E ho h0 a I F 1) kX4_isThrown q2574 hx hb hml hown hts hRf hRl ho.1 hE hS hP hD hA [0, 1, 2, 3, 4, 5, 6, 7, 8] [] rfl (by decide) rfl (by decide) (by decide) ⟨Nat.zero_le _, Nat.zero_le _⟩ (va_recv hK hP (ci := 0) (q0 := 0) rfl rfl) hl ⟨rfl, rfl⟩ rfl rfl (Nat.le_of_ble_eq_true rfl) dX4_cakeOf_15 (fun _ H locs _ hP hD hS _ _ => ?_)
  have hP : va_P (gD g) Cl (mW g h0 a (upd I 1 1) F) H := hP
  have hD : va_D A (mW g h0 a (upd I 1 1) F) := hD
  refine lv_if_eq (tgt := 25) hx hb dX4_cakeOf_18 (by decide) (fun c => absurd c (by decide)) (fun _ => ?_)
  refine lv_iconst (v := 0) hx hb dX4_cakeOf_21 (by decide) ?_
  refine lv_goto (tgt := 34) hx hb dX4_cakeOf_22 (by decide) ?_
  have hop : gCakeOf (F 0) p0 = (1, 0) := by simp only [htw, htwc, ht, htc, hh, hhc, hb6, hbc, hk5, hkc, gCakeOf, eq_false c_1, if_true, if_false, not_true_eq_false, not_false_eq_true, ite_true, ite_false, reduceIte, Nat.add_zero, Nat.add_sub_cancel]
  have hW1 : (mW g h0 a (upd I 1 1) F) = mW g h0 a (upd I 1 (gCakeOf (F 0) p0).1) F := by
    rw [hop]
  rw [hW1] at hP hD
  exact hm_i hQ hx hb hr hlk rfl () (by rw [hop]) trivial hP hD hS (by decide) (by decide) dX4_cakeOf_34
theorem kX4_sieves : hkV RX4 yX4_sieves cX4_sieves 2 (some .int) 1 := ⟨q2591, q2592, q78, q2593, rfl, by decide +kernel⟩
set_option maxHeartbeats 4000000 in
theorem mX4_sieves (l : Launch) (g : hG) (E : hEnv) (ho : mOk g E) (h0 : Nat) (a : Nat → Nat) (I : Nat → Int32) (F : Nat → Nat → Int32) (p0 : Int32) (nt : Nat) (nh : Nat) (nb : Nat) (nc : Nat) (tw : Nat) (hc : Cn (F 0) nt nh nb nc tw) : MM l yX4_sieves cX4_sieves 2 (some .int) 2 42 0 0 [.ref h0, .int p0] g E (mW g h0 a I F) (S := Unit) (fun _ => (some (.int ((gSieves (F 0) p0).2)))) (fun _ => True) (fun _ => mW g h0 a (upd I 1 (gSieves (F 0) p0).1) F) := by
  refine MM.mk (by decide) (Nat.le_of_ble_eq_true rfl) ?_
  intro p e R s m args below meth c Q A H locs ls hX hRc hRs hP hD hE hS hA hnm hl hQ
  obtain ⟨hx, hb, hr, hlk, hml, hown, hts, hRf, hRl⟩ := hX
  have hown : s.vm.findClass RX4 = some m.cls := hown
  have hK := ho.2 _ _ _ hE
  have hl : lv_has ls 2 [(0, .ref h0), (1, .int p0)] := hl
  have hc0 := hc
  obtain ⟨htw, htw6, ht, ht10, hh, hh20, hb6, hb6l, hk5, hk5l⟩ := hc
  have htc : (nI nt).toNatClampNeg = nt := nI_clamp (by omega)
  have hhc : (nI nh).toNatClampNeg = nh := nI_clamp (by omega)
  have hbc : (nI nb).toNatClampNeg = nb := nI_clamp (by omega)
  have hkc : (nI nc).toNatClampNeg = nc := nI_clamp (by omega)
  have htwc : (nI tw).toNatClampNeg = tw := nI_clamp (by omega)
  refine lv_aload_n hx hb dX4_sieves_0 rfl (lv_at hl 0 rfl) ?_
  refine lv_iload_n hx hb dX4_sieves_1 rfl (lv_at hl 1 rfl) ?_
  refine rcS (As := [.int p0]) (rest := [.ref h0]) (st1 := [.int (if inR p0 1 9 then 1 else 0), .ref h0]) (mX4_isMesh l g E ho p0) kX4_isMesh q2472 hx hb hml hown hts hRf hRl ho.1 hE hS (hP.sub [] rfl) ⟨Nat.zero_le _, Nat.zero_le _⟩ hl ⟨rfl, rfl⟩ rfl rfl (Nat.le_of_ble_eq_true rfl) rfl dX4_sieves_2 ?_
  refine h_ifne_b (tgt := 12) hx hb dX4_sieves_5 (by decide) (fun c_1 => ?_) (fun c_1 => ?_)
  · refine lv_iconst (v := 0) hx hb dX4_sieves_12 (by decide) ?_
    refine lv_iconst (v := 1) hx hb dX4_sieves_13 (by decide) ?_
    refine mcV (As := [.int 0, .int 1]) (rest := []) (wr := []) (mX4_isThrown0 l g E ho h0 a I F 1) kX4_isThrown q2574 hx hb hml hown hts hRf hRl ho.1 hE hS hP hD hA [0, 1, 2, 3, 4, 5, 6, 7, 8] [] rfl (by decide) rfl (by decide) (by decide) ⟨Nat.zero_le _, Nat.zero_le _⟩ (va_recv hK hP (ci := 0) (q0 := 0) rfl rfl) hl ⟨rfl, rfl⟩ rfl rfl (Nat.le_of_ble_eq_true rfl) dX4_sieves_14 (fun _ H locs _ hP hD hS _ _ => ?_)
    have hP : va_P (gD g) Cl (mW g h0 a (upd I 1 0) F) H := hP
    have hD : va_D A (mW g h0 a (upd I 1 0) F) := hD
    refine lv_if_eq (tgt := 24) hx hb dX4_sieves_17 (by decide) (fun _ => ?_) (fun c => absurd c (by decide))
    have hrj := c_1
    obtain ⟨j, hj1, hj2, rfl⟩ := inR_lit (a := 1) (b := 9) hrj rfl rfl (by decide) (by decide)
    have hjc : (nI j).toNatClampNeg = j := nI_clamp (by omega)
    refine lv_aload_n hx hb dX4_sieves_24 rfl (lv_at hl 0 rfl) ?_
    refine va_get (D := gD g) (ci := 0) (v := .ref (a 0)) (C := RX4) (T := TX4) (N := 21) hx hb hts in_X4 hown hK hP 0 rfl rfl 0 (by decide) (hts _ q2314) (fun _ h9 => h9) rfl dX4_sieves_25 ?_
    refine lv_bipush (v := 18) hx hb dX4_sieves_28 (by decide) ?_
    refine lv_iload_n hx hb dX4_sieves_30 rfl (lv_at hl 1 rfl) ?_
    refine lv_iadd hx hb dX4_sieves_31 ?_
    refine h_topi (v := nI (18 + j)) (h_nadd (a := 18) (b := j) (rfl) (rfl)) ?_
    refine h_iald (f := (F 0)) hx hb hK hP 1 0 rfl rfl (18 + j) rfl (by omega) (by decide) dX4_sieves_32 ?_
    have hop : gSieves (F 0) (nI j) = (0, F 0 (18 + j)) := by simp only [htw, htwc, ht, htc, hh, hhc, hb6, hbc, hk5, hkc, gSieves, hjc, eq_true c_1, if_true, if_false, not_true_eq_false, not_false_eq_true, ite_true, ite_false, reduceIte, Nat.add_zero, Nat.add_sub_cancel]
    have hW1 : (mW g h0 a (upd I 1 0) F) = mW g h0 a (upd I 1 (gSieves (F 0) (nI j)).1) F := by
      rw [hop]
    rw [hW1] at hP hD
    exact hm_i hQ hx hb hr hlk rfl () (by rw [hop]) trivial hP hD hS (by decide) (by decide) dX4_sieves_33
  refine lv_iconst (v := 1) hx hb dX4_sieves_8 (by decide) ?_
  refine lv_goto (tgt := 13) hx hb dX4_sieves_9 (by decide) ?_
  refine lv_iconst (v := 1) hx hb dX4_sieves_13 (by decide) ?_
  refine mcV (As := [.int 1, .int 1]) (rest := []) (wr := []) (mX4_isThrown1 l g E ho h0 a I F 1) kX4_isThrown q2574 hx hb hml hown hts hRf hRl ho.1 hE hS hP hD hA [0, 1, 2, 3, 4, 5, 6, 7, 8] [] rfl (by decide) rfl (by decide) (by decide) ⟨Nat.zero_le _, Nat.zero_le _⟩ (va_recv hK hP (ci := 0) (q0 := 0) rfl rfl) hl ⟨rfl, rfl⟩ rfl rfl (Nat.le_of_ble_eq_true rfl) dX4_sieves_14 (fun _ H locs _ hP hD hS _ _ => ?_)
  have hP : va_P (gD g) Cl (mW g h0 a (upd I 1 1) F) H := hP
  have hD : va_D A (mW g h0 a (upd I 1 1) F) := hD
  refine lv_if_eq (tgt := 24) hx hb dX4_sieves_17 (by decide) (fun c => absurd c (by decide)) (fun _ => ?_)
  refine lv_iconst (v := 0) hx hb dX4_sieves_20 (by decide) ?_
  refine lv_goto (tgt := 33) hx hb dX4_sieves_21 (by decide) ?_
  have hop : gSieves (F 0) p0 = (1, 0) := by simp only [htw, htwc, ht, htc, hh, hhc, hb6, hbc, hk5, hkc, gSieves, eq_false c_1, if_true, if_false, not_true_eq_false, not_false_eq_true, ite_true, ite_false, reduceIte, Nat.add_zero, Nat.add_sub_cancel]
  have hW1 : (mW g h0 a (upd I 1 1) F) = mW g h0 a (upd I 1 (gSieves (F 0) p0).1) F := by
    rw [hop]
  rw [hW1] at hP hD
  exact hm_i hQ hx hb hr hlk rfl () (by rw [hop]) trivial hP hD hS (by decide) (by decide) dX4_sieves_33
