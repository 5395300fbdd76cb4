/-! THE REFERENCE: best hanks -/
set_option maxRecDepth 100000
theorem kX4_canBeTaken : hkV RX4 yX4_canBeTaken cX4_canBeTaken 3 (some .boolean) 2 := ⟨q2600, qs49, q78, q2601, rfl, by decide +kernel⟩
set_option maxHeartbeats 4000000 in
theorem mX4_canBeTaken (l : Launch) (g : hG) (E : hEnv) (ho : mOk g E) (h0 : Nat) (a : Nat → Nat) (I : Nat → Int32) (F : Nat → Nat → Int32) (i : Nat) (kd : Int32) (hi : i < 20) : RM l yX4_canBeTaken cX4_canBeTaken 3 (some .boolean) 2 43 [.ref h0, .int (nI i), .int kd] g E (mW g h0 a I F) (some (.int (if takP (F 0) kd i then 1 else 0))) := by
  refine RM.mk (by decide) (Nat.le_of_ble_eq_true rfl) ?_
  intro p e R s m args below meth c Q ls hX hP hE hS hl hQ
  obtain ⟨hx, hb, hr, hlk, hml, hown, hts, hRf, hRl⟩ := hX
  have hown : s.vm.findClass RX4 = some m.cls := hown
  have hK := ho.2 _ _ _ hE
  have hl : lv_has ls 3 [(0, .ref h0), (1, .int (nI i)), (2, .int kd)] := hl
  refine lv_aload_n hx hb dX4_canBeTaken_0 rfl (lv_at hl 0 rfl) ?_
  refine lv_iload_n hx hb dX4_canBeTaken_1 rfl (lv_at hl 1 rfl) ?_
  refine lv_iconst (v := 1) hx hb dX4_canBeTaken_2 (by decide) ?_
  refine rcV (As := [.int (nI i), .int 1]) (rest := []) (st1 := [.int (F 0 (73 + 4 * i + 1))]) (mX4_ofHank l g E ho h0 a I F i 1 (by omega)) kX4_ofHank q2453 hx hb hml hown hts hRf hRl ho.1 hE hS hP (va_recv hK hP (ci := 0) (q0 := 0) rfl rfl) ⟨Nat.zero_le _, Nat.zero_le _⟩ hl ⟨rfl, rfl⟩ rfl rfl (Nat.le_of_ble_eq_true rfl) rfl dX4_canBeTaken_3 ?_
  refine lv_iload_n hx hb dX4_canBeTaken_6 rfl (lv_at hl 2 rfl) ?_
  refine rcS (As := [.int kd]) (rest := [.int (F 0 (73 + 4 * i + 1))]) (st1 := [.int (longK kd), .int (F 0 (73 + 4 * i + 1))]) (mX4_longEnough l g E ho kd) kX4_longEnough q2502 hx hb hml hown hts hRf hRl ho.1 hE hS (hP.sub [] rfl) ⟨Nat.zero_le _, Nat.zero_le _⟩ hl ⟨rfl, rfl⟩ rfl rfl (Nat.le_of_ble_eq_true rfl) rfl dX4_canBeTaken_7 ?_
  refine lv_icmp_lt (tgt := 30) hx hb dX4_canBeTaken_10 (by decide) (fun c_1 => ?_) (fun c_1 => ?_)
  · refine lv_iconst (v := 0) hx hb dX4_canBeTaken_30 (by decide) ?_
    exact hr_i hQ hx hb hr hlk rfl (by simp [*]) dX4_canBeTaken_31
  refine lv_aload_n hx hb dX4_canBeTaken_13 rfl (lv_at hl 0 rfl) ?_
  refine lv_iload_n hx hb dX4_canBeTaken_14 rfl (lv_at hl 1 rfl) ?_
  refine lv_iconst (v := 2) hx hb dX4_canBeTaken_15 (by decide) ?_
  refine rcV (As := [.int (nI i), .int 2]) (rest := []) (st1 := [.int (F 0 (73 + 4 * i + 2))]) (mX4_ofHank l g E ho h0 a I F i 2 (by omega)) kX4_ofHank q2453 hx hb hml hown hts hRf hRl ho.1 hE hS hP (va_recv hK hP (ci := 0) (q0 := 0) rfl rfl) ⟨Nat.zero_le _, Nat.zero_le _⟩ hl ⟨rfl, rfl⟩ rfl rfl (Nat.le_of_ble_eq_true rfl) rfl dX4_canBeTaken_16 ?_
  refine lv_iload_n hx hb dX4_canBeTaken_19 rfl (lv_at hl 2 rfl) ?_
  refine rcS (As := [.int kd]) (rest := [.int (F 0 (73 + 4 * i + 2))]) (st1 := [.int (needsK kd), .int (F 0 (73 + 4 * i + 2))]) (mX4_needs l g E ho kd) kX4_needs q2505 hx hb hml hown hts hRf hRl ho.1 hE hS (hP.sub [] rfl) ⟨Nat.zero_le _, Nat.zero_le _⟩ hl ⟨rfl, rfl⟩ rfl rfl (Nat.le_of_ble_eq_true rfl) rfl dX4_canBeTaken_20 ?_
  refine lv_icmp_lt (tgt := 30) hx hb dX4_canBeTaken_23 (by decide) (fun c_2 => ?_) (fun c_2 => ?_)
  · refine lv_iconst (v := 0) hx hb dX4_canBeTaken_30 (by decide) ?_
    exact hr_i hQ hx hb hr hlk rfl (by simp [*]) dX4_canBeTaken_31
  refine lv_iconst (v := 1) hx hb dX4_canBeTaken_26 (by decide) ?_
  refine lv_goto (tgt := 31) hx hb dX4_canBeTaken_27 (by decide) ?_
  exact hr_i hQ hx hb hr hlk rfl (by simp [*]) dX4_canBeTaken_31
theorem kX4_isAhead : hkV RX4 yX4_isAhead cX4_isAhead 5 (some .boolean) 2 := ⟨q2608, qs50, q78, q2609, rfl, by decide +kernel⟩
set_option maxHeartbeats 4000000 in
theorem mX4_isAhead (l : Launch) (g : hG) (E : hEnv) (ho : mOk g E) (h0 : Nat) (a : Nat → Nat) (I : Nat → Int32) (F : Nat → Nat → Int32) (i : Nat) (j : Nat) (hi : i < 20) (hj : j < 20) : RM l yX4_isAhead cX4_isAhead 5 (some .boolean) 3 66 [.ref h0, .int (nI i), .int (nI j)] g E (mW g h0 a I F) (some (.int (if aheadP (F 0) i j then 1 else 0))) := by
  refine RM.mk (by decide) (Nat.le_of_ble_eq_true rfl) ?_
  intro p e R s m args below meth c Q ls hX hP hE hS hl hQ
  obtain ⟨hx, hb, hr, hlk, hml, hown, hts, hRf, hRl⟩ := hX
  have hown : s.vm.findClass RX4 = some m.cls := hown
  have hK := ho.2 _ _ _ hE
  have hl : lv_has ls 5 [(0, .ref h0), (1, .int (nI i)), (2, .int (nI j))] := hl
  refine lv_aload_n hx hb dX4_isAhead_0 rfl (lv_at hl 0 rfl) ?_
  refine lv_iload_n hx hb dX4_isAhead_1 rfl (lv_at hl 1 rfl) ?_
  refine rcV (As := [.int (nI i)]) (rest := []) (st1 := [.int (grade (F 0) i)]) (mX4_gradeBy l g E ho h0 a I F i (by omega)) kX4_gradeBy q2508 hx hb hml hown hts hRf hRl ho.1 hE hS hP (va_recv hK hP (ci := 0) (q0 := 0) rfl rfl) ⟨Nat.zero_le _, Nat.zero_le _⟩ hl ⟨rfl, rfl⟩ rfl rfl (Nat.le_of_ble_eq_true rfl) rfl dX4_isAhead_2 ?_
  refine lv_aload_n hx hb dX4_isAhead_5 rfl (lv_at hl 0 rfl) ?_
  refine lv_iload_n hx hb dX4_isAhead_6 rfl (lv_at hl 2 rfl) ?_
  refine rcV (As := [.int (nI j)]) (rest := [.int (grade (F 0) i)]) (st1 := [.int (grade (F 0) j), .int (grade (F 0) i)]) (mX4_gradeBy l g E ho h0 a I F j (by omega)) kX4_gradeBy q2508 hx hb hml hown hts hRf hRl ho.1 hE hS hP (va_recv hK hP (ci := 0) (q0 := 0) rfl rfl) ⟨Nat.zero_le _, Nat.zero_le _⟩ hl ⟨rfl, rfl⟩ rfl rfl (Nat.le_of_ble_eq_true rfl) rfl dX4_isAhead_7 ?_
  refine lv_isub hx hb dX4_isAhead_10 ?_
  refine lv_istore_n (lv' := [(3, .int ((grade (F 0) i) - (grade (F 0) j))), (0, .ref h0), (1, .int (nI i)), (2, .int (nI j))]) hx hb dX4_isAhead_11 rfl hl (by decide) rfl (fun ls hl => ?_)
  refine lv_iload_n hx hb dX4_isAhead_12 rfl (lv_at hl 0 rfl) ?_
  refine lv_if_eq (tgt := 26) hx hb dX4_isAhead_13 (by decide) (fun c_1 => ?_) (fun c_1 => ?_)
  · refine lv_aload_n hx hb dX4_isAhead_26 rfl (lv_at hl 1 rfl) ?_
    refine lv_iload_n hx hb dX4_isAhead_27 rfl (lv_at hl 2 rfl) ?_
    refine lv_iconst (v := 2) hx hb dX4_isAhead_28 (by decide) ?_
    refine rcV (As := [.int (nI i), .int 2]) (rest := []) (st1 := [.int (F 0 (73 + 4 * i + 2))]) (mX4_ofHank l g E ho h0 a I F i 2 (by omega)) kX4_ofHank q2453 hx hb hml hown hts hRf hRl ho.1 hE hS hP (va_recv hK hP (ci := 0) (q0 := 0) rfl rfl) ⟨Nat.zero_le _, Nat.zero_le _⟩ hl ⟨rfl, rfl⟩ rfl rfl (Nat.le_of_ble_eq_true rfl) rfl dX4_isAhead_29 ?_
    refine lv_aload_n hx hb dX4_isAhead_32 rfl (lv_at hl 1 rfl) ?_
    refine lv_iload_n hx hb dX4_isAhead_33 rfl (lv_at hl 3 rfl) ?_
    refine lv_iconst (v := 2) hx hb dX4_isAhead_34 (by decide) ?_
    refine rcV (As := [.int (nI j), .int 2]) (rest := [.int (F 0 (73 + 4 * i + 2))]) (st1 := [.int (F 0 (73 + 4 * j + 2)), .int (F 0 (73 + 4 * i + 2))]) (mX4_ofHank l g E ho h0 a I F j 2 (by omega)) kX4_ofHank q2453 hx hb hml hown hts hRf hRl ho.1 hE hS hP (va_recv hK hP (ci := 0) (q0 := 0) rfl rfl) ⟨Nat.zero_le _, Nat.zero_le _⟩ hl ⟨rfl, rfl⟩ rfl rfl (Nat.le_of_ble_eq_true rfl) rfl dX4_isAhead_35 ?_
    refine lv_isub hx hb dX4_isAhead_38 ?_
    refine lv_istore (lv' := [(4, .int ((F 0 (73 + 4 * i + 2)) - (F 0 (73 + 4 * j + 2)))), (3, .int ((grade (F 0) i) - (grade (F 0) j))), (0, .ref h0), (1, .int (nI i)), (2, .int (nI j))]) hx hb dX4_isAhead_39 hl (by decide) rfl (fun ls hl => ?_)
    refine lv_iload hx hb dX4_isAhead_41 (lv_at hl 0 rfl) ?_
    refine lv_if_eq (tgt := 59) hx hb dX4_isAhead_43 (by decide) (fun c_2 => ?_) (fun c_2 => ?_)
    · refine lv_iload_n hx hb dX4_isAhead_59 rfl (lv_at hl 3 rfl) ?_
      refine lv_iload_n hx hb dX4_isAhead_60 rfl (lv_at hl 4 rfl) ?_
      refine lv_icmp_ge (tgt := 68) hx hb dX4_isAhead_61 (by decide) (fun c_3 => ?_) (fun c_3 => ?_)
      · refine lv_iconst (v := 0) hx hb dX4_isAhead_68 (by decide) ?_
        exact hr_i hQ hx hb hr hlk rfl (by simp [*]) dX4_isAhead_69
      refine lv_iconst (v := 1) hx hb dX4_isAhead_64 (by decide) ?_
      refine lv_goto (tgt := 69) hx hb dX4_isAhead_65 (by decide) ?_
      exact hr_i hQ hx hb hr hlk rfl (by simp [*]) dX4_isAhead_69
    refine lv_iload hx hb dX4_isAhead_46 (lv_at hl 0 rfl) ?_
    refine lv_if_ge (tgt := 55) hx hb dX4_isAhead_48 (by decide) (fun c_4 => ?_) (fun c_4 => ?_)
    · refine lv_iconst (v := 0) hx hb dX4_isAhead_55 (by decide) ?_
      refine lv_goto (tgt := 69) hx hb dX4_isAhead_56 (by decide) ?_
      exact hr_i hQ hx hb hr hlk rfl (by simp [*]) dX4_isAhead_69
    refine lv_iconst (v := 1) hx hb dX4_isAhead_51 (by decide) ?_
    refine lv_goto (tgt := 69) hx hb dX4_isAhead_52 (by decide) ?_
    exact hr_i hQ hx hb hr hlk rfl (by simp [*]) dX4_isAhead_69
  refine lv_iload_n hx hb dX4_isAhead_16 rfl (lv_at hl 0 rfl) ?_
  refine lv_if_le (tgt := 24) hx hb dX4_isAhead_17 (by decide) (fun c_5 => ?_) (fun c_5 => ?_)
  · refine lv_iconst (v := 0) hx hb dX4_isAhead_24 (by decide) ?_
    exact hr_i hQ hx hb hr hlk rfl (by simp [*]) dX4_isAhead_25
  refine lv_iconst (v := 1) hx hb dX4_isAhead_20 (by decide) ?_
  refine lv_goto (tgt := 25) hx hb dX4_isAhead_21 (by decide) ?_
  exact hr_i hQ hx hb hr hlk rfl (by simp [*]) dX4_isAhead_25
theorem kX4_bestHank : hkV RX4 yX4_bestHank cX4_bestHank 6 (some .int) 1 := ⟨q2595, q2596, q78, q2597, rfl, by decide +kernel⟩
set_option maxHeartbeats 4000000 in
theorem mX4_bestHank (l : Launch) (g : hG) (E : hEnv) (ho : mOk g E) (h0 : Nat) (a : Nat → Nat) (I : Nat → Int32) (F : Nat → Nat → Int32) (p0 : Int32) (nt : Nat) (nh : Nat) (nb : Nat) (nc : Nat) (tw : Nat) (hc : Cn (F 0) nt nh nb nc tw) : MM l yX4_bestHank cX4_bestHank 6 (some .int) 3 66 0 0 [.ref h0, .int p0] g E (mW g h0 a I F) (S := Unit) (fun _ => (some (.int ((gBestHank (F 0) p0).2)))) (fun _ => True) (fun _ => mW g h0 a (upd I 1 (gBestHank (F 0) p0).1) F) := by
  refine MM.mk (by decide) (Nat.le_of_ble_eq_true rfl) ?_
  intro p e R s m args below meth c Q A H locs ls hX hRc hRs hP hD hE hS hA hnm hl hQ
  obtain ⟨hx, hb, hr, hlk, hml, hown, hts, hRf, hRl⟩ := hX
  have hown : s.vm.findClass RX4 = some m.cls := hown
  have hK := ho.2 _ _ _ hE
  have hl : lv_has ls 6 [(0, .ref h0), (1, .int p0)] := hl
  have hc0 := hc
  obtain ⟨htw, htw6, ht, ht10, hh, hh20, hb6, hb6l, hk5, hk5l⟩ := hc
  have htc : (nI nt).toNatClampNeg = nt := nI_clamp (by omega)
  have hhc : (nI nh).toNatClampNeg = nh := nI_clamp (by omega)
  have hbc : (nI nb).toNatClampNeg = nb := nI_clamp (by omega)
  have hkc : (nI nc).toNatClampNeg = nc := nI_clamp (by omega)
  have htwc : (nI tw).toNatClampNeg = tw := nI_clamp (by omega)
  refine lv_aload_n hx hb dX4_bestHank_0 rfl (lv_at hl 0 rfl) ?_
  refine lv_aload_n hx hb dX4_bestHank_1 rfl (lv_at hl 0 rfl) ?_
  refine lv_iload_n hx hb dX4_bestHank_2 rfl (lv_at hl 1 rfl) ?_
  refine rcV (As := [.int p0]) (rest := [.ref h0]) (st1 := [.int (if inR p0 0 (F 0 5 - 1) then 1 else 0), .ref h0]) (mX4_isBow l g E ho h0 a I F p0) kX4_isBow q2494 hx hb hml hown hts hRf hRl ho.1 hE hS hP (va_recv hK hP (ci := 0) (q0 := 0) rfl rfl) ⟨Nat.zero_le _, Nat.zero_le _⟩ hl ⟨rfl, rfl⟩ rfl rfl (Nat.le_of_ble_eq_true rfl) rfl dX4_bestHank_3 ?_
  refine h_ifne_b (tgt := 13) hx hb dX4_bestHank_6 (by decide) (fun c_1 => ?_) (fun c_1 => ?_)
  · rw [hb6] at c_1
    refine lv_iconst (v := 0) hx hb dX4_bestHank_13 (by decide) ?_
    refine lv_iconst (v := 1) hx hb dX4_bestHank_14 (by decide) ?_
    refine mcV (As := [.int 0, .int 1]) (rest := []) (wr := []) (mX4_isThrown0 l g E ho h0 a I F 1) kX4_isThrown q2574 hx hb hml hown hts hRf hRl ho.1 hE hS hP hD hA [0, 1, 2, 3, 4, 5, 6, 7, 8] [] rfl (by decide) rfl (by decide) (by decide) ⟨Nat.zero_le _, Nat.zero_le _⟩ (va_recv hK hP (ci := 0) (q0 := 0) rfl rfl) hl ⟨rfl, rfl⟩ rfl rfl (Nat.le_of_ble_eq_true rfl) dX4_bestHank_15 (fun _ H locs _ hP hD hS _ _ => ?_)
    have hP : va_P (gD g) Cl (mW g h0 a (upd I 1 0) F) H := hP
    have hD : va_D A (mW g h0 a (upd I 1 0) F) := hD
    refine lv_if_eq (tgt := 23) hx hb dX4_bestHank_18 (by decide) (fun _ => ?_) (fun c => absurd c (by decide))
    have hrj := c_1
    obtain ⟨j, hj, rfl⟩ := inR_ix hrj rfl (by omega)
    have hjc : (nI j).toNatClampNeg = j := nI_clamp (by omega)
    refine lv_iconst (v := 2) hx hb dX4_bestHank_23 (by decide) ?_
    refine lv_istore_n (lv' := [(2, .int 2), (0, .ref h0), (1, .int (nI j))]) hx hb dX4_bestHank_24 rfl hl (by decide) rfl (fun ls hl => ?_)
    refine lv_iload_n hx hb dX4_bestHank_25 rfl (lv_at hl 0 rfl) ?_
    refine lv_if_lt (tgt := 127) hx hb dX4_bestHank_26 (by decide) (fun c => absurd c (by decide)) (fun _ => ?_)
    refine lv_iconst (v := (-1)) hx hb dX4_bestHank_29 (by decide) ?_
    refine lv_istore_n (lv' := [(3, .int (-1)), (2, .int 2), (0, .ref h0), (1, .int (nI j))]) hx hb dX4_bestHank_30 rfl hl (by decide) rfl (fun ls hl => ?_)
    refine lv_iconst (v := 0) hx hb dX4_bestHank_31 (by decide) ?_
    refine lv_istore (lv' := [(4, .int 0), (3, .int (-1)), (2, .int 2), (0, .ref h0), (1, .int (nI j))]) hx hb dX4_bestHank_32 hl (by decide) rfl (fun ls hl => ?_)
    have loop_34 : ∀ (k : Nat) (i2 : Nat) (b2 : Int32), (nh < i2 + k ∧ i2 ≤ nh ∧ b2 = bestK (F 0) (F 0 (153 + 7 * j)) 2 i2) → ∀ (H : Heap) (locs : List Loc), va_P (gD g) Cl (mW g h0 a (upd I 1 0) F) H → va_D A (mW g h0 a (upd I 1 0) F) → va_S A s.heap H locs → ∀ (ls : Array Slot), lv_has ls 6 [(4, .int (nI i2)), (3, .int b2), (2, .int 2), (0, .ref h0), (1, .int (nI j))] → W p l e R s m args below meth c H locs 0 0 Q (F0 m 34 ls []) := by
      intro k
      induction k with
      | zero =>
        intro i2 b2 hi2 H locs hP hD hS ls hl
        exact absurd hi2.1 (by omega)
      | succ k ih_34 =>
        intro i2 b2 hi2 H locs hP hD hS ls hl
        obtain ⟨hi2_1, hi2_2, hi2_3⟩ := hi2
        refine lv_iload hx hb dX4_bestHank_34 (lv_at hl 0 rfl) ?_
        refine lv_aload_n hx hb dX4_bestHank_36 rfl (lv_at hl 3 rfl) ?_
        refine va_get (D := gD g) (ci := 0) (v := .ref (a 0)) (C := RX4) (T := TX4) (N := 21) hx hb hts in_X4 hown hK hP 0 rfl rfl 0 (by decide) (hts _ q2314) (fun _ h9 => h9) rfl dX4_bestHank_37 ?_
        refine lv_iconst (v := 4) hx hb dX4_bestHank_40 (by decide) ?_
        refine h_iald (f := (F 0)) hx hb hK hP 1 0 rfl rfl 4 rfl (by decide) (by decide) dX4_bestHank_41 ?_
        refine h_topi (v := nI nh) (hh) ?_
        refine lv_icmp_ge (tgt := 115) hx hb dX4_bestHank_42 (by decide) (fun c_2 => ?_) (fun c_2 => ?_)
        · have hiq : i2 = nh := by
            rcases Nat.lt_or_ge i2 nh with z | z
            · exact absurd c_2 (nI_ge z (by omega))
            · omega
          rw [hiq] at hi2_3
          refine lv_iload_n hx hb dX4_bestHank_115 rfl (lv_at hl 1 rfl) ?_
          refine lv_if_lt (tgt := 121) hx hb dX4_bestHank_116 (by decide) (fun c_3 => ?_) (fun c_3 => ?_)
          · refine lv_iinc (v := 1) (lv' := [(2, .int 1), (4, .int (nI i2)), (3, .int b2), (0, .ref h0), (1, .int (nI j))]) hx hb dX4_bestHank_121 hl (k := 2) rfl (by decide) (by decide) rfl (fun ls hl => ?_)
            refine lv_goto (tgt := 25) hx hb dX4_bestHank_124 (by decide) ?_
            refine lv_iload_n hx hb dX4_bestHank_25 rfl (lv_at hl 0 rfl) ?_
            refine lv_if_lt (tgt := 127) hx hb dX4_bestHank_26 (by decide) (fun c => absurd c (by decide)) (fun _ => ?_)
            refine lv_iconst (v := (-1)) hx hb dX4_bestHank_29 (by decide) ?_
            refine lv_istore_n (lv' := [(3, .int (-1)), (2, .int 1), (4, .int (nI i2)), (0, .ref h0), (1, .int (nI j))]) hx hb dX4_bestHank_30 rfl hl (by decide) rfl (fun ls hl => ?_)
            refine lv_iconst (v := 0) hx hb dX4_bestHank_31 (by decide) ?_
            refine lv_istore (lv' := [(4, .int 0), (3, .int (-1)), (2, .int 1), (0, .ref h0), (1, .int (nI j))]) hx hb dX4_bestHank_32 hl (by decide) rfl (fun ls hl => ?_)
            have loop_34 : ∀ (k : Nat) (i1 : Nat) (b1 : Int32), (nh < i1 + k ∧ i1 ≤ nh ∧ b1 = bestK (F 0) (F 0 (153 + 7 * j)) 1 i1) → ∀ (H : Heap) (locs : List Loc), va_P (gD g) Cl (mW g h0 a (upd I 1 0) F) H → va_D A (mW g h0 a (upd I 1 0) F) → va_S A s.heap H locs → ∀ (ls : Array Slot), lv_has ls 6 [(4, .int (nI i1)), (3, .int b1), (2, .int 1), (0, .ref h0), (1, .int (nI j))] → W p l e R s m args below meth c H locs 0 0 Q (F0 m 34 ls []) := by
              intro k
              induction k with
              | zero =>
                intro i1 b1 hi1 H locs hP hD hS ls hl
                exact absurd hi1.1 (by omega)
              | succ k ih_34 =>
                intro i1 b1 hi1 H locs hP hD hS ls hl
                obtain ⟨hi1_1, hi1_2, hi1_3⟩ := hi1
                refine lv_iload hx hb dX4_bestHank_34 (lv_at hl 0 rfl) ?_
                refine lv_aload_n hx hb dX4_bestHank_36 rfl (lv_at hl 3 rfl) ?_
                refine va_get (D := gD g) (ci := 0) (v := .ref (a 0)) (C := RX4) (T := TX4) (N := 21) hx hb hts in_X4 hown hK hP 0 rfl rfl 0 (by decide) (hts _ q2314) (fun _ h9 => h9) rfl dX4_bestHank_37 ?_
                refine lv_iconst (v := 4) hx hb dX4_bestHank_40 (by decide) ?_
                refine h_iald (f := (F 0)) hx hb hK hP 1 0 rfl rfl 4 rfl (by decide) (by decide) dX4_bestHank_41 ?_
                refine h_topi (v := nI nh) (hh) ?_
                refine lv_icmp_ge (tgt := 115) hx hb dX4_bestHank_42 (by decide) (fun c_4 => ?_) (fun c_4 => ?_)
                · have hiq : i1 = nh := by
                    rcases Nat.lt_or_ge i1 nh with z | z
                    · exact absurd c_4 (nI_ge z (by omega))
                    · omega
                  rw [hiq] at hi1_3
                  refine lv_iload_n hx hb dX4_bestHank_115 rfl (lv_at hl 1 rfl) ?_
                  refine lv_if_lt (tgt := 121) hx hb dX4_bestHank_116 (by decide) (fun c_5 => ?_) (fun c_5 => ?_)
                  · refine lv_iinc (v := 0) (lv' := [(2, .int 0), (4, .int (nI i1)), (3, .int b1), (0, .ref h0), (1, .int (nI j))]) hx hb dX4_bestHank_121 hl (k := 2) rfl (by decide) (by decide) rfl (fun ls hl => ?_)
                    refine lv_goto (tgt := 25) hx hb dX4_bestHank_124 (by decide) ?_
                    refine lv_iload_n hx hb dX4_bestHank_25 rfl (lv_at hl 0 rfl) ?_
                    refine lv_if_lt (tgt := 127) hx hb dX4_bestHank_26 (by decide) (fun c => absurd c (by decide)) (fun _ => ?_)
                    refine lv_iconst (v := (-1)) hx hb dX4_bestHank_29 (by decide) ?_
                    refine lv_istore_n (lv' := [(3, .int (-1)), (2, .int 0), (4, .int (nI i1)), (0, .ref h0), (1, .int (nI j))]) hx hb dX4_bestHank_30 rfl hl (by decide) rfl (fun ls hl => ?_)
                    refine lv_iconst (v := 0) hx hb dX4_bestHank_31 (by decide) ?_
                    refine lv_istore (lv' := [(4, .int 0), (3, .int (-1)), (2, .int 0), (0, .ref h0), (1, .int (nI j))]) hx hb dX4_bestHank_32 hl (by decide) rfl (fun ls hl => ?_)
                    have loop_34 : ∀ (k : Nat) (i0 : Nat) (b0 : Int32), (nh < i0 + k ∧ i0 ≤ nh ∧ b0 = bestK (F 0) (F 0 (153 + 7 * j)) 0 i0) → ∀ (H : Heap) (locs : List Loc), va_P (gD g) Cl (mW g h0 a (upd I 1 0) F) H → va_D A (mW g h0 a (upd I 1 0) F) → va_S A s.heap H locs → ∀ (ls : Array Slot), lv_has ls 6 [(4, .int (nI i0)), (3, .int b0), (2, .int 0), (0, .ref h0), (1, .int (nI j))] → W p l e R s m args below meth c H locs 0 0 Q (F0 m 34 ls []) := by
                      intro k
                      induction k with
                      | zero =>
                        intro i0 b0 hi0 H locs hP hD hS ls hl
                        exact absurd hi0.1 (by omega)
                      | succ k ih_34 =>
                        intro i0 b0 hi0 H locs hP hD hS ls hl
                        obtain ⟨hi0_1, hi0_2, hi0_3⟩ := hi0
                        refine lv_iload hx hb dX4_bestHank_34 (lv_at hl 0 rfl) ?_
                        refine lv_aload_n hx hb dX4_bestHank_36 rfl (lv_at hl 3 rfl) ?_
                        refine va_get (D := gD g) (ci := 0) (v := .ref (a 0)) (C := RX4) (T := TX4) (N := 21) hx hb hts in_X4 hown hK hP 0 rfl rfl 0 (by decide) (hts _ q2314) (fun _ h9 => h9) rfl dX4_bestHank_37 ?_
                        refine lv_iconst (v := 4) hx hb dX4_bestHank_40 (by decide) ?_
                        refine h_iald (f := (F 0)) hx hb hK hP 1 0 rfl rfl 4 rfl (by decide) (by decide) dX4_bestHank_41 ?_
                        refine h_topi (v := nI nh) (hh) ?_
                        refine lv_icmp_ge (tgt := 115) hx hb dX4_bestHank_42 (by decide) (fun c_6 => ?_) (fun c_6 => ?_)
                        · have hiq : i0 = nh := by
                            rcases Nat.lt_or_ge i0 nh with z | z
                            · exact absurd c_6 (nI_ge z (by omega))
                            · omega
                          rw [hiq] at hi0_3
                          refine lv_iload_n hx hb dX4_bestHank_115 rfl (lv_at hl 1 rfl) ?_
                          refine lv_if_lt (tgt := 121) hx hb dX4_bestHank_116 (by decide) (fun c_7 => ?_) (fun c_7 => ?_)
                          · refine lv_iinc (v := (-1)) (lv' := [(2, .int (-1)), (4, .int (nI i0)), (3, .int b0), (0, .ref h0), (1, .int (nI j))]) hx hb dX4_bestHank_121 hl (k := 2) rfl (by decide) (by decide) rfl (fun ls hl => ?_)
                            refine lv_goto (tgt := 25) hx hb dX4_bestHank_124 (by decide) ?_
                            refine lv_iload_n hx hb dX4_bestHank_25 rfl (lv_at hl 0 rfl) ?_
                            refine lv_if_lt (tgt := 127) hx hb dX4_bestHank_26 (by decide) (fun _ => ?_) (fun c => absurd c (by decide))
                            refine lv_aload_n hx hb dX4_bestHank_127 rfl (lv_at hl 3 rfl) ?_
                            refine lv_iconst (v := 2) hx hb dX4_bestHank_128 (by decide) ?_
                            refine va_put (D := gD g) (ci := 0) (v := .int 2) (ty := .int) (C := RX4) (T := TX4) (N := 21) hx hb hts in_X4 tyX4 tyX4_ok nmX4 hown hK hP hD hS 0 rfl rfl 5 (by decide) (hts _ q2319) (fun _ h9 => h9) rfl (by decide +kernel) rfl rfl (Nat.le_of_ble_eq_true rfl) dX4_bestHank_129 (fun H locs hP hD hS => ?_)
                            have hP : va_P (gD g) Cl (mW g h0 a (upd I 1 2) F) H := hP
                            have hD : va_D A (mW g h0 a (upd I 1 2) F) := hD
                            refine lv_iconst (v := 0) hx hb dX4_bestHank_132 (by decide) ?_
                            have hop : gBestHank (F 0) (nI j) = (2, 0) := by simp only [htw, htwc, ht, htc, hh, hhc, hb6, hbc, hk5, hkc, gBestHank, hjc, ← hi2_3, ← hi1_3, ← hi0_3, eq_true c_1, eq_true c_2, eq_false (Int32.not_lt.mpr c_2), eq_true c_3, eq_false (Int32.not_le.mpr c_3), eq_true c_4, eq_false (Int32.not_lt.mpr c_4), eq_true c_5, eq_false (Int32.not_le.mpr c_5), eq_true c_6, eq_false (Int32.not_lt.mpr c_6), eq_true c_7, eq_false (Int32.not_le.mpr c_7), if_true, if_false, not_true_eq_false, not_false_eq_true, ite_true, ite_false, reduceIte, Nat.add_zero, Nat.add_sub_cancel]
                            have hW1 : (mW g h0 a (upd I 1 2) F) = mW g h0 a (upd I 1 (gBestHank (F 0) (nI j)).1) F := by
                              rw [hop]
                            rw [hW1] at hP hD
                            exact hm_i hQ hx hb hr hlk rfl () (by rw [hop]) trivial hP hD hS (by decide) (by decide) dX4_bestHank_133
                          refine lv_iload_n hx hb dX4_bestHank_119 rfl (lv_at hl 1 rfl) ?_
                          have hop : gBestHank (F 0) (nI j) = (0, b0) := by simp only [htw, htwc, ht, htc, hh, hhc, hb6, hbc, hk5, hkc, gBestHank, hjc, ← hi2_3, ← hi1_3, ← hi0_3, eq_true c_1, eq_true c_2, eq_false (Int32.not_lt.mpr c_2), eq_true c_3, eq_false (Int32.not_le.mpr c_3), eq_true c_4, eq_false (Int32.not_lt.mpr c_4), eq_true c_5, eq_false (Int32.not_le.mpr c_5), eq_true c_6, eq_false (Int32.not_lt.mpr c_6), eq_false c_7, eq_true (Int32.not_lt.mp c_7), if_true, if_false, not_true_eq_false, not_false_eq_true, ite_true, ite_false, reduceIte, Nat.add_zero, Nat.add_sub_cancel]
                          have hW1 : (mW g h0 a (upd I 1 0) F) = mW g h0 a (upd I 1 (gBestHank (F 0) (nI j)).1) F := by
                            rw [hop]
                          rw [hW1] at hP hD
                          exact hm_i hQ hx hb hr hlk rfl () (by rw [hop]) trivial hP hD hS (by decide) (by decide) dX4_bestHank_120
                        have hlt : i0 < nh := by
                          rcases Nat.lt_or_ge i0 nh with z | z
                          · exact z
                          · exact absurd (nI_le z (by omega)) c_6
                        refine lv_aload_n hx hb dX4_bestHank_45 rfl (lv_at hl 3 rfl) ?_
                        refine lv_iload hx hb dX4_bestHank_46 (lv_at hl 0 rfl) ?_
                        refine lv_aload_n hx hb dX4_bestHank_48 rfl (lv_at hl 3 rfl) ?_
                        refine lv_iload_n hx hb dX4_bestHank_49 rfl (lv_at hl 4 rfl) ?_
                        refine lv_iconst (v := 0) hx hb dX4_bestHank_50 (by decide) ?_
                        refine rcV (As := [.int (nI j), .int 0]) (rest := [.int (nI i0), .ref h0]) (st1 := [.int (F 0 (153 + 7 * j)), .int (nI i0), .ref h0]) (mX4_ofBow l g E ho h0 a (upd I 1 0) F j 0 (by omega)) kX4_ofBow q2498 hx hb hml hown hts hRf hRl ho.1 hE hS hP (va_recv hK hP (ci := 0) (q0 := 0) rfl rfl) ⟨Nat.zero_le _, Nat.zero_le _⟩ hl ⟨rfl, rfl⟩ rfl rfl (Nat.le_of_ble_eq_true rfl) rfl dX4_bestHank_51 ?_
                        refine rcV (As := [.int (nI i0), .int (F 0 (153 + 7 * j))]) (rest := []) (st1 := [.int (if takP (F 0) (F 0 (153 + 7 * j)) i0 then 1 else 0)]) (mX4_canBeTaken l g E ho h0 a (upd I 1 0) F i0 (F 0 (153 + 7 * j)) (by omega)) kX4_canBeTaken q2598 hx hb hml hown hts hRf hRl ho.1 hE hS hP (va_recv hK hP (ci := 0) (q0 := 0) rfl rfl) ⟨Nat.zero_le _, Nat.zero_le _⟩ hl ⟨rfl, rfl⟩ rfl rfl (Nat.le_of_ble_eq_true rfl) rfl dX4_bestHank_54 ?_
                        refine h_ifeq_b (tgt := 74) hx hb dX4_bestHank_57 (by decide) (fun c_8 => ?_) (fun c_8 => ?_)
                        · refine lv_iconst (v := 0) hx hb dX4_bestHank_74 (by decide) ?_
                          refine lv_istore (lv' := [(5, .int 0), (4, .int (nI i0)), (3, .int b0), (2, .int 0), (0, .ref h0), (1, .int (nI j))]) hx hb dX4_bestHank_75 hl (by decide) rfl (fun ls hl => ?_)
                          refine lv_iload hx hb dX4_bestHank_77 (lv_at hl 0 rfl) ?_
                          refine lv_if_eq (tgt := 107) hx hb dX4_bestHank_79 (by decide) (fun _ => ?_) (fun c => absurd c (by decide))
                          refine lv_iload_n hx hb dX4_bestHank_107 rfl (lv_at hl 2 rfl) ?_
                          refine lv_istore_n (lv' := [(3, .int b0), (5, .int 0), (4, .int (nI i0)), (2, .int 0), (0, .ref h0), (1, .int (nI j))]) hx hb dX4_bestHank_108 rfl hl (by decide) rfl (fun ls hl => ?_)
                          refine lv_iinc (v := nI (i0 + 1)) (lv' := [(4, .int (nI (i0 + 1))), (3, .int b0), (5, .int 0), (2, .int 0), (0, .ref h0), (1, .int (nI j))]) hx hb dX4_bestHank_109 hl (k := 2) rfl (h_ninc (a := i0) (k := 1) (rfl)) (by decide) rfl (fun ls hl => ?_)
                          refine lv_goto (tgt := 34) hx hb dX4_bestHank_112 (by decide) ?_
                          exact ih_34 (i0 + 1) b0 ⟨by omega, by omega, by simp only [bestK, ← hi0_3, eq_true c_1, eq_true c_2, eq_false (Int32.not_lt.mpr c_2), eq_true c_3, eq_false (Int32.not_le.mpr c_3), eq_true c_4, eq_false (Int32.not_lt.mpr c_4), eq_true c_5, eq_false (Int32.not_le.mpr c_5), eq_false c_6, eq_true (Int32.not_le.mp c_6), eq_false c_8, if_true, if_false, not_true_eq_false, not_false_eq_true, ite_true, ite_false, reduceIte, Nat.add_zero, Nat.add_sub_cancel, true_and, and_true, false_and, and_false, or_false, false_or, true_or, or_true, and_self, or_self]⟩ H locs hP hD hS ls (lv_sub hl [0, 1, 3, 4, 5] rfl)
                        refine lv_aload_n hx hb dX4_bestHank_60 rfl (lv_at hl 3 rfl) ?_
                        refine lv_iload hx hb dX4_bestHank_61 (lv_at hl 0 rfl) ?_
                        refine rcV (As := [.int (nI i0)]) (rest := []) (st1 := [.int (grade (F 0) i0)]) (mX4_gradeBy l g E ho h0 a (upd I 1 0) F i0 (by omega)) kX4_gradeBy q2508 hx hb hml hown hts hRf hRl ho.1 hE hS hP (va_recv hK hP (ci := 0) (q0 := 0) rfl rfl) ⟨Nat.zero_le _, Nat.zero_le _⟩ hl ⟨rfl, rfl⟩ rfl rfl (Nat.le_of_ble_eq_true rfl) rfl dX4_bestHank_63 ?_
                        refine lv_iload_n hx hb dX4_bestHank_66 rfl (lv_at hl 2 rfl) ?_
                        refine lv_icmp_ne (tgt := 74) hx hb dX4_bestHank_67 (by decide) (fun c_9 => ?_) (fun c_9 => ?_)
                        · refine lv_iconst (v := 0) hx hb dX4_bestHank_74 (by decide) ?_
                          refine lv_istore (lv' := [(5, .int 0), (4, .int (nI i0)), (3, .int b0), (2, .int 0), (0, .ref h0), (1, .int (nI j))]) hx hb dX4_bestHank_75 hl (by decide) rfl (fun ls hl => ?_)
                          refine lv_iload hx hb dX4_bestHank_77 (lv_at hl 0 rfl) ?_
                          refine lv_if_eq (tgt := 107) hx hb dX4_bestHank_79 (by decide) (fun _ => ?_) (fun c => absurd c (by decide))
                          refine lv_iload_n hx hb dX4_bestHank_107 rfl (lv_at hl 2 rfl) ?_
                          refine lv_istore_n (lv' := [(3, .int b0), (5, .int 0), (4, .int (nI i0)), (2, .int 0), (0, .ref h0), (1, .int (nI j))]) hx hb dX4_bestHank_108 rfl hl (by decide) rfl (fun ls hl => ?_)
                          refine lv_iinc (v := nI (i0 + 1)) (lv' := [(4, .int (nI (i0 + 1))), (3, .int b0), (5, .int 0), (2, .int 0), (0, .ref h0), (1, .int (nI j))]) hx hb dX4_bestHank_109 hl (k := 2) rfl (h_ninc (a := i0) (k := 1) (rfl)) (by decide) rfl (fun ls hl => ?_)
                          refine lv_goto (tgt := 34) hx hb dX4_bestHank_112 (by decide) ?_
                          exact ih_34 (i0 + 1) b0 ⟨by omega, by omega, by simp only [bestK, ← hi0_3, eq_true c_1, eq_true c_2, eq_false (Int32.not_lt.mpr c_2), eq_true c_3, eq_false (Int32.not_le.mpr c_3), eq_true c_4, eq_false (Int32.not_lt.mpr c_4), eq_true c_5, eq_false (Int32.not_le.mpr c_5), eq_false c_6, eq_true (Int32.not_le.mp c_6), eq_true c_8, eq_false c_9, if_true, if_false, not_true_eq_false, not_false_eq_true, ite_true, ite_false, reduceIte, Nat.add_zero, Nat.add_sub_cancel, true_and, and_true, false_and, and_false, or_false, false_or, true_or, or_true, and_self, or_self]⟩ H locs hP hD hS ls (lv_sub hl [0, 1, 3, 4, 5] rfl)
                        refine lv_iconst (v := 1) hx hb dX4_bestHank_70 (by decide) ?_
                        refine lv_goto (tgt := 75) hx hb dX4_bestHank_71 (by decide) ?_
                        refine lv_istore (lv' := [(5, .int 1), (4, .int (nI i0)), (3, .int b0), (2, .int 0), (0, .ref h0), (1, .int (nI j))]) hx hb dX4_bestHank_75 hl (by decide) rfl (fun ls hl => ?_)
                        refine lv_iload hx hb dX4_bestHank_77 (lv_at hl 0 rfl) ?_
                        refine lv_if_eq (tgt := 107) hx hb dX4_bestHank_79 (by decide) (fun c => absurd c (by decide)) (fun _ => ?_)
                        refine lv_iload_n hx hb dX4_bestHank_82 rfl (lv_at hl 2 rfl) ?_
                        refine lv_if_lt (tgt := 102) hx hb dX4_bestHank_83 (by decide) (fun c_10 => ?_) (fun c_10 => ?_)
                        · refine lv_iload hx hb dX4_bestHank_102 (lv_at hl 1 rfl) ?_
                          refine lv_goto (tgt := 108) hx hb dX4_bestHank_104 (by decide) ?_
                          refine lv_istore_n (lv' := [(3, .int (nI i0)), (5, .int 1), (4, .int (nI i0)), (2, .int 0), (0, .ref h0), (1, .int (nI j))]) hx hb dX4_bestHank_108 rfl hl (by decide) rfl (fun ls hl => ?_)
                          refine lv_iinc (v := nI (i0 + 1)) (lv' := [(4, .int (nI (i0 + 1))), (3, .int (nI i0)), (5, .int 1), (2, .int 0), (0, .ref h0), (1, .int (nI j))]) hx hb dX4_bestHank_109 hl (k := 2) rfl (h_ninc (a := i0) (k := 1) (rfl)) (by decide) rfl (fun ls hl => ?_)
                          refine lv_goto (tgt := 34) hx hb dX4_bestHank_112 (by decide) ?_
                          exact ih_34 (i0 + 1) (nI i0) ⟨by omega, by omega, by simp only [bestK, ← hi0_3, eq_true c_1, eq_true c_2, eq_false (Int32.not_lt.mpr c_2), eq_true c_3, eq_false (Int32.not_le.mpr c_3), eq_true c_4, eq_false (Int32.not_lt.mpr c_4), eq_true c_5, eq_false (Int32.not_le.mpr c_5), eq_false c_6, eq_true (Int32.not_le.mp c_6), eq_true c_8, eq_true c_9, eq_true c_10, eq_false (Int32.not_le.mpr c_10), if_true, if_false, not_true_eq_false, not_false_eq_true, ite_true, ite_false, reduceIte, Nat.add_zero, Nat.add_sub_cancel, true_and, and_true, false_and, and_false, or_false, false_or, true_or, or_true, and_self, or_self]⟩ H locs hP hD hS ls (lv_sub hl [0, 1, 3, 4, 5] rfl)
                        obtain ⟨jb, hjb, hbe⟩ := bestK_ix (F 0) _ _ i0 (by omega) (by rw [← hi0_3]; exact c_10)
                        have hb0 : b0 = nI jb := hi0_3.trans hbe
                        subst hb0
                        have hjbc : (nI jb).toNatClampNeg = jb := nI_clamp (by omega)
                        refine lv_aload_n hx hb dX4_bestHank_86 rfl (lv_at hl 4 rfl) ?_
                        refine lv_iload hx hb dX4_bestHank_87 (lv_at hl 1 rfl) ?_
                        refine lv_iconst (v := 2) hx hb dX4_bestHank_89 (by decide) ?_
                        refine rcV (As := [.int (nI i0), .int 2]) (rest := []) (st1 := [.int (F 0 (73 + 4 * i0 + 2))]) (mX4_ofHank l g E ho h0 a (upd I 1 0) F i0 2 (by omega)) kX4_ofHank q2453 hx hb hml hown hts hRf hRl ho.1 hE hS hP (va_recv hK hP (ci := 0) (q0 := 0) rfl rfl) ⟨Nat.zero_le _, Nat.zero_le _⟩ hl ⟨rfl, rfl⟩ rfl rfl (Nat.le_of_ble_eq_true rfl) rfl dX4_bestHank_90 ?_
                        refine lv_aload_n hx hb dX4_bestHank_93 rfl (lv_at hl 4 rfl) ?_
                        refine lv_iload_n hx hb dX4_bestHank_94 rfl (lv_at hl 2 rfl) ?_
                        refine lv_iconst (v := 2) hx hb dX4_bestHank_95 (by decide) ?_
                        refine rcV (As := [.int (nI jb), .int 2]) (rest := [.int (F 0 (73 + 4 * i0 + 2))]) (st1 := [.int (F 0 (73 + 4 * jb + 2)), .int (F 0 (73 + 4 * i0 + 2))]) (mX4_ofHank l g E ho h0 a (upd I 1 0) F jb 2 (by omega)) kX4_ofHank q2453 hx hb hml hown hts hRf hRl ho.1 hE hS hP (va_recv hK hP (ci := 0) (q0 := 0) rfl rfl) ⟨Nat.zero_le _, Nat.zero_le _⟩ hl ⟨rfl, rfl⟩ rfl rfl (Nat.le_of_ble_eq_true rfl) rfl dX4_bestHank_96 ?_
                        refine lv_icmp_ge (tgt := 107) hx hb dX4_bestHank_99 (by decide) (fun c_11 => ?_) (fun c_11 => ?_)
                        · refine lv_iload_n hx hb dX4_bestHank_107 rfl (lv_at hl 2 rfl) ?_
                          refine lv_istore_n (lv' := [(3, .int (nI jb)), (5, .int 1), (4, .int (nI i0)), (2, .int 0), (0, .ref h0), (1, .int (nI j))]) hx hb dX4_bestHank_108 rfl hl (by decide) rfl (fun ls hl => ?_)
                          refine lv_iinc (v := nI (i0 + 1)) (lv' := [(4, .int (nI (i0 + 1))), (3, .int (nI jb)), (5, .int 1), (2, .int 0), (0, .ref h0), (1, .int (nI j))]) hx hb dX4_bestHank_109 hl (k := 2) rfl (h_ninc (a := i0) (k := 1) (rfl)) (by decide) rfl (fun ls hl => ?_)
                          refine lv_goto (tgt := 34) hx hb dX4_bestHank_112 (by decide) ?_
                          exact ih_34 (i0 + 1) (nI jb) ⟨by omega, by omega, by simp only [bestK, ← hi0_3, hjbc, eq_true c_1, eq_true c_2, eq_false (Int32.not_lt.mpr c_2), eq_true c_3, eq_false (Int32.not_le.mpr c_3), eq_true c_4, eq_false (Int32.not_lt.mpr c_4), eq_true c_5, eq_false (Int32.not_le.mpr c_5), eq_false c_6, eq_true (Int32.not_le.mp c_6), eq_true c_8, eq_true c_9, eq_false c_10, eq_true (Int32.not_lt.mp c_10), eq_true c_11, eq_false (Int32.not_lt.mpr c_11), if_true, if_false, not_true_eq_false, not_false_eq_true, ite_true, ite_false, reduceIte, Nat.add_zero, Nat.add_sub_cancel, true_and, and_true, false_and, and_false, or_false, false_or, true_or, or_true, and_self, or_self]⟩ H locs hP hD hS ls (lv_sub hl [0, 1, 3, 4, 5] rfl)
                        refine lv_iload hx hb dX4_bestHank_102 (lv_at hl 1 rfl) ?_
                        refine lv_goto (tgt := 108) hx hb dX4_bestHank_104 (by decide) ?_
                        refine lv_istore_n (lv' := [(3, .int (nI i0)), (5, .int 1), (4, .int (nI i0)), (2, .int 0), (0, .ref h0), (1, .int (nI j))]) hx hb dX4_bestHank_108 rfl hl (by decide) rfl (fun ls hl => ?_)
                        refine lv_iinc (v := nI (i0 + 1)) (lv' := [(4, .int (nI (i0 + 1))), (3, .int (nI i0)), (5, .int 1), (2, .int 0), (0, .ref h0), (1, .int (nI j))]) hx hb dX4_bestHank_109 hl (k := 2) rfl (h_ninc (a := i0) (k := 1) (rfl)) (by decide) rfl (fun ls hl => ?_)
                        refine lv_goto (tgt := 34) hx hb dX4_bestHank_112 (by decide) ?_
                        exact ih_34 (i0 + 1) (nI i0) ⟨by omega, by omega, by simp only [bestK, ← hi0_3, hjbc, eq_true c_1, eq_true c_2, eq_false (Int32.not_lt.mpr c_2), eq_true c_3, eq_false (Int32.not_le.mpr c_3), eq_true c_4, eq_false (Int32.not_lt.mpr c_4), eq_true c_5, eq_false (Int32.not_le.mpr c_5), eq_false c_6, eq_true (Int32.not_le.mp c_6), eq_true c_8, eq_true c_9, eq_false c_10, eq_true (Int32.not_lt.mp c_10), eq_false c_11, eq_true (Int32.not_le.mp c_11), if_true, if_false, not_true_eq_false, not_false_eq_true, ite_true, ite_false, reduceIte, Nat.add_zero, Nat.add_sub_cancel, true_and, and_true, false_and, and_false, or_false, false_or, true_or, or_true, and_self, or_self]⟩ H locs hP hD hS ls (lv_sub hl [0, 1, 3, 4, 5] rfl)
                    exact loop_34 (nh + 1) 0 (-1) ⟨by omega, by omega, rfl⟩ H locs hP hD hS ls (lv_sub hl [0, 1, 2, 3, 4] rfl)
                  refine lv_iload_n hx hb dX4_bestHank_119 rfl (lv_at hl 1 rfl) ?_
                  have hop : gBestHank (F 0) (nI j) = (0, b1) := by simp only [htw, htwc, ht, htc, hh, hhc, hb6, hbc, hk5, hkc, gBestHank, hjc, ← hi2_3, ← hi1_3, eq_true c_1, eq_true c_2, eq_false (Int32.not_lt.mpr c_2), eq_true c_3, eq_false (Int32.not_le.mpr c_3), eq_true c_4, eq_false (Int32.not_lt.mpr c_4), eq_false c_5, eq_true (Int32.not_lt.mp c_5), if_true, if_false, not_true_eq_false, not_false_eq_true, ite_true, ite_false, reduceIte, Nat.add_zero, Nat.add_sub_cancel]
                  have hW1 : (mW g h0 a (upd I 1 0) F) = mW g h0 a (upd I 1 (gBestHank (F 0) (nI j)).1) F := by
                    rw [hop]
                  rw [hW1] at hP hD
                  exact hm_i hQ hx hb hr hlk rfl () (by rw [hop]) trivial hP hD hS (by decide) (by decide) dX4_bestHank_120
                have hlt : i1 < nh := by
                  rcases Nat.lt_or_ge i1 nh with z | z
                  · exact z
                  · exact absurd (nI_le z (by omega)) c_4
                refine lv_aload_n hx hb dX4_bestHank_45 rfl (lv_at hl 3 rfl) ?_
                refine lv_iload hx hb dX4_bestHank_46 (lv_at hl 0 rfl) ?_
                refine lv_aload_n hx hb dX4_bestHank_48 rfl (lv_at hl 3 rfl) ?_
                refine lv_iload_n hx hb dX4_bestHank_49 rfl (lv_at hl 4 rfl) ?_
                refine lv_iconst (v := 0) hx hb dX4_bestHank_50 (by decide) ?_
                refine rcV (As := [.int (nI j), .int 0]) (rest := [.int (nI i1), .ref h0]) (st1 := [.int (F 0 (153 + 7 * j)), .int (nI i1), .ref h0]) (mX4_ofBow l g E ho h0 a (upd I 1 0) F j 0 (by omega)) kX4_ofBow q2498 hx hb hml hown hts hRf hRl ho.1 hE hS hP (va_recv hK hP (ci := 0) (q0 := 0) rfl rfl) ⟨Nat.zero_le _, Nat.zero_le _⟩ hl ⟨rfl, rfl⟩ rfl rfl (Nat.le_of_ble_eq_true rfl) rfl dX4_bestHank_51 ?_
                refine rcV (As := [.int (nI i1), .int (F 0 (153 + 7 * j))]) (rest := []) (st1 := [.int (if takP (F 0) (F 0 (153 + 7 * j)) i1 then 1 else 0)]) (mX4_canBeTaken l g E ho h0 a (upd I 1 0) F i1 (F 0 (153 + 7 * j)) (by omega)) kX4_canBeTaken q2598 hx hb hml hown hts hRf hRl ho.1 hE hS hP (va_recv hK hP (ci := 0) (q0 := 0) rfl rfl) ⟨Nat.zero_le _, Nat.zero_le _⟩ hl ⟨rfl, rfl⟩ rfl rfl (Nat.le_of_ble_eq_true rfl) rfl dX4_bestHank_54 ?_
                refine h_ifeq_b (tgt := 74) hx hb dX4_bestHank_57 (by decide) (fun c_12 => ?_) (fun c_12 => ?_)
                · refine lv_iconst (v := 0) hx hb dX4_bestHank_74 (by decide) ?_
                  refine lv_istore (lv' := [(5, .int 0), (4, .int (nI i1)), (3, .int b1), (2, .int 1), (0, .ref h0), (1, .int (nI j))]) hx hb dX4_bestHank_75 hl (by decide) rfl (fun ls hl => ?_)
                  refine lv_iload hx hb dX4_bestHank_77 (lv_at hl 0 rfl) ?_
                  refine lv_if_eq (tgt := 107) hx hb dX4_bestHank_79 (by decide) (fun _ => ?_) (fun c => absurd c (by decide))
                  refine lv_iload_n hx hb dX4_bestHank_107 rfl (lv_at hl 2 rfl) ?_
                  refine lv_istore_n (lv' := [(3, .int b1), (5, .int 0), (4, .int (nI i1)), (2, .int 1), (0, .ref h0), (1, .int (nI j))]) hx hb dX4_bestHank_108 rfl hl (by decide) rfl (fun ls hl => ?_)
                  refine lv_iinc (v := nI (i1 + 1)) (lv' := [(4, .int (nI (i1 + 1))), (3, .int b1), (5, .int 0), (2, .int 1), (0, .ref h0), (1, .int (nI j))]) hx hb dX4_bestHank_109 hl (k := 2) rfl (h_ninc (a := i1) (k := 1) (rfl)) (by decide) rfl (fun ls hl => ?_)
                  refine lv_goto (tgt := 34) hx hb dX4_bestHank_112 (by decide) ?_
                  exact ih_34 (i1 + 1) b1 ⟨by omega, by omega, by simp only [bestK, ← hi1_3, eq_true c_1, eq_true c_2, eq_false (Int32.not_lt.mpr c_2), eq_true c_3, eq_false (Int32.not_le.mpr c_3), eq_false c_4, eq_true (Int32.not_le.mp c_4), eq_false c_12, if_true, if_false, not_true_eq_false, not_false_eq_true, ite_true, ite_false, reduceIte, Nat.add_zero, Nat.add_sub_cancel, true_and, and_true, false_and, and_false, or_false, false_or, true_or, or_true, and_self, or_self]⟩ H locs hP hD hS ls (lv_sub hl [0, 1, 3, 4, 5] rfl)
                refine lv_aload_n hx hb dX4_bestHank_60 rfl (lv_at hl 3 rfl) ?_
                refine lv_iload hx hb dX4_bestHank_61 (lv_at hl 0 rfl) ?_
                refine rcV (As := [.int (nI i1)]) (rest := []) (st1 := [.int (grade (F 0) i1)]) (mX4_gradeBy l g E ho h0 a (upd I 1 0) F i1 (by omega)) kX4_gradeBy q2508 hx hb hml hown hts hRf hRl ho.1 hE hS hP (va_recv hK hP (ci := 0) (q0 := 0) rfl rfl) ⟨Nat.zero_le _, Nat.zero_le _⟩ hl ⟨rfl, rfl⟩ rfl rfl (Nat.le_of_ble_eq_true rfl) rfl dX4_bestHank_63 ?_
                refine lv_iload_n hx hb dX4_bestHank_66 rfl (lv_at hl 2 rfl) ?_
                refine lv_icmp_ne (tgt := 74) hx hb dX4_bestHank_67 (by decide) (fun c_13 => ?_) (fun c_13 => ?_)
                · refine lv_iconst (v := 0) hx hb dX4_bestHank_74 (by decide) ?_
                  refine lv_istore (lv' := [(5, .int 0), (4, .int (nI i1)), (3, .int b1), (2, .int 1), (0, .ref h0), (1, .int (nI j))]) hx hb dX4_bestHank_75 hl (by decide) rfl (fun ls hl => ?_)
                  refine lv_iload hx hb dX4_bestHank_77 (lv_at hl 0 rfl) ?_
                  refine lv_if_eq (tgt := 107) hx hb dX4_bestHank_79 (by decide) (fun _ => ?_) (fun c => absurd c (by decide))
                  refine lv_iload_n hx hb dX4_bestHank_107 rfl (lv_at hl 2 rfl) ?_
                  refine lv_istore_n (lv' := [(3, .int b1), (5, .int 0), (4, .int (nI i1)), (2, .int 1), (0, .ref h0), (1, .int (nI j))]) hx hb dX4_bestHank_108 rfl hl (by decide) rfl (fun ls hl => ?_)
                  refine lv_iinc (v := nI (i1 + 1)) (lv' := [(4, .int (nI (i1 + 1))), (3, .int b1), (5, .int 0), (2, .int 1), (0, .ref h0), (1, .int (nI j))]) hx hb dX4_bestHank_109 hl (k := 2) rfl (h_ninc (a := i1) (k := 1) (rfl)) (by decide) rfl (fun ls hl => ?_)
                  refine lv_goto (tgt := 34) hx hb dX4_bestHank_112 (by decide) ?_
                  exact ih_34 (i1 + 1) b1 ⟨by omega, by omega, by simp only [bestK, ← hi1_3, eq_true c_1, eq_true c_2, eq_false (Int32.not_lt.mpr c_2), eq_true c_3, eq_false (Int32.not_le.mpr c_3), eq_false c_4, eq_true (Int32.not_le.mp c_4), eq_true c_12, eq_false c_13, if_true, if_false, not_true_eq_false, not_false_eq_true, ite_true, ite_false, reduceIte, Nat.add_zero, Nat.add_sub_cancel, true_and, and_true, false_and, and_false, or_false, false_or, true_or, or_true, and_self, or_self]⟩ H locs hP hD hS ls (lv_sub hl [0, 1, 3, 4, 5] rfl)
                refine lv_iconst (v := 1) hx hb dX4_bestHank_70 (by decide) ?_
                refine lv_goto (tgt := 75) hx hb dX4_bestHank_71 (by decide) ?_
                refine lv_istore (lv' := [(5, .int 1), (4, .int (nI i1)), (3, .int b1), (2, .int 1), (0, .ref h0), (1, .int (nI j))]) hx hb dX4_bestHank_75 hl (by decide) rfl (fun ls hl => ?_)
                refine lv_iload hx hb dX4_bestHank_77 (lv_at hl 0 rfl) ?_
                refine lv_if_eq (tgt := 107) hx hb dX4_bestHank_79 (by decide) (fun c => absurd c (by decide)) (fun _ => ?_)
                refine lv_iload_n hx hb dX4_bestHank_82 rfl (lv_at hl 2 rfl) ?_
                refine lv_if_lt (tgt := 102) hx hb dX4_bestHank_83 (by decide) (fun c_14 => ?_) (fun c_14 => ?_)
                · refine lv_iload hx hb dX4_bestHank_102 (lv_at hl 1 rfl) ?_
                  refine lv_goto (tgt := 108) hx hb dX4_bestHank_104 (by decide) ?_
                  refine lv_istore_n (lv' := [(3, .int (nI i1)), (5, .int 1), (4, .int (nI i1)), (2, .int 1), (0, .ref h0), (1, .int (nI j))]) hx hb dX4_bestHank_108 rfl hl (by decide) rfl (fun ls hl => ?_)
                  refine lv_iinc (v := nI (i1 + 1)) (lv' := [(4, .int (nI (i1 + 1))), (3, .int (nI i1)), (5, .int 1), (2, .int 1), (0, .ref h0), (1, .int (nI j))]) hx hb dX4_bestHank_109 hl (k := 2) rfl (h_ninc (a := i1) (k := 1) (rfl)) (by decide) rfl (fun ls hl => ?_)
                  refine lv_goto (tgt := 34) hx hb dX4_bestHank_112 (by decide) ?_
                  exact ih_34 (i1 + 1) (nI i1) ⟨by omega, by omega, by simp only [bestK, ← hi1_3, eq_true c_1, eq_true c_2, eq_false (Int32.not_lt.mpr c_2), eq_true c_3, eq_false (Int32.not_le.mpr c_3), eq_false c_4, eq_true (Int32.not_le.mp c_4), eq_true c_12, eq_true c_13, eq_true c_14, eq_false (Int32.not_le.mpr c_14), if_true, if_false, not_true_eq_false, not_false_eq_true, ite_true, ite_false, reduceIte, Nat.add_zero, Nat.add_sub_cancel, true_and, and_true, false_and, and_false, or_false, false_or, true_or, or_true, and_self, or_self]⟩ H locs hP hD hS ls (lv_sub hl [0, 1, 3, 4, 5] rfl)
                obtain ⟨jb, hjb, hbe⟩ := bestK_ix (F 0) _ _ i1 (by omega) (by rw [← hi1_3]; exact c_14)
                have hb0 : b1 = nI jb := hi1_3.trans hbe
                subst hb0
                have hjbc : (nI jb).toNatClampNeg = jb := nI_clamp (by omega)
                refine lv_aload_n hx hb dX4_bestHank_86 rfl (lv_at hl 4 rfl) ?_
                refine lv_iload hx hb dX4_bestHank_87 (lv_at hl 1 rfl) ?_
                refine lv_iconst (v := 2) hx hb dX4_bestHank_89 (by decide) ?_
                refine rcV (As := [.int (nI i1), .int 2]) (rest := []) (st1 := [.int (F 0 (73 + 4 * i1 + 2))]) (mX4_ofHank l g E ho h0 a (upd I 1 0) F i1 2 (by omega)) kX4_ofHank q2453 hx hb hml hown hts hRf hRl ho.1 hE hS hP (va_recv hK hP (ci := 0) (q0 := 0) rfl rfl) ⟨Nat.zero_le _, Nat.zero_le _⟩ hl ⟨rfl, rfl⟩ rfl rfl (Nat.le_of_ble_eq_true rfl) rfl dX4_bestHank_90 ?_
                refine lv_aload_n hx hb dX4_bestHank_93 rfl (lv_at hl 4 rfl) ?_
                refine lv_iload_n hx hb dX4_bestHank_94 rfl (lv_at hl 2 rfl) ?_
                refine lv_iconst (v := 2) hx hb dX4_bestHank_95 (by decide) ?_
                refine rcV (As := [.int (nI jb), .int 2]) (rest := [.int (F 0 (73 + 4 * i1 + 2))]) (st1 := [.int (F 0 (73 + 4 * jb + 2)), .int (F 0 (73 + 4 * i1 + 2))]) (mX4_ofHank l g E ho h0 a (upd I 1 0) F jb 2 (by omega)) kX4_ofHank q2453 hx hb hml hown hts hRf hRl ho.1 hE hS hP (va_recv hK hP (ci := 0) (q0 := 0) rfl rfl) ⟨Nat.zero_le _, Nat.zero_le _⟩ hl ⟨rfl, rfl⟩ rfl rfl (Nat.le_of_ble_eq_true rfl) rfl dX4_bestHank_96 ?_
                refine lv_icmp_ge (tgt := 107) hx hb dX4_bestHank_99 (by decide) (fun c_15 => ?_) (fun c_15 => ?_)
                · refine lv_iload_n hx hb dX4_bestHank_107 rfl (lv_at hl 2 rfl) ?_
                  refine lv_istore_n (lv' := [(3, .int (nI jb)), (5, .int 1), (4, .int (nI i1)), (2, .int 1), (0, .ref h0), (1, .int (nI j))]) hx hb dX4_bestHank_108 rfl hl (by decide) rfl (fun ls hl => ?_)
                  refine lv_iinc (v := nI (i1 + 1)) (lv' := [(4, .int (nI (i1 + 1))), (3, .int (nI jb)), (5, .int 1), (2, .int 1), (0, .ref h0), (1, .int (nI j))]) hx hb dX4_bestHank_109 hl (k := 2) rfl (h_ninc (a := i1) (k := 1) (rfl)) (by decide) rfl (fun ls hl => ?_)
                  refine lv_goto (tgt := 34) hx hb dX4_bestHank_112 (by decide) ?_
                  exact ih_34 (i1 + 1) (nI jb) ⟨by omega, by omega, by simp only [bestK, ← hi1_3, hjbc, eq_true c_1, eq_true c_2, eq_false (Int32.not_lt.mpr c_2), eq_true c_3, eq_false (Int32.not_le.mpr c_3), eq_false c_4, eq_true (Int32.not_le.mp c_4), eq_true c_12, eq_true c_13, eq_false c_14, eq_true (Int32.not_lt.mp c_14), eq_true c_15, eq_false (Int32.not_lt.mpr c_15), if_true, if_false, not_true_eq_false, not_false_eq_true, ite_true, ite_false, reduceIte, Nat.add_zero, Nat.add_sub_cancel, true_and, and_true, false_and, and_false, or_false, false_or, true_or, or_true, and_self, or_self]⟩ H locs hP hD hS ls (lv_sub hl [0, 1, 3, 4, 5] rfl)
                refine lv_iload hx hb dX4_bestHank_102 (lv_at hl 1 rfl) ?_
                refine lv_goto (tgt := 108) hx hb dX4_bestHank_104 (by decide) ?_
                refine lv_istore_n (lv' := [(3, .int (nI i1)), (5, .int 1), (4, .int (nI i1)), (2, .int 1), (0, .ref h0), (1, .int (nI j))]) hx hb dX4_bestHank_108 rfl hl (by decide) rfl (fun ls hl => ?_)
                refine lv_iinc (v := nI (i1 + 1)) (lv' := [(4, .int (nI (i1 + 1))), (3, .int (nI i1)), (5, .int 1), (2, .int 1), (0, .ref h0), (1, .int (nI j))]) hx hb dX4_bestHank_109 hl (k := 2) rfl (h_ninc (a := i1) (k := 1) (rfl)) (by decide) rfl (fun ls hl => ?_)
                refine lv_goto (tgt := 34) hx hb dX4_bestHank_112 (by decide) ?_
                exact ih_34 (i1 + 1) (nI i1) ⟨by omega, by omega, by simp only [bestK, ← hi1_3, hjbc, eq_true c_1, eq_true c_2, eq_false (Int32.not_lt.mpr c_2), eq_true c_3, eq_false (Int32.not_le.mpr c_3), eq_false c_4, eq_true (Int32.not_le.mp c_4), eq_true c_12, eq_true c_13, eq_false c_14, eq_true (Int32.not_lt.mp c_14), eq_false c_15, eq_true (Int32.not_le.mp c_15), if_true, if_false, not_true_eq_false, not_false_eq_true, ite_true, ite_false, reduceIte, Nat.add_zero, Nat.add_sub_cancel, true_and, and_true, false_and, and_false, or_false, false_or, true_or, or_true, and_self, or_self]⟩ H locs hP hD hS ls (lv_sub hl [0, 1, 3, 4, 5] rfl)
            exact loop_34 (nh + 1) 0 (-1) ⟨by omega, by omega, rfl⟩ H locs hP hD hS ls (lv_sub hl [0, 1, 2, 3, 4] rfl)
          refine lv_iload_n hx hb dX4_bestHank_119 rfl (lv_at hl 1 rfl) ?_
          have hop : gBestHank (F 0) (nI j) = (0, b2) := by simp only [htw, htwc, ht, htc, hh, hhc, hb6, hbc, hk5, hkc, gBestHank, hjc, ← hi2_3, eq_true c_1, eq_true c_2, eq_false (Int32.not_lt.mpr c_2), eq_false c_3, eq_true (Int32.not_lt.mp c_3), if_true, if_false, not_true_eq_false, not_false_eq_true, ite_true, ite_false, reduceIte, Nat.add_zero, Nat.add_sub_cancel]
          have hW1 : (mW g h0 a (upd I 1 0) F) = mW g h0 a (upd I 1 (gBestHank (F 0) (nI j)).1) F := by
            rw [hop]
          rw [hW1] at hP hD
          exact hm_i hQ hx hb hr hlk rfl () (by rw [hop]) trivial hP hD hS (by decide) (by decide) dX4_bestHank_120
        have hlt : i2 < nh := by
          rcases Nat.lt_or_ge i2 nh with z | z
          · exact z
          · exact absurd (nI_le z (by omega)) c_2
        refine lv_aload_n hx hb dX4_bestHank_45 rfl (lv_at hl 3 rfl) ?_
        refine lv_iload hx hb dX4_bestHank_46 (lv_at hl 0 rfl) ?_
        refine lv_aload_n hx hb dX4_bestHank_48 rfl (lv_at hl 3 rfl) ?_
        refine lv_iload_n hx hb dX4_bestHank_49 rfl (lv_at hl 4 rfl) ?_
        refine lv_iconst (v := 0) hx hb dX4_bestHank_50 (by decide) ?_
        refine rcV (As := [.int (nI j), .int 0]) (rest := [.int (nI i2), .ref h0]) (st1 := [.int (F 0 (153 + 7 * j)), .int (nI i2), .ref h0]) (mX4_ofBow l g E ho h0 a (upd I 1 0) F j 0 (by omega)) kX4_ofBow q2498 hx hb hml hown hts hRf hRl ho.1 hE hS hP (va_recv hK hP (ci := 0) (q0 := 0) rfl rfl) ⟨Nat.zero_le _, Nat.zero_le _⟩ hl ⟨rfl, rfl⟩ rfl rfl (Nat.le_of_ble_eq_true rfl) rfl dX4_bestHank_51 ?_
        refine rcV (As := [.int (nI i2), .int (F 0 (153 + 7 * j))]) (rest := []) (st1 := [.int (if takP (F 0) (F 0 (153 + 7 * j)) i2 then 1 else 0)]) (mX4_canBeTaken l g E ho h0 a (upd I 1 0) F i2 (F 0 (153 + 7 * j)) (by omega)) kX4_canBeTaken q2598 hx hb hml hown hts hRf hRl ho.1 hE hS hP (va_recv hK hP (ci := 0) (q0 := 0) rfl rfl) ⟨Nat.zero_le _, Nat.zero_le _⟩ hl ⟨rfl, rfl⟩ rfl rfl (Nat.le_of_ble_eq_true rfl) rfl dX4_bestHank_54 ?_
        refine h_ifeq_b (tgt := 74) hx hb dX4_bestHank_57 (by decide) (fun c_16 => ?_) (fun c_16 => ?_)
        · refine lv_iconst (v := 0) hx hb dX4_bestHank_74 (by decide) ?_
          refine lv_istore (lv' := [(5, .int 0), (4, .int (nI i2)), (3, .int b2), (2, .int 2), (0, .ref h0), (1, .int (nI j))]) hx hb dX4_bestHank_75 hl (by decide) rfl (fun ls hl => ?_)
          refine lv_iload hx hb dX4_bestHank_77 (lv_at hl 0 rfl) ?_
          refine lv_if_eq (tgt := 107) hx hb dX4_bestHank_79 (by decide) (fun _ => ?_) (fun c => absurd c (by decide))
          refine lv_iload_n hx hb dX4_bestHank_107 rfl (lv_at hl 2 rfl) ?_
          refine lv_istore_n (lv' := [(3, .int b2), (5, .int 0), (4, .int (nI i2)), (2, .int 2), (0, .ref h0), (1, .int (nI j))]) hx hb dX4_bestHank_108 rfl hl (by decide) rfl (fun ls hl => ?_)
          refine lv_iinc (v := nI (i2 + 1)) (lv' := [(4, .int (nI (i2 + 1))), (3, .int b2), (5, .int 0), (2, .int 2), (0, .ref h0), (1, .int (nI j))]) hx hb dX4_bestHank_109 hl (k := 2) rfl (h_ninc (a := i2) (k := 1) (rfl)) (by decide) rfl (fun ls hl => ?_)
          refine lv_goto (tgt := 34) hx hb dX4_bestHank_112 (by decide) ?_
          exact ih_34 (i2 + 1) b2 ⟨by omega, by omega, by simp only [bestK, ← hi2_3, eq_true c_1, eq_false c_2, eq_true (Int32.not_le.mp c_2), eq_false c_16, if_true, if_false, not_true_eq_false, not_false_eq_true, ite_true, ite_false, reduceIte, Nat.add_zero, Nat.add_sub_cancel, true_and, and_true, false_and, and_false, or_false, false_or, true_or, or_true, and_self, or_self]⟩ H locs hP hD hS ls (lv_sub hl [0, 1, 3, 4, 5] rfl)
        refine lv_aload_n hx hb dX4_bestHank_60 rfl (lv_at hl 3 rfl) ?_
        refine lv_iload hx hb dX4_bestHank_61 (lv_at hl 0 rfl) ?_
        refine rcV (As := [.int (nI i2)]) (rest := []) (st1 := [.int (grade (F 0) i2)]) (mX4_gradeBy l g E ho h0 a (upd I 1 0) F i2 (by omega)) kX4_gradeBy q2508 hx hb hml hown hts hRf hRl ho.1 hE hS hP (va_recv hK hP (ci := 0) (q0 := 0) rfl rfl) ⟨Nat.zero_le _, Nat.zero_le _⟩ hl ⟨rfl, rfl⟩ rfl rfl (Nat.le_of_ble_eq_true rfl) rfl dX4_bestHank_63 ?_
        refine lv_iload_n hx hb dX4_bestHank_66 rfl (lv_at hl 2 rfl) ?_
        refine lv_icmp_ne (tgt := 74) hx hb dX4_bestHank_67 (by decide) (fun c_17 => ?_) (fun c_17 => ?_)
        · refine lv_iconst (v := 0) hx hb dX4_bestHank_74 (by decide) ?_
          refine lv_istore (lv' := [(5, .int 0), (4, .int (nI i2)), (3, .int b2), (2, .int 2), (0, .ref h0), (1, .int (nI j))]) hx hb dX4_bestHank_75 hl (by decide) rfl (fun ls hl => ?_)
          refine lv_iload hx hb dX4_bestHank_77 (lv_at hl 0 rfl) ?_
          refine lv_if_eq (tgt := 107) hx hb dX4_bestHank_79 (by decide) (fun _ => ?_) (fun c => absurd c (by decide))
          refine lv_iload_n hx hb dX4_bestHank_107 rfl (lv_at hl 2 rfl) ?_
          refine lv_istore_n (lv' := [(3, .int b2), (5, .int 0), (4, .int (nI i2)), (2, .int 2), (0, .ref h0), (1, .int (nI j))]) hx hb dX4_bestHank_108 rfl hl (by decide) rfl (fun ls hl => ?_)
          refine lv_iinc (v := nI (i2 + 1)) (lv' := [(4, .int (nI (i2 + 1))), (3, .int b2), (5, .int 0), (2, .int 2), (0, .ref h0), (1, .int (nI j))]) hx hb dX4_bestHank_109 hl (k := 2) rfl (h_ninc (a := i2) (k := 1) (rfl)) (by decide) rfl (fun ls hl => ?_)
          refine lv_goto (tgt := 34) hx hb dX4_bestHank_112 (by decide) ?_
          exact ih_34 (i2 + 1) b2 ⟨by omega, by omega, by simp only [bestK, ← hi2_3, eq_true c_1, eq_false c_2, eq_true (Int32.not_le.mp c_2), eq_true c_16, eq_false c_17, if_true, if_false, not_true_eq_false, not_false_eq_true, ite_true, ite_false, reduceIte, Nat.add_zero, Nat.add_sub_cancel, true_and, and_true, false_and, and_false, or_false, false_or, true_or, or_true, and_self, or_self]⟩ H locs hP hD hS ls (lv_sub hl [0, 1, 3, 4, 5] rfl)
        refine lv_iconst (v := 1) hx hb dX4_bestHank_70 (by decide) ?_
        refine lv_goto (tgt := 75) hx hb dX4_bestHank_71 (by decide) ?_
        refine lv_istore (lv' := [(5, .int 1), (4, .int (nI i2)), (3, .int b2), (2, .int 2), (0, .ref h0), (1, .int (nI j))]) hx hb dX4_bestHank_75 hl (by decide) rfl (fun ls hl => ?_)
        refine lv_iload hx hb dX4_bestHank_77 (lv_at hl 0 rfl) ?_
        refine lv_if_eq (tgt := 107) hx hb dX4_bestHank_79 (by decide) (fun c => absurd c (by decide)) (fun _ => ?_)
        refine lv_iload_n hx hb dX4_bestHank_82 rfl (lv_at hl 2 rfl) ?_
        refine lv_if_lt (tgt := 102) hx hb dX4_bestHank_83 (by decide) (fun c_18 => ?_) (fun c_18 => ?_)
        · refine lv_iload hx hb dX4_bestHank_102 (lv_at hl 1 rfl) ?_
          refine lv_goto (tgt := 108) hx hb dX4_bestHank_104 (by decide) ?_
          refine lv_istore_n (lv' := [(3, .int (nI i2)), (5, .int 1), (4, .int (nI i2)), (2, .int 2), (0, .ref h0), (1, .int (nI j))]) hx hb dX4_bestHank_108 rfl hl (by decide) rfl (fun ls hl => ?_)
          refine lv_iinc (v := nI (i2 + 1)) (lv' := [(4, .int (nI (i2 + 1))), (3, .int (nI i2)), (5, .int 1), (2, .int 2), (0, .ref h0), (1, .int (nI j))]) hx hb dX4_bestHank_109 hl (k := 2) rfl (h_ninc (a := i2) (k := 1) (rfl)) (by decide) rfl (fun ls hl => ?_)
          refine lv_goto (tgt := 34) hx hb dX4_bestHank_112 (by decide) ?_
          exact ih_34 (i2 + 1) (nI i2) ⟨by omega, by omega, by simp only [bestK, ← hi2_3, eq_true c_1, eq_false c_2, eq_true (Int32.not_le.mp c_2), eq_true c_16, eq_true c_17, eq_true c_18, eq_false (Int32.not_le.mpr c_18), if_true, if_false, not_true_eq_false, not_false_eq_true, ite_true, ite_false, reduceIte, Nat.add_zero, Nat.add_sub_cancel, true_and, and_true, false_and, and_false, or_false, false_or, true_or, or_true, and_self, or_self]⟩ H locs hP hD hS ls (lv_sub hl [0, 1, 3, 4, 5] rfl)
        obtain ⟨jb, hjb, hbe⟩ := bestK_ix (F 0) _ _ i2 (by omega) (by rw [← hi2_3]; exact c_18)
        have hb0 : b2 = nI jb := hi2_3.trans hbe
        subst hb0
        have hjbc : (nI jb).toNatClampNeg = jb := nI_clamp (by omega)
        refine lv_aload_n hx hb dX4_bestHank_86 rfl (lv_at hl 4 rfl) ?_
        refine lv_iload hx hb dX4_bestHank_87 (lv_at hl 1 rfl) ?_
        refine lv_iconst (v := 2) hx hb dX4_bestHank_89 (by decide) ?_
        refine rcV (As := [.int (nI i2), .int 2]) (rest := []) (st1 := [.int (F 0 (73 + 4 * i2 + 2))]) (mX4_ofHank l g E ho h0 a (upd I 1 0) F i2 2 (by omega)) kX4_ofHank q2453 hx hb hml hown hts hRf hRl ho.1 hE hS hP (va_recv hK hP (ci := 0) (q0 := 0) rfl rfl) ⟨Nat.zero_le _, Nat.zero_le _⟩ hl ⟨rfl, rfl⟩ rfl rfl (Nat.le_of_ble_eq_true rfl) rfl dX4_bestHank_90 ?_
        refine lv_aload_n hx hb dX4_bestHank_93 rfl (lv_at hl 4 rfl) ?_
        refine lv_iload_n hx hb dX4_bestHank_94 rfl (lv_at hl 2 rfl) ?_
        refine lv_iconst (v := 2) hx hb dX4_bestHank_95 (by decide) ?_
        refine rcV (As := [.int (nI jb), .int 2]) (rest := [.int (F 0 (73 + 4 * i2 + 2))]) (st1 := [.int (F 0 (73 + 4 * jb + 2)), .int (F 0 (73 + 4 * i2 + 2))]) (mX4_ofHank l g E ho h0 a (upd I 1 0) F jb 2 (by omega)) kX4_ofHank q2453 hx hb hml hown hts hRf hRl ho.1 hE hS hP (va_recv hK hP (ci := 0) (q0 := 0) rfl rfl) ⟨Nat.zero_le _, Nat.zero_le _⟩ hl ⟨rfl, rfl⟩ rfl rfl (Nat.le_of_ble_eq_true rfl) rfl dX4_bestHank_96 ?_
        refine lv_icmp_ge (tgt := 107) hx hb dX4_bestHank_99 (by decide) (fun c_19 => ?_) (fun c_19 => ?_)
        · refine lv_iload_n hx hb dX4_bestHank_107 rfl (lv_at hl 2 rfl) ?_
          refine lv_istore_n (lv' := [(3, .int (nI jb)), (5, .int 1), (4, .int (nI i2)), (2, .int 2), (0, .ref h0), (1, .int (nI j))]) hx hb dX4_bestHank_108 rfl hl (by decide) rfl (fun ls hl => ?_)
          refine lv_iinc (v := nI (i2 + 1)) (lv' := [(4, .int (nI (i2 + 1))), (3, .int (nI jb)), (5, .int 1), (2, .int 2), (0, .ref h0), (1, .int (nI j))]) hx hb dX4_bestHank_109 hl (k := 2) rfl (h_ninc (a := i2) (k := 1) (rfl)) (by decide) rfl (fun ls hl => ?_)
          refine lv_goto (tgt := 34) hx hb dX4_bestHank_112 (by decide) ?_
          exact ih_34 (i2 + 1) (nI jb) ⟨by omega, by omega, by simp only [bestK, ← hi2_3, hjbc, eq_true c_1, eq_false c_2, eq_true (Int32.not_le.mp c_2), eq_true c_16, eq_true c_17, eq_false c_18, eq_true (Int32.not_lt.mp c_18), eq_true c_19, eq_false (Int32.not_lt.mpr c_19), if_true, if_false, not_true_eq_false, not_false_eq_true, ite_true, ite_false, reduceIte, Nat.add_zero, Nat.add_sub_cancel, true_and, and_true, false_and, and_false, or_false, false_or, true_or, or_true, and_self, or_self]⟩ H locs hP hD hS ls (lv_sub hl [0, 1, 3, 4, 5] rfl)
        refine lv_iload hx hb dX4_bestHank_102 (lv_at hl 1 rfl) ?_
        refine lv_goto (tgt := 108) hx hb dX4_bestHank_104 (by decide) ?_
        refine lv_istore_n (lv' := [(3, .int (nI i2)), (5, .int 1), (4, .int (nI i2)), (2, .int 2), (0, .ref h0), (1, .int (nI j))]) hx hb dX4_bestHank_108 rfl hl (by decide) rfl (fun ls hl => ?_)
        refine lv_iinc (v := nI (i2 + 1)) (lv' := [(4, .int (nI (i2 + 1))), (3, .int (nI i2)), (5, .int 1), (2, .int 2), (0, .ref h0), (1, .int (nI j))]) hx hb dX4_bestHank_109 hl (k := 2) rfl (h_ninc (a := i2) (k := 1) (rfl)) (by decide) rfl (fun ls hl => ?_)
        refine lv_goto (tgt := 34) hx hb dX4_bestHank_112 (by decide) ?_
        exact ih_34 (i2 + 1) (nI i2) ⟨by omega, by omega, by simp only [bestK, ← hi2_3, hjbc, eq_true c_1, eq_false c_2, eq_true (Int32.not_le.mp c_2), eq_true c_16, eq_true c_17, eq_false c_18, eq_true (Int32.not_lt.mp c_18), eq_false c_19, eq_true (Int32.not_le.mp c_19), if_true, if_false, not_true_eq_false, not_false_eq_true, ite_true, ite_false, reduceIte, Nat.add_zero, Nat.add_sub_cancel, true_and, and_true, false_and, and_false, or_false, false_or, true_or, or_true, and_self, or_self]⟩ H locs hP hD hS ls (lv_sub hl [0, 1, 3, 4, 5] rfl)
    exact loop_34 (nh + 1) 0 (-1) ⟨by omega, by omega, rfl⟩ H locs hP hD hS ls (lv_sub hl [0, 1, 2, 3, 4] rfl)
  rw [hb6] at c_1
  refine lv_iconst (v := 1) hx hb dX4_bestHank_9 (by decide) ?_
  refine lv_goto (tgt := 14) hx hb dX4_bestHank_10 (by decide) ?_
  refine lv_iconst (v := 1) hx hb dX4_bestHank_14 (by decide) ?_
  refine mcV (As := [.int 1, .int 1]) (rest := []) (wr := []) (mX4_isThrown1 l g E ho h0 a I F 1) kX4_isThrown q2574 hx hb hml hown hts hRf hRl ho.1 hE hS hP hD hA [0, 1, 2, 3, 4, 5, 6, 7, 8] [] rfl (by decide) rfl (by decide) (by decide) ⟨Nat.zero_le _, Nat.zero_le _⟩ (va_recv hK hP (ci := 0) (q0 := 0) rfl rfl) hl ⟨rfl, rfl⟩ rfl rfl (Nat.le_of_ble_eq_true rfl) dX4_bestHank_15 (fun _ H locs _ hP hD hS _ _ => ?_)
  have hP : va_P (gD g) Cl (mW g h0 a (upd I 1 1) F) H := hP
  have hD : va_D A (mW g h0 a (upd I 1 1) F) := hD
  refine lv_if_eq (tgt := 23) hx hb dX4_bestHank_18 (by decide) (fun c => absurd c (by decide)) (fun _ => ?_)
  refine lv_iconst (v := 0) hx hb dX4_bestHank_21 (by decide) ?_
  have hop : gBestHank (F 0) p0 = (1, 0) := by simp only [htw, htwc, ht, htc, hh, hhc, hb6, hbc, hk5, hkc, gBestHank, eq_false c_1, if_true, if_false, not_true_eq_false, not_false_eq_true, ite_true, ite_false, reduceIte, Nat.add_zero, Nat.add_sub_cancel]
  have hW1 : (mW g h0 a (upd I 1 1) F) = mW g h0 a (upd I 1 (gBestHank (F 0) p0).1) F := by
    rw [hop]
  rw [hW1] at hP hD
  exact hm_i hQ hx hb hr hlk rfl () (by rw [hop]) trivial hP hD hS (by decide) (by decide) dX4_bestHank_22
theorem kX4_bestAgain : hkV RX4 yX4_bestAgain cX4_bestAgain 5 (some .int) 1 := ⟨q2603, q2604, q78, q2605, rfl, by decide +kernel⟩
set_option maxHeartbeats 4000000 in
theorem mX4_bestAgain (l : Launch) (g : hG) (E : hEnv) (ho : mOk g E) (h0 : Nat) (a : Nat → Nat) (I : Nat → Int32) (F : Nat → Nat → Int32) (p0 : Int32) (nt : Nat) (nh : Nat) (nb : Nat) (nc : Nat) (tw : Nat) (hc : Cn (F 0) nt nh nb nc tw) : MM l yX4_bestAgain cX4_bestAgain 5 (some .int) 4 90 0 0 [.ref h0, .int p0] g E (mW g h0 a I F) (S := Unit) (fun _ => (some (.int ((gBestAgain (F 0) p0).2)))) (fun _ => True) (fun _ => mW g h0 a (upd I 1 (gBestAgain (F 0) p0).1) F) := by
  refine MM.mk (by decide) (Nat.le_of_ble_eq_true rfl) ?_
  intro p e R s m args below meth c Q A H locs ls hX hRc hRs hP hD hE hS hA hnm hl hQ
  obtain ⟨hx, hb, hr, hlk, hml, hown, hts, hRf, hRl⟩ := hX
  have hown : s.vm.findClass RX4 = some m.cls := hown
  have hK := ho.2 _ _ _ hE
  have hl : lv_has ls 5 [(0, .ref h0), (1, .int p0)] := hl
  have hc0 := hc
  obtain ⟨htw, htw6, ht, ht10, hh, hh20, hb6, hb6l, hk5, hk5l⟩ := hc
  have htc : (nI nt).toNatClampNeg = nt := nI_clamp (by omega)
  have hhc : (nI nh).toNatClampNeg = nh := nI_clamp (by omega)
  have hbc : (nI nb).toNatClampNeg = nb := nI_clamp (by omega)
  have hkc : (nI nc).toNatClampNeg = nc := nI_clamp (by omega)
  have htwc : (nI tw).toNatClampNeg = tw := nI_clamp (by omega)
  refine lv_aload_n hx hb dX4_bestAgain_0 rfl (lv_at hl 0 rfl) ?_
  refine lv_aload_n hx hb dX4_bestAgain_1 rfl (lv_at hl 0 rfl) ?_
  refine lv_iload_n hx hb dX4_bestAgain_2 rfl (lv_at hl 1 rfl) ?_
  refine rcV (As := [.int p0]) (rest := [.ref h0]) (st1 := [.int (if inR p0 0 (F 0 5 - 1) then 1 else 0), .ref h0]) (mX4_isBow l g E ho h0 a I F p0) kX4_isBow q2494 hx hb hml hown hts hRf hRl ho.1 hE hS hP (va_recv hK hP (ci := 0) (q0 := 0) rfl rfl) ⟨Nat.zero_le _, Nat.zero_le _⟩ hl ⟨rfl, rfl⟩ rfl rfl (Nat.le_of_ble_eq_true rfl) rfl dX4_bestAgain_3 ?_
  refine h_ifne_b (tgt := 13) hx hb dX4_bestAgain_6 (by decide) (fun c_1 => ?_) (fun c_1 => ?_)
  · rw [hb6] at c_1
    refine lv_iconst (v := 0) hx hb dX4_bestAgain_13 (by decide) ?_
    refine lv_iconst (v := 1) hx hb dX4_bestAgain_14 (by decide) ?_
    refine mcV (As := [.int 0, .int 1]) (rest := []) (wr := []) (mX4_isThrown0 l g E ho h0 a I F 1) kX4_isThrown q2574 hx hb hml hown hts hRf hRl ho.1 hE hS hP hD hA [0, 1, 2, 3, 4, 5, 6, 7, 8] [] rfl (by decide) rfl (by decide) (by decide) ⟨Nat.zero_le _, Nat.zero_le _⟩ (va_recv hK hP (ci := 0) (q0 := 0) rfl rfl) hl ⟨rfl, rfl⟩ rfl rfl (Nat.le_of_ble_eq_true rfl) dX4_bestAgain_15 (fun _ H locs _ hP hD hS _ _ => ?_)
    have hP : va_P (gD g) Cl (mW g h0 a (upd I 1 0) F) H := hP
    have hD : va_D A (mW g h0 a (upd I 1 0) F) := hD
    refine lv_if_eq (tgt := 23) hx hb dX4_bestAgain_18 (by decide) (fun _ => ?_) (fun c => absurd c (by decide))
    have hrj := c_1
    obtain ⟨j, hj, rfl⟩ := inR_ix hrj rfl (by omega)
    have hjc : (nI j).toNatClampNeg = j := nI_clamp (by omega)
    refine lv_iconst (v := 0) hx hb dX4_bestAgain_23 (by decide) ?_
    refine lv_istore_n (lv' := [(2, .int 0), (0, .ref h0), (1, .int (nI j))]) hx hb dX4_bestAgain_24 rfl hl (by decide) rfl (fun ls hl => ?_)
    have loop_25 : ∀ (k : Nat) (i : Nat), (nh < i + k ∧ i ≤ nh ∧ agF (F 0) (F 0 (153 + 7 * j)) nh nh 0 = agF (F 0) (F 0 (153 + 7 * j)) nh (nh - i) i) → ∀ (H : Heap) (locs : List Loc), va_P (gD g) Cl (mW g h0 a (upd I 1 0) F) H → va_D A (mW g h0 a (upd I 1 0) F) → va_S A s.heap H locs → ∀ (ls : Array Slot), lv_has ls 5 [(2, .int (nI i)), (0, .ref h0), (1, .int (nI j))] → W p l e R s m args below meth c H locs 0 0 Q (F0 m 25 ls []) := by
      intro k
      induction k with
      | zero =>
        intro i hi H locs hP hD hS ls hl
        exact absurd hi.1 (by omega)
      | succ k ih_25 =>
        intro i hi H locs hP hD hS ls hl
        obtain ⟨hi1, hi2, hi3⟩ := hi
        refine lv_iload_n hx hb dX4_bestAgain_25 rfl (lv_at hl 0 rfl) ?_
        refine lv_aload_n hx hb dX4_bestAgain_26 rfl (lv_at hl 1 rfl) ?_
        refine va_get (D := gD g) (ci := 0) (v := .ref (a 0)) (C := RX4) (T := TX4) (N := 21) hx hb hts in_X4 hown hK hP 0 rfl rfl 0 (by decide) (hts _ q2314) (fun _ h9 => h9) rfl dX4_bestAgain_27 ?_
        refine lv_iconst (v := 4) hx hb dX4_bestAgain_30 (by decide) ?_
        refine h_iald (f := (F 0)) hx hb hK hP 1 0 rfl rfl 4 rfl (by decide) (by decide) dX4_bestAgain_31 ?_
        refine h_topi (v := nI nh) (hh) ?_
        refine lv_icmp_ge (tgt := 122) hx hb dX4_bestAgain_32 (by decide) (fun c_2 => ?_) (fun c_2 => ?_)
        · have hiq : i = nh := by
            rcases Nat.lt_or_ge i nh with z | z
            · exact absurd c_2 (nI_ge z (by omega))
            · omega
          have hag : agF (F 0) (F 0 (153 + 7 * j)) nh nh 0 = -1 := by rw [hi3, hiq, Nat.sub_self]; rfl
          refine lv_aload_n hx hb dX4_bestAgain_122 rfl (lv_at hl 1 rfl) ?_
          refine lv_iconst (v := 2) hx hb dX4_bestAgain_123 (by decide) ?_
          refine va_put (D := gD g) (ci := 0) (v := .int 2) (ty := .int) (C := RX4) (T := TX4) (N := 21) hx hb hts in_X4 tyX4 tyX4_ok nmX4 hown hK hP hD hS 0 rfl rfl 5 (by decide) (hts _ q2319) (fun _ h9 => h9) rfl (by decide +kernel) rfl rfl (Nat.le_of_ble_eq_true rfl) dX4_bestAgain_124 (fun H locs hP hD hS => ?_)
          have hP : va_P (gD g) Cl (mW g h0 a (upd I 1 2) F) H := hP
          have hD : va_D A (mW g h0 a (upd I 1 2) F) := hD
          refine lv_iconst (v := 0) hx hb dX4_bestAgain_127 (by decide) ?_
          have hop : gBestAgain (F 0) (nI j) = (2, 0) := by simp only [htw, htwc, ht, htc, hh, hhc, hb6, hbc, hk5, hkc, gBestAgain, hjc, hag, eq_true c_1, eq_true c_2, eq_false (Int32.not_lt.mpr c_2), if_true, if_false, not_true_eq_false, not_false_eq_true, ite_true, ite_false, reduceIte, Nat.add_zero, Nat.add_sub_cancel]
          have hW1 : (mW g h0 a (upd I 1 2) F) = mW g h0 a (upd I 1 (gBestAgain (F 0) (nI j)).1) F := by
            rw [hop]
          rw [hW1] at hP hD
          exact hm_i hQ hx hb hr hlk rfl () (by rw [hop]) trivial hP hD hS (by decide) (by decide) dX4_bestAgain_128
        have hlt : i < nh := by
          rcases Nat.lt_or_ge i nh with z | z
          · exact z
          · exact absurd (nI_le z (by omega)) c_2
        obtain ⟨d, hd⟩ : ∃ d, nh - i = d + 1 := ⟨nh - i - 1, by omega⟩
        have hd2 : nh - (i + 1) = d := by omega
        refine lv_iconst (v := 0) hx hb dX4_bestAgain_35 (by decide) ?_
        refine lv_istore_n (lv' := [(3, .int 0), (2, .int (nI i)), (0, .ref h0), (1, .int (nI j))]) hx hb dX4_bestAgain_36 rfl hl (by decide) rfl (fun ls hl => ?_)
        refine lv_iconst (v := 0) hx hb dX4_bestAgain_37 (by decide) ?_
        refine lv_istore (lv' := [(4, .int 0), (3, .int 0), (2, .int (nI i)), (0, .ref h0), (1, .int (nI j))]) hx hb dX4_bestAgain_38 hl (by decide) rfl (fun ls hl => ?_)
        have loop_40 : ∀ (k : Nat) (o c0 : Nat), (nh < o + k ∧ o ≤ nh ∧ c0 = aheadC (F 0) (F 0 (153 + 7 * j)) i o ∧ c0 ≤ o) → ∀ (H : Heap) (locs : List Loc), va_P (gD g) Cl (mW g h0 a (upd I 1 0) F) H → va_D A (mW g h0 a (upd I 1 0) F) → va_S A s.heap H locs → ∀ (ls : Array Slot), lv_has ls 5 [(4, .int (nI o)), (3, .int (nI c0)), (0, .ref h0), (1, .int (nI j)), (2, .int (nI i))] → W p l e R s m args below meth c H locs 0 0 Q (F0 m 40 ls []) := by
          intro k
          induction k with
          | zero =>
            intro o c0 hc H locs hP hD hS ls hl
            exact absurd hc.1 (by omega)
          | succ k ih_40 =>
            intro o c0 hc H locs hP hD hS ls hl
            obtain ⟨hc1, hc2, hc3, hc4⟩ := hc
            refine lv_iload hx hb dX4_bestAgain_40 (lv_at hl 0 rfl) ?_
            refine lv_aload_n hx hb dX4_bestAgain_42 rfl (lv_at hl 2 rfl) ?_
            refine va_get (D := gD g) (ci := 0) (v := .ref (a 0)) (C := RX4) (T := TX4) (N := 21) hx hb hts in_X4 hown hK hP 0 rfl rfl 0 (by decide) (hts _ q2314) (fun _ h9 => h9) rfl dX4_bestAgain_43 ?_
            refine lv_iconst (v := 4) hx hb dX4_bestAgain_46 (by decide) ?_
            refine h_iald (f := (F 0)) hx hb hK hP 1 0 rfl rfl 4 rfl (by decide) (by decide) dX4_bestAgain_47 ?_
            refine h_topi (v := nI nh) (hh) ?_
            refine lv_icmp_ge (tgt := 96) hx hb dX4_bestAgain_48 (by decide) (fun c_3 => ?_) (fun c_3 => ?_)
            · have hoq : o = nh := by
                rcases Nat.lt_or_ge o nh with z | z
                · exact absurd c_3 (nI_ge z (by omega))
                · omega
              rw [hoq] at hc3
              refine lv_aload_n hx hb dX4_bestAgain_96 rfl (lv_at hl 2 rfl) ?_
              refine lv_iload_n hx hb dX4_bestAgain_97 rfl (lv_at hl 4 rfl) ?_
              refine lv_aload_n hx hb dX4_bestAgain_98 rfl (lv_at hl 2 rfl) ?_
              refine lv_iload_n hx hb dX4_bestAgain_99 rfl (lv_at hl 3 rfl) ?_
              refine lv_iconst (v := 0) hx hb dX4_bestAgain_100 (by decide) ?_
              refine rcV (As := [.int (nI j), .int 0]) (rest := [.int (nI i), .ref h0]) (st1 := [.int (F 0 (153 + 7 * j)), .int (nI i), .ref h0]) (mX4_ofBow l g E ho h0 a (upd I 1 0) F j 0 (by omega)) kX4_ofBow q2498 hx hb hml hown hts hRf hRl ho.1 hE hS hP (va_recv hK hP (ci := 0) (q0 := 0) rfl rfl) ⟨Nat.zero_le _, Nat.zero_le _⟩ hl ⟨rfl, rfl⟩ rfl rfl (Nat.le_of_ble_eq_true rfl) rfl dX4_bestAgain_101 ?_
              refine rcV (As := [.int (nI i), .int (F 0 (153 + 7 * j))]) (rest := []) (st1 := [.int (if takP (F 0) (F 0 (153 + 7 * j)) i then 1 else 0)]) (mX4_canBeTaken l g E ho h0 a (upd I 1 0) F i (F 0 (153 + 7 * j)) (by omega)) kX4_canBeTaken q2598 hx hb hml hown hts hRf hRl ho.1 hE hS hP (va_recv hK hP (ci := 0) (q0 := 0) rfl rfl) ⟨Nat.zero_le _, Nat.zero_le _⟩ hl ⟨rfl, rfl⟩ rfl rfl (Nat.le_of_ble_eq_true rfl) rfl dX4_bestAgain_104 ?_
              refine h_ifeq_b (tgt := 116) hx hb dX4_bestAgain_107 (by decide) (fun c_4 => ?_) (fun c_4 => ?_)
              · refine lv_iinc (v := nI (i + 1)) (lv' := [(2, .int (nI (i + 1))), (4, .int (nI o)), (3, .int (nI c0)), (0, .ref h0), (1, .int (nI j))]) hx hb dX4_bestAgain_116 hl (k := 4) rfl (h_ninc (a := i) (k := 1) (rfl)) (by decide) rfl (fun ls hl => ?_)
                refine lv_goto (tgt := 25) hx hb dX4_bestAgain_119 (by decide) ?_
                exact ih_25 (i + 1) ⟨by omega, by omega, by rw [hi3, hd, hd2]; exact if_neg (fun z => c_4 z.1)⟩ H locs hP hD hS ls (lv_sub hl [0, 3, 4] rfl)
              refine lv_iload_n hx hb dX4_bestAgain_110 rfl (lv_at hl 1 rfl) ?_
              refine lv_if_ne (tgt := 116) hx hb dX4_bestAgain_111 (by decide) (fun c_5 => ?_) (fun c_5 => ?_)
              · refine lv_iinc (v := nI (i + 1)) (lv' := [(2, .int (nI (i + 1))), (4, .int (nI o)), (3, .int (nI c0)), (0, .ref h0), (1, .int (nI j))]) hx hb dX4_bestAgain_116 hl (k := 4) rfl (h_ninc (a := i) (k := 1) (rfl)) (by decide) rfl (fun ls hl => ?_)
                refine lv_goto (tgt := 25) hx hb dX4_bestAgain_119 (by decide) ?_
                exact ih_25 (i + 1) ⟨by omega, by omega, by rw [hi3, hd, hd2]; exact if_neg (fun z => c_5 (congrArg nI (hc3.trans z.2)))⟩ H locs hP hD hS ls (lv_sub hl [0, 3, 4] rfl)
              have hc0 : c0 = 0 := (nI_eq (b := 0) (by omega) (by decide)).mp c_5
              have hag : agF (F 0) (F 0 (153 + 7 * j)) nh nh 0 = nI i := by rw [hi3, hd]; exact if_pos ⟨c_4, by rw [← hc3, hc0]⟩
              refine lv_iload_n hx hb dX4_bestAgain_114 rfl (lv_at hl 4 rfl) ?_
              have hop : gBestAgain (F 0) (nI j) = (0, nI i) := by simp only [htw, htwc, ht, htc, hh, hhc, hb6, hbc, hk5, hkc, gBestAgain, hjc, hag, eq_false (nI_m1 (j := i) (by omega)), eq_true c_1, eq_false c_2, eq_true (Int32.not_le.mp c_2), eq_true c_3, eq_false (Int32.not_lt.mpr c_3), eq_true c_4, eq_true c_5, if_true, if_false, not_true_eq_false, not_false_eq_true, ite_true, ite_false, reduceIte, Nat.add_zero, Nat.add_sub_cancel]
              have hW1 : (mW g h0 a (upd I 1 0) F) = mW g h0 a (upd I 1 (gBestAgain (F 0) (nI j)).1) F := by
                rw [hop]
              rw [hW1] at hP hD
              exact hm_i hQ hx hb hr hlk rfl () (by rw [hop]) trivial hP hD hS (by decide) (by decide) dX4_bestAgain_115
            have hlto : o < nh := by
              rcases Nat.lt_or_ge o nh with z | z
              · exact z
              · exact absurd (nI_le z (by omega)) c_3
            refine lv_iload_n hx hb dX4_bestAgain_51 rfl (lv_at hl 1 rfl) ?_
            refine lv_iload hx hb dX4_bestAgain_52 (lv_at hl 0 rfl) ?_
            refine lv_iload_n hx hb dX4_bestAgain_54 rfl (lv_at hl 4 rfl) ?_
            refine lv_icmp_eq (tgt := 87) hx hb dX4_bestAgain_55 (by decide) (fun c_6 => ?_) (fun c_6 => ?_)
            · have hoi : o = i := (nI_eq (by omega) (by omega)).mp c_6
              refine lv_iconst (v := 0) hx hb dX4_bestAgain_87 (by decide) ?_
              refine lv_iadd hx hb dX4_bestAgain_88 ?_
              refine h_topi (v := nI c0) (h_nadd (a := c0) (b := 0) (rfl) (rfl)) ?_
              refine lv_istore_n (lv' := [(3, .int (nI c0)), (4, .int (nI o)), (0, .ref h0), (1, .int (nI j)), (2, .int (nI i))]) hx hb dX4_bestAgain_89 rfl hl (by decide) rfl (fun ls hl => ?_)
              refine lv_iinc (v := nI (o + 1)) (lv' := [(4, .int (nI (o + 1))), (3, .int (nI c0)), (0, .ref h0), (1, .int (nI j)), (2, .int (nI i))]) hx hb dX4_bestAgain_90 hl (k := 1) rfl (h_ninc (a := o) (k := 1) (rfl)) (by decide) rfl (fun ls hl => ?_)
              refine lv_goto (tgt := 40) hx hb dX4_bestAgain_93 (by decide) ?_
              exact ih_40 (o + 1) (c0) ⟨by omega, by omega, by simp only [aheadC, ← hc3, eq_true hoi, eq_true c_1, eq_false c_2, eq_true (Int32.not_le.mp c_2), eq_false c_3, eq_true (Int32.not_le.mp c_3), eq_true c_6, if_true, if_false, not_true_eq_false, not_false_eq_true, ite_true, ite_false, reduceIte, Nat.add_zero, Nat.add_sub_cancel, true_and, and_true, false_and, and_false, or_false, false_or, true_or, or_true, and_self, or_self], by omega⟩ H locs hP hD hS ls (lv_sub hl [0, 1, 2, 3, 4] rfl)
            have hoi : ¬ o = i := fun q => c_6 (by rw [q])
            refine lv_aload_n hx hb dX4_bestAgain_58 rfl (lv_at hl 2 rfl) ?_
            refine lv_iload hx hb dX4_bestAgain_59 (lv_at hl 0 rfl) ?_
            refine lv_aload_n hx hb dX4_bestAgain_61 rfl (lv_at hl 2 rfl) ?_
            refine lv_iload_n hx hb dX4_bestAgain_62 rfl (lv_at hl 3 rfl) ?_
            refine lv_iconst (v := 0) hx hb dX4_bestAgain_63 (by decide) ?_
            refine rcV (As := [.int (nI j), .int 0]) (rest := [.int (nI o), .ref h0, .int (nI c0)]) (st1 := [.int (F 0 (153 + 7 * j)), .int (nI o), .ref h0, .int (nI c0)]) (mX4_ofBow l g E ho h0 a (upd I 1 0) F j 0 (by omega)) kX4_ofBow q2498 hx hb hml hown hts hRf hRl ho.1 hE hS hP (va_recv hK hP (ci := 0) (q0 := 0) rfl rfl) ⟨Nat.zero_le _, Nat.zero_le _⟩ hl ⟨rfl, rfl⟩ rfl rfl (Nat.le_of_ble_eq_true rfl) rfl dX4_bestAgain_64 ?_
            refine rcV (As := [.int (nI o), .int (F 0 (153 + 7 * j))]) (rest := [.int (nI c0)]) (st1 := [.int (if takP (F 0) (F 0 (153 + 7 * j)) o then 1 else 0), .int (nI c0)]) (mX4_canBeTaken l g E ho h0 a (upd I 1 0) F o (F 0 (153 + 7 * j)) (by omega)) kX4_canBeTaken q2598 hx hb hml hown hts hRf hRl ho.1 hE hS hP (va_recv hK hP (ci := 0) (q0 := 0) rfl rfl) ⟨Nat.zero_le _, Nat.zero_le _⟩ hl ⟨rfl, rfl⟩ rfl rfl (Nat.le_of_ble_eq_true rfl) rfl dX4_bestAgain_67 ?_
            refine h_ifeq_b (tgt := 87) hx hb dX4_bestAgain_70 (by decide) (fun c_7 => ?_) (fun c_7 => ?_)
            · refine lv_iconst (v := 0) hx hb dX4_bestAgain_87 (by decide) ?_
              refine lv_iadd hx hb dX4_bestAgain_88 ?_
              refine h_topi (v := nI c0) (h_nadd (a := c0) (b := 0) (rfl) (rfl)) ?_
              refine lv_istore_n (lv' := [(3, .int (nI c0)), (4, .int (nI o)), (0, .ref h0), (1, .int (nI j)), (2, .int (nI i))]) hx hb dX4_bestAgain_89 rfl hl (by decide) rfl (fun ls hl => ?_)
              refine lv_iinc (v := nI (o + 1)) (lv' := [(4, .int (nI (o + 1))), (3, .int (nI c0)), (0, .ref h0), (1, .int (nI j)), (2, .int (nI i))]) hx hb dX4_bestAgain_90 hl (k := 1) rfl (h_ninc (a := o) (k := 1) (rfl)) (by decide) rfl (fun ls hl => ?_)
              refine lv_goto (tgt := 40) hx hb dX4_bestAgain_93 (by decide) ?_
              exact ih_40 (o + 1) (c0) ⟨by omega, by omega, by simp only [aheadC, ← hc3, eq_false hoi, eq_true c_1, eq_false c_2, eq_true (Int32.not_le.mp c_2), eq_false c_3, eq_true (Int32.not_le.mp c_3), eq_false c_6, eq_false c_7, if_true, if_false, not_true_eq_false, not_false_eq_true, ite_true, ite_false, reduceIte, Nat.add_zero, Nat.add_sub_cancel, true_and, and_true, false_and, and_false, or_false, false_or, true_or, or_true, and_self, or_self], by omega⟩ H locs hP hD hS ls (lv_sub hl [0, 1, 2, 3, 4] rfl)
            refine lv_aload_n hx hb dX4_bestAgain_73 rfl (lv_at hl 2 rfl) ?_
            refine lv_iload hx hb dX4_bestAgain_74 (lv_at hl 0 rfl) ?_
            refine lv_iload_n hx hb dX4_bestAgain_76 rfl (lv_at hl 4 rfl) ?_
            refine rcV (As := [.int (nI o), .int (nI i)]) (rest := [.int (nI c0)]) (st1 := [.int (if aheadP (F 0) o i then 1 else 0), .int (nI c0)]) (mX4_isAhead l g E ho h0 a (upd I 1 0) F o i (by omega) (by omega)) kX4_isAhead q2606 hx hb hml hown hts hRf hRl ho.1 hE hS hP (va_recv hK hP (ci := 0) (q0 := 0) rfl rfl) ⟨Nat.zero_le _, Nat.zero_le _⟩ hl ⟨rfl, rfl⟩ rfl rfl (Nat.le_of_ble_eq_true rfl) rfl dX4_bestAgain_77 ?_
            refine h_ifeq_b (tgt := 87) hx hb dX4_bestAgain_80 (by decide) (fun c_8 => ?_) (fun c_8 => ?_)
            · refine lv_iconst (v := 0) hx hb dX4_bestAgain_87 (by decide) ?_
              refine lv_iadd hx hb dX4_bestAgain_88 ?_
              refine h_topi (v := nI c0) (h_nadd (a := c0) (b := 0) (rfl) (rfl)) ?_
              refine lv_istore_n (lv' := [(3, .int (nI c0)), (4, .int (nI o)), (0, .ref h0), (1, .int (nI j)), (2, .int (nI i))]) hx hb dX4_bestAgain_89 rfl hl (by decide) rfl (fun ls hl => ?_)
              refine lv_iinc (v := nI (o + 1)) (lv' := [(4, .int (nI (o + 1))), (3, .int (nI c0)), (0, .ref h0), (1, .int (nI j)), (2, .int (nI i))]) hx hb dX4_bestAgain_90 hl (k := 1) rfl (h_ninc (a := o) (k := 1) (rfl)) (by decide) rfl (fun ls hl => ?_)
              refine lv_goto (tgt := 40) hx hb dX4_bestAgain_93 (by decide) ?_
              exact ih_40 (o + 1) (c0) ⟨by omega, by omega, by simp only [aheadC, ← hc3, eq_false hoi, eq_true c_1, eq_false c_2, eq_true (Int32.not_le.mp c_2), eq_false c_3, eq_true (Int32.not_le.mp c_3), eq_false c_6, eq_true c_7, eq_false c_8, if_true, if_false, not_true_eq_false, not_false_eq_true, ite_true, ite_false, reduceIte, Nat.add_zero, Nat.add_sub_cancel, true_and, and_true, false_and, and_false, or_false, false_or, true_or, or_true, and_self, or_self], by omega⟩ H locs hP hD hS ls (lv_sub hl [0, 1, 2, 3, 4] rfl)
            refine lv_iconst (v := 1) hx hb dX4_bestAgain_83 (by decide) ?_
            refine lv_goto (tgt := 88) hx hb dX4_bestAgain_84 (by decide) ?_
            refine lv_iadd hx hb dX4_bestAgain_88 ?_
            refine h_topi (v := nI (c0 + 1)) (h_nadd (a := c0) (b := 1) (rfl) (rfl)) ?_
            refine lv_istore_n (lv' := [(3, .int (nI (c0 + 1))), (4, .int (nI o)), (0, .ref h0), (1, .int (nI j)), (2, .int (nI i))]) hx hb dX4_bestAgain_89 rfl hl (by decide) rfl (fun ls hl => ?_)
            refine lv_iinc (v := nI (o + 1)) (lv' := [(4, .int (nI (o + 1))), (3, .int (nI (c0 + 1))), (0, .ref h0), (1, .int (nI j)), (2, .int (nI i))]) hx hb dX4_bestAgain_90 hl (k := 1) rfl (h_ninc (a := o) (k := 1) (rfl)) (by decide) rfl (fun ls hl => ?_)
            refine lv_goto (tgt := 40) hx hb dX4_bestAgain_93 (by decide) ?_
            exact ih_40 (o + 1) (c0 + 1) ⟨by omega, by omega, by simp only [aheadC, ← hc3, eq_false hoi, eq_true c_1, eq_false c_2, eq_true (Int32.not_le.mp c_2), eq_false c_3, eq_true (Int32.not_le.mp c_3), eq_false c_6, eq_true c_7, eq_true c_8, if_true, if_false, not_true_eq_false, not_false_eq_true, ite_true, ite_false, reduceIte, Nat.add_zero, Nat.add_sub_cancel, true_and, and_true, false_and, and_false, or_false, false_or, true_or, or_true, and_self, or_self], by omega⟩ H locs hP hD hS ls (lv_sub hl [0, 1, 2, 3, 4] rfl)
        exact loop_40 (nh + 1) 0 0 ⟨by omega, by omega, rfl, by omega⟩ H locs hP hD hS ls (lv_sub hl [0, 1, 3, 4, 2] rfl)
    exact loop_25 (nh + 1) 0 ⟨by omega, by omega, rfl⟩ H locs hP hD hS ls (lv_sub hl [0, 1, 2] rfl)
  rw [hb6] at c_1
  refine lv_iconst (v := 1) hx hb dX4_bestAgain_9 (by decide) ?_
  refine lv_goto (tgt := 14) hx hb dX4_bestAgain_10 (by decide) ?_
  refine lv_iconst (v := 1) hx hb dX4_bestAgain_14 (by decide) ?_
  refine mcV (As := [.int 1, .int 1]) (rest := []) (wr := []) (mX4_isThrown1 l g E ho h0 a I F 1) kX4_isThrown q2574 hx hb hml hown hts hRf hRl ho.1 hE hS hP hD hA [0, 1, 2, 3, 4, 5, 6, 7, 8] [] rfl (by decide) rfl (by decide) (by decide) ⟨Nat.zero_le _, Nat.zero_le _⟩ (va_recv hK hP (ci := 0) (q0 := 0) rfl rfl) hl ⟨rfl, rfl⟩ rfl rfl (Nat.le_of_ble_eq_true rfl) dX4_bestAgain_15 (fun _ H locs _ hP hD hS _ _ => ?_)
  have hP : va_P (gD g) Cl (mW g h0 a (upd I 1 1) F) H := hP
  have hD : va_D A (mW g h0 a (upd I 1 1) F) := hD
  refine lv_if_eq (tgt := 23) hx hb dX4_bestAgain_18 (by decide) (fun c => absurd c (by decide)) (fun _ => ?_)
  refine lv_iconst (v := 0) hx hb dX4_bestAgain_21 (by decide) ?_
  have hop : gBestAgain (F 0) p0 = (1, 0) := by simp only [htw, htwc, ht, htc, hh, hhc, hb6, hbc, hk5, hkc, gBestAgain, eq_false c_1, if_true, if_false, not_true_eq_false, not_false_eq_true, ite_true, ite_false, reduceIte, Nat.add_zero, Nat.add_sub_cancel]
  have hW1 : (mW g h0 a (upd I 1 1) F) = mW g h0 a (upd I 1 (gBestAgain (F 0) p0).1) F := by
    rw [hop]
  rw [hW1] at hP hD
  exact hm_i hQ hx hb hr hlk rfl () (by rw [hop]) trivial hP hD hS (by decide) (by decide) dX4_bestAgain_22
theorem kX4_goodFor : hkV RX4 yX4_goodFor cX4_goodFor 4 (some .int) 1 := ⟨q2611, q2612, q78, q2613, rfl, by decide +kernel⟩
set_option maxHeartbeats 4000000 in
theorem mX4_goodFor (l : Launch) (g : hG) (E : hEnv) (ho : mOk g E) (h0 : Nat) (a : Nat → Nat) (I : Nat → Int32) (F : Nat → Nat → Int32) (p0 : Int32) (nt : Nat) (nh : Nat) (nb : Nat) (nc : Nat) (tw : Nat) (hc : Cn (F 0) nt nh nb nc tw) : MM l yX4_goodFor cX4_goodFor 4 (some .int) 3 65 0 0 [.ref h0, .int p0] g E (mW g h0 a I F) (S := Unit) (fun _ => (some (.int ((gGoodFor (F 0) p0).2)))) (fun _ => True) (fun _ => mW g h0 a (upd I 1 (gGoodFor (F 0) p0).1) F) := by
  refine MM.mk (by decide) (Nat.le_of_ble_eq_true rfl) ?_
  intro p e R s m args below meth c Q A H locs ls hX hRc hRs hP hD hE hS hA hnm hl hQ
  obtain ⟨hx, hb, hr, hlk, hml, hown, hts, hRf, hRl⟩ := hX
  have hown : s.vm.findClass RX4 = some m.cls := hown
  have hK := ho.2 _ _ _ hE
  have hl : lv_has ls 4 [(0, .ref h0), (1, .int p0)] := hl
  have hc0 := hc
  obtain ⟨htw, htw6, ht, ht10, hh, hh20, hb6, hb6l, hk5, hk5l⟩ := hc
  have htc : (nI nt).toNatClampNeg = nt := nI_clamp (by omega)
  have hhc : (nI nh).toNatClampNeg = nh := nI_clamp (by omega)
  have hbc : (nI nb).toNatClampNeg = nb := nI_clamp (by omega)
  have hkc : (nI nc).toNatClampNeg = nc := nI_clamp (by omega)
  have htwc : (nI tw).toNatClampNeg = tw := nI_clamp (by omega)
  refine lv_aload_n hx hb dX4_goodFor_0 rfl (lv_at hl 0 rfl) ?_
  refine lv_aload_n hx hb dX4_goodFor_1 rfl (lv_at hl 0 rfl) ?_
  refine lv_iload_n hx hb dX4_goodFor_2 rfl (lv_at hl 1 rfl) ?_
  refine rcV (As := [.int p0]) (rest := [.ref h0]) (st1 := [.int (if inR p0 0 (F 0 4 - 1) then 1 else 0), .ref h0]) (mX4_isHank l g E ho h0 a I F p0) kX4_isHank q2449 hx hb hml hown hts hRf hRl ho.1 hE hS hP (va_recv hK hP (ci := 0) (q0 := 0) rfl rfl) ⟨Nat.zero_le _, Nat.zero_le _⟩ hl ⟨rfl, rfl⟩ rfl rfl (Nat.le_of_ble_eq_true rfl) rfl dX4_goodFor_3 ?_
  refine h_ifne_b (tgt := 13) hx hb dX4_goodFor_6 (by decide) (fun c_1 => ?_) (fun c_1 => ?_)
  · rw [hh] at c_1
    refine lv_iconst (v := 0) hx hb dX4_goodFor_13 (by decide) ?_
    refine lv_iconst (v := 1) hx hb dX4_goodFor_14 (by decide) ?_
    refine mcV (As := [.int 0, .int 1]) (rest := []) (wr := []) (mX4_isThrown0 l g E ho h0 a I F 1) kX4_isThrown q2574 hx hb hml hown hts hRf hRl ho.1 hE hS hP hD hA [0, 1, 2, 3, 4, 5, 6, 7, 8] [] rfl (by decide) rfl (by decide) (by decide) ⟨Nat.zero_le _, Nat.zero_le _⟩ (va_recv hK hP (ci := 0) (q0 := 0) rfl rfl) hl ⟨rfl, rfl⟩ rfl rfl (Nat.le_of_ble_eq_true rfl) dX4_goodFor_15 (fun _ H locs _ hP hD hS _ _ => ?_)
    have hP : va_P (gD g) Cl (mW g h0 a (upd I 1 0) F) H := hP
    have hD : va_D A (mW g h0 a (upd I 1 0) F) := hD
    refine lv_if_eq (tgt := 23) hx hb dX4_goodFor_18 (by decide) (fun _ => ?_) (fun c => absurd c (by decide))
    have hrj := c_1
    obtain ⟨j, hj, rfl⟩ := inR_ix hrj rfl (by omega)
    have hjc : (nI j).toNatClampNeg = j := nI_clamp (by omega)
    refine lv_aload_n hx hb dX4_goodFor_23 rfl (lv_at hl 0 rfl) ?_
    refine lv_iload_n hx hb dX4_goodFor_24 rfl (lv_at hl 1 rfl) ?_
    refine lv_iconst (v := 1) hx hb dX4_goodFor_25 (by decide) ?_
    refine rcV (As := [.int (nI j), .int 1]) (rest := []) (st1 := [.int (F 0 (73 + 4 * j + 1))]) (mX4_ofHank l g E ho h0 a (upd I 1 0) F j 1 (by omega)) kX4_ofHank q2453 hx hb hml hown hts hRf hRl ho.1 hE hS hP (va_recv hK hP (ci := 0) (q0 := 0) rfl rfl) ⟨Nat.zero_le _, Nat.zero_le _⟩ hl ⟨rfl, rfl⟩ rfl rfl (Nat.le_of_ble_eq_true rfl) rfl dX4_goodFor_26 ?_
    refine lv_bipush (v := 50) hx hb dX4_goodFor_29 (by decide) ?_
    refine lv_icmp_lt (tgt := 50) hx hb dX4_goodFor_31 (by decide) (fun c_2 => ?_) (fun c_2 => ?_)
    · refine lv_iconst (v := 0) hx hb dX4_goodFor_50 (by decide) ?_
      refine lv_istore_n (lv' := [(2, .int 0), (0, .ref h0), (1, .int (nI j))]) hx hb dX4_goodFor_51 rfl hl (by decide) rfl (fun ls hl => ?_)
      refine lv_iconst (v := 0) hx hb dX4_goodFor_52 (by decide) ?_
      refine lv_istore_n (lv' := [(3, .int 0), (2, .int 0), (0, .ref h0), (1, .int (nI j))]) hx hb dX4_goodFor_53 rfl hl (by decide) rfl (fun ls hl => ?_)
      have loop_54 : ∀ (k : Nat) (i : Nat) (v0 : Int32), (4 < i + k ∧ i ≤ 4 ∧ v0 = goodK (F 0) j i) → ∀ (H : Heap) (locs : List Loc), va_P (gD g) Cl (mW g h0 a (upd I 1 0) F) H → va_D A (mW g h0 a (upd I 1 0) F) → va_S A s.heap H locs → ∀ (ls : Array Slot), lv_has ls 4 [(3, .int (nI i)), (2, .int v0), (0, .ref h0), (1, .int (nI j))] → W p l e R s m args below meth c H locs 0 0 Q (F0 m 54 ls []) := by
        intro k
        induction k with
        | zero =>
          intro i v0 hi H locs hP hD hS ls hl
          exact absurd hi.1 (by omega)
        | succ k ih_54 =>
          intro i v0 hi H locs hP hD hS ls hl
          obtain ⟨hi1, hi2, hi3⟩ := hi
          refine lv_iload_n hx hb dX4_goodFor_54 rfl (lv_at hl 0 rfl) ?_
          refine lv_iconst (v := 4) hx hb dX4_goodFor_55 (by decide) ?_
          refine lv_icmp_ge (tgt := 84) hx hb dX4_goodFor_56 (by decide) (fun c_3 => ?_) (fun c_3 => ?_)
          · have hiq : i = 4 := by
              rcases Nat.lt_or_ge i 4 with z | z
              · exact absurd c_3 (nI_ge (a := i) (b := 4) z (by first | decide | omega))
              · omega
            rw [hiq] at hi3
            refine lv_iload_n hx hb dX4_goodFor_84 rfl (lv_at hl 1 rfl) ?_
            have hop : gGoodFor (F 0) (nI j) = (0, v0) := by simp only [htw, htwc, ht, htc, hh, hhc, hb6, hbc, hk5, hkc, gGoodFor, hjc, ← hi3, eq_true c_1, eq_true c_2, eq_false (Int32.not_le.mpr c_2), eq_true c_3, eq_false (Int32.not_lt.mpr c_3), if_true, if_false, not_true_eq_false, not_false_eq_true, ite_true, ite_false, reduceIte, Nat.add_zero, Nat.add_sub_cancel]
            have hW1 : (mW g h0 a (upd I 1 0) F) = mW g h0 a (upd I 1 (gGoodFor (F 0) (nI j)).1) F := by
              rw [hop]
            rw [hW1] at hP hD
            exact hm_i hQ hx hb hr hlk rfl () (by rw [hop]) trivial hP hD hS (by decide) (by decide) dX4_goodFor_85
          have hlt : i < 4 := by
            rcases Nat.lt_or_ge i 4 with z | z
            · exact z
            · exact absurd (nI_le (a := 4) (b := i) z (by omega)) c_3
          refine lv_iload_n hx hb dX4_goodFor_59 rfl (lv_at hl 1 rfl) ?_
          refine lv_aload_n hx hb dX4_goodFor_60 rfl (lv_at hl 2 rfl) ?_
          refine lv_iload_n hx hb dX4_goodFor_61 rfl (lv_at hl 3 rfl) ?_
          refine lv_iload_n hx hb dX4_goodFor_62 rfl (lv_at hl 0 rfl) ?_
          refine rcV (As := [.int (nI j), .int (nI i)]) (rest := [.int v0]) (st1 := [.int (if takP (F 0) (nI i) j then 1 else 0), .int v0]) (mX4_canBeTaken l g E ho h0 a (upd I 1 0) F j (nI i) (by omega)) kX4_canBeTaken q2598 hx hb hml hown hts hRf hRl ho.1 hE hS hP (va_recv hK hP (ci := 0) (q0 := 0) rfl rfl) ⟨Nat.zero_le _, Nat.zero_le _⟩ hl ⟨rfl, rfl⟩ rfl rfl (Nat.le_of_ble_eq_true rfl) rfl dX4_goodFor_63 ?_
          refine h_join (J := 76) (v := if takP (F 0) (nI i) j then (1 <<< ((nI i) &&& 31)) else 0) (rest := [.int v0]) ?_ ?_
          rotate_left
          · intro hJ
            refine h_ifeq_b (tgt := 75) hx hb dX4_goodFor_66 (by decide) (fun c_4 => ?_) (fun c_4 => ?_)
            · refine lv_iconst (v := 0) hx hb dX4_goodFor_75 (by decide) ?_
              exact h_topi (if_neg c_4).symm hJ
            refine lv_iconst (v := 1) hx hb dX4_goodFor_69 (by decide) ?_
            refine lv_iload_n hx hb dX4_goodFor_70 rfl (lv_at hl 0 rfl) ?_
            refine lv_ishl hx hb dX4_goodFor_71 ?_
            refine lv_goto (tgt := 76) hx hb dX4_goodFor_72 (by decide) ?_
            exact h_topi (if_pos c_4).symm hJ
          refine lv_ior hx hb dX4_goodFor_76 ?_
          refine lv_istore_n (lv' := [(2, .int (v0 ||| (if takP (F 0) (nI i) j then (1 <<< ((nI i) &&& 31)) else 0))), (3, .int (nI i)), (0, .ref h0), (1, .int (nI j))]) hx hb dX4_goodFor_77 rfl hl (by decide) rfl (fun ls hl => ?_)
          refine lv_iinc (v := nI (i + 1)) (lv' := [(3, .int (nI (i + 1))), (2, .int (v0 ||| (if takP (F 0) (nI i) j then (1 <<< ((nI i) &&& 31)) else 0))), (0, .ref h0), (1, .int (nI j))]) hx hb dX4_goodFor_78 hl (k := 1) rfl (h_ninc (a := i) (k := 1) (rfl)) (by decide) rfl (fun ls hl => ?_)
          refine lv_goto (tgt := 54) hx hb dX4_goodFor_81 (by decide) ?_
          exact ih_54 (i + 1) (v0 ||| (if takP (F 0) (nI i) j then (1 <<< ((nI i) &&& 31)) else 0)) ⟨by omega, by omega, by rw [hi3]; rfl⟩ H locs hP hD hS ls (lv_sub hl [0, 1, 2, 3] rfl)
      exact loop_54 5 0 (0) ⟨by omega, by omega, by simp only [goodK, eq_true c_1, eq_true c_2, eq_false (Int32.not_le.mpr c_2), if_true, if_false, not_true_eq_false, not_false_eq_true, ite_true, ite_false, reduceIte, Nat.add_zero, Nat.add_sub_cancel, true_and, and_true, false_and, and_false, or_false, false_or, true_or, or_true, and_self, or_self]⟩ H locs hP hD hS ls (lv_sub hl [0, 1, 2, 3] rfl)
    refine lv_aload_n hx hb dX4_goodFor_34 rfl (lv_at hl 0 rfl) ?_
    refine lv_iload_n hx hb dX4_goodFor_35 rfl (lv_at hl 1 rfl) ?_
    refine lv_iconst (v := 2) hx hb dX4_goodFor_36 (by decide) ?_
    refine rcV (As := [.int (nI j), .int 2]) (rest := []) (st1 := [.int (F 0 (73 + 4 * j + 2))]) (mX4_ofHank l g E ho h0 a (upd I 1 0) F j 2 (by omega)) kX4_ofHank q2453 hx hb hml hown hts hRf hRl ho.1 hE hS hP (va_recv hK hP (ci := 0) (q0 := 0) rfl rfl) ⟨Nat.zero_le _, Nat.zero_le _⟩ hl ⟨rfl, rfl⟩ rfl rfl (Nat.le_of_ble_eq_true rfl) rfl dX4_goodFor_37 ?_
    refine lv_bipush (v := 40) hx hb dX4_goodFor_40 (by decide) ?_
    refine lv_icmp_lt (tgt := 50) hx hb dX4_goodFor_42 (by decide) (fun c_5 => ?_) (fun c_5 => ?_)
    · refine lv_iconst (v := 0) hx hb dX4_goodFor_50 (by decide) ?_
      refine lv_istore_n (lv' := [(2, .int 0), (0, .ref h0), (1, .int (nI j))]) hx hb dX4_goodFor_51 rfl hl (by decide) rfl (fun ls hl => ?_)
      refine lv_iconst (v := 0) hx hb dX4_goodFor_52 (by decide) ?_
      refine lv_istore_n (lv' := [(3, .int 0), (2, .int 0), (0, .ref h0), (1, .int (nI j))]) hx hb dX4_goodFor_53 rfl hl (by decide) rfl (fun ls hl => ?_)
      have loop_54 : ∀ (k : Nat) (i : Nat) (v0 : Int32), (4 < i + k ∧ i ≤ 4 ∧ v0 = goodK (F 0) j i) → ∀ (H : Heap) (locs : List Loc), va_P (gD g) Cl (mW g h0 a (upd I 1 0) F) H → va_D A (mW g h0 a (upd I 1 0) F) → va_S A s.heap H locs → ∀ (ls : Array Slot), lv_has ls 4 [(3, .int (nI i)), (2, .int v0), (0, .ref h0), (1, .int (nI j))] → W p l e R s m args below meth c H locs 0 0 Q (F0 m 54 ls []) := by
        intro k
        induction k with
        | zero =>
          intro i v0 hi H locs hP hD hS ls hl
          exact absurd hi.1 (by omega)
        | succ k ih_54 =>
          intro i v0 hi H locs hP hD hS ls hl
          obtain ⟨hi1, hi2, hi3⟩ := hi
          refine lv_iload_n hx hb dX4_goodFor_54 rfl (lv_at hl 0 rfl) ?_
          refine lv_iconst (v := 4) hx hb dX4_goodFor_55 (by decide) ?_
          refine lv_icmp_ge (tgt := 84) hx hb dX4_goodFor_56 (by decide) (fun c_6 => ?_) (fun c_6 => ?_)
          · have hiq : i = 4 := by
              rcases Nat.lt_or_ge i 4 with z | z
              · exact absurd c_6 (nI_ge (a := i) (b := 4) z (by first | decide | omega))
              · omega
            rw [hiq] at hi3
            refine lv_iload_n hx hb dX4_goodFor_84 rfl (lv_at hl 1 rfl) ?_
            have hop : gGoodFor (F 0) (nI j) = (0, v0) := by simp only [htw, htwc, ht, htc, hh, hhc, hb6, hbc, hk5, hkc, gGoodFor, hjc, ← hi3, eq_true c_1, eq_false c_2, eq_true (Int32.not_lt.mp c_2), eq_true c_5, eq_false (Int32.not_le.mpr c_5), eq_true c_6, eq_false (Int32.not_lt.mpr c_6), if_true, if_false, not_true_eq_false, not_false_eq_true, ite_true, ite_false, reduceIte, Nat.add_zero, Nat.add_sub_cancel]
            have hW1 : (mW g h0 a (upd I 1 0) F) = mW g h0 a (upd I 1 (gGoodFor (F 0) (nI j)).1) F := by
              rw [hop]
            rw [hW1] at hP hD
            exact hm_i hQ hx hb hr hlk rfl () (by rw [hop]) trivial hP hD hS (by decide) (by decide) dX4_goodFor_85
          have hlt : i < 4 := by
            rcases Nat.lt_or_ge i 4 with z | z
            · exact z
            · exact absurd (nI_le (a := 4) (b := i) z (by omega)) c_6
          refine lv_iload_n hx hb dX4_goodFor_59 rfl (lv_at hl 1 rfl) ?_
          refine lv_aload_n hx hb dX4_goodFor_60 rfl (lv_at hl 2 rfl) ?_
          refine lv_iload_n hx hb dX4_goodFor_61 rfl (lv_at hl 3 rfl) ?_
          refine lv_iload_n hx hb dX4_goodFor_62 rfl (lv_at hl 0 rfl) ?_
          refine rcV (As := [.int (nI j), .int (nI i)]) (rest := [.int v0]) (st1 := [.int (if takP (F 0) (nI i) j then 1 else 0), .int v0]) (mX4_canBeTaken l g E ho h0 a (upd I 1 0) F j (nI i) (by omega)) kX4_canBeTaken q2598 hx hb hml hown hts hRf hRl ho.1 hE hS hP (va_recv hK hP (ci := 0) (q0 := 0) rfl rfl) ⟨Nat.zero_le _, Nat.zero_le _⟩ hl ⟨rfl, rfl⟩ rfl rfl (Nat.le_of_ble_eq_true rfl) rfl dX4_goodFor_63 ?_
          refine h_join (J := 76) (v := if takP (F 0) (nI i) j then (1 <<< ((nI i) &&& 31)) else 0) (rest := [.int v0]) ?_ ?_
          rotate_left
          · intro hJ
            refine h_ifeq_b (tgt := 75) hx hb dX4_goodFor_66 (by decide) (fun c_7 => ?_) (fun c_7 => ?_)
            · refine lv_iconst (v := 0) hx hb dX4_goodFor_75 (by decide) ?_
              exact h_topi (if_neg c_7).symm hJ
            refine lv_iconst (v := 1) hx hb dX4_goodFor_69 (by decide) ?_
            refine lv_iload_n hx hb dX4_goodFor_70 rfl (lv_at hl 0 rfl) ?_
            refine lv_ishl hx hb dX4_goodFor_71 ?_
            refine lv_goto (tgt := 76) hx hb dX4_goodFor_72 (by decide) ?_
            exact h_topi (if_pos c_7).symm hJ
          refine lv_ior hx hb dX4_goodFor_76 ?_
          refine lv_istore_n (lv' := [(2, .int (v0 ||| (if takP (F 0) (nI i) j then (1 <<< ((nI i) &&& 31)) else 0))), (3, .int (nI i)), (0, .ref h0), (1, .int (nI j))]) hx hb dX4_goodFor_77 rfl hl (by decide) rfl (fun ls hl => ?_)
          refine lv_iinc (v := nI (i + 1)) (lv' := [(3, .int (nI (i + 1))), (2, .int (v0 ||| (if takP (F 0) (nI i) j then (1 <<< ((nI i) &&& 31)) else 0))), (0, .ref h0), (1, .int (nI j))]) hx hb dX4_goodFor_78 hl (k := 1) rfl (h_ninc (a := i) (k := 1) (rfl)) (by decide) rfl (fun ls hl => ?_)
          refine lv_goto (tgt := 54) hx hb dX4_goodFor_81 (by decide) ?_
          exact ih_54 (i + 1) (v0 ||| (if takP (F 0) (nI i) j then (1 <<< ((nI i) &&& 31)) else 0)) ⟨by omega, by omega, by rw [hi3]; rfl⟩ H locs hP hD hS ls (lv_sub hl [0, 1, 2, 3] rfl)
      exact loop_54 5 0 (0) ⟨by omega, by omega, by simp only [goodK, eq_true c_1, eq_false c_2, eq_true (Int32.not_lt.mp c_2), eq_true c_5, eq_false (Int32.not_le.mpr c_5), if_true, if_false, not_true_eq_false, not_false_eq_true, ite_true, ite_false, reduceIte, Nat.add_zero, Nat.add_sub_cancel, true_and, and_true, false_and, and_false, or_false, false_or, true_or, or_true, and_self, or_self]⟩ H locs hP hD hS ls (lv_sub hl [0, 1, 2, 3] rfl)
    refine lv_bipush (v := 16) hx hb dX4_goodFor_45 (by decide) ?_
    refine lv_goto (tgt := 51) hx hb dX4_goodFor_47 (by decide) ?_
    refine lv_istore_n (lv' := [(2, .int 16), (0, .ref h0), (1, .int (nI j))]) hx hb dX4_goodFor_51 rfl hl (by decide) rfl (fun ls hl => ?_)
    refine lv_iconst (v := 0) hx hb dX4_goodFor_52 (by decide) ?_
    refine lv_istore_n (lv' := [(3, .int 0), (2, .int 16), (0, .ref h0), (1, .int (nI j))]) hx hb dX4_goodFor_53 rfl hl (by decide) rfl (fun ls hl => ?_)
    have loop_54 : ∀ (k : Nat) (i : Nat) (v0 : Int32), (4 < i + k ∧ i ≤ 4 ∧ v0 = goodK (F 0) j i) → ∀ (H : Heap) (locs : List Loc), va_P (gD g) Cl (mW g h0 a (upd I 1 0) F) H → va_D A (mW g h0 a (upd I 1 0) F) → va_S A s.heap H locs → ∀ (ls : Array Slot), lv_has ls 4 [(3, .int (nI i)), (2, .int v0), (0, .ref h0), (1, .int (nI j))] → W p l e R s m args below meth c H locs 0 0 Q (F0 m 54 ls []) := by
      intro k
      induction k with
      | zero =>
        intro i v0 hi H locs hP hD hS ls hl
        exact absurd hi.1 (by omega)
      | succ k ih_54 =>
        intro i v0 hi H locs hP hD hS ls hl
        obtain ⟨hi1, hi2, hi3⟩ := hi
        refine lv_iload_n hx hb dX4_goodFor_54 rfl (lv_at hl 0 rfl) ?_
        refine lv_iconst (v := 4) hx hb dX4_goodFor_55 (by decide) ?_
        refine lv_icmp_ge (tgt := 84) hx hb dX4_goodFor_56 (by decide) (fun c_8 => ?_) (fun c_8 => ?_)
        · have hiq : i = 4 := by
            rcases Nat.lt_or_ge i 4 with z | z
            · exact absurd c_8 (nI_ge (a := i) (b := 4) z (by first | decide | omega))
            · omega
          rw [hiq] at hi3
          refine lv_iload_n hx hb dX4_goodFor_84 rfl (lv_at hl 1 rfl) ?_
          have hop : gGoodFor (F 0) (nI j) = (0, v0) := by simp only [htw, htwc, ht, htc, hh, hhc, hb6, hbc, hk5, hkc, gGoodFor, hjc, ← hi3, eq_true c_1, eq_false c_2, eq_true (Int32.not_lt.mp c_2), eq_false c_5, eq_true (Int32.not_lt.mp c_5), eq_true c_8, eq_false (Int32.not_lt.mpr c_8), if_true, if_false, not_true_eq_false, not_false_eq_true, ite_true, ite_false, reduceIte, Nat.add_zero, Nat.add_sub_cancel]
          have hW1 : (mW g h0 a (upd I 1 0) F) = mW g h0 a (upd I 1 (gGoodFor (F 0) (nI j)).1) F := by
            rw [hop]
          rw [hW1] at hP hD
          exact hm_i hQ hx hb hr hlk rfl () (by rw [hop]) trivial hP hD hS (by decide) (by decide) dX4_goodFor_85
        have hlt : i < 4 := by
          rcases Nat.lt_or_ge i 4 with z | z
          · exact z
          · exact absurd (nI_le (a := 4) (b := i) z (by omega)) c_8
        refine lv_iload_n hx hb dX4_goodFor_59 rfl (lv_at hl 1 rfl) ?_
        refine lv_aload_n hx hb dX4_goodFor_60 rfl (lv_at hl 2 rfl) ?_
        refine lv_iload_n hx hb dX4_goodFor_61 rfl (lv_at hl 3 rfl) ?_
        refine lv_iload_n hx hb dX4_goodFor_62 rfl (lv_at hl 0 rfl) ?_
        refine rcV (As := [.int (nI j), .int (nI i)]) (rest := [.int v0]) (st1 := [.int (if takP (F 0) (nI i) j then 1 else 0), .int v0]) (mX4_canBeTaken l g E ho h0 a (upd I 1 0) F j (nI i) (by omega)) kX4_canBeTaken q2598 hx hb hml hown hts hRf hRl ho.1 hE hS hP (va_recv hK hP (ci := 0) (q0 := 0) rfl rfl) ⟨Nat.zero_le _, Nat.zero_le _⟩ hl ⟨rfl, rfl⟩ rfl rfl (Nat.le_of_ble_eq_true rfl) rfl dX4_goodFor_63 ?_
        refine h_join (J := 76) (v := if takP (F 0) (nI i) j then (1 <<< ((nI i) &&& 31)) else 0) (rest := [.int v0]) ?_ ?_
        rotate_left
        · intro hJ
          refine h_ifeq_b (tgt := 75) hx hb dX4_goodFor_66 (by decide) (fun c_9 => ?_) (fun c_9 => ?_)
          · refine lv_iconst (v := 0) hx hb dX4_goodFor_75 (by decide) ?_
            exact h_topi (if_neg c_9).symm hJ
          refine lv_iconst (v := 1) hx hb dX4_goodFor_69 (by decide) ?_
          refine lv_iload_n hx hb dX4_goodFor_70 rfl (lv_at hl 0 rfl) ?_
          refine lv_ishl hx hb dX4_goodFor_71 ?_
          refine lv_goto (tgt := 76) hx hb dX4_goodFor_72 (by decide) ?_
          exact h_topi (if_pos c_9).symm hJ
        refine lv_ior hx hb dX4_goodFor_76 ?_
        refine lv_istore_n (lv' := [(2, .int (v0 ||| (if takP (F 0) (nI i) j then (1 <<< ((nI i) &&& 31)) else 0))), (3, .int (nI i)), (0, .ref h0), (1, .int (nI j))]) hx hb dX4_goodFor_77 rfl hl (by decide) rfl (fun ls hl => ?_)
        refine lv_iinc (v := nI (i + 1)) (lv' := [(3, .int (nI (i + 1))), (2, .int (v0 ||| (if takP (F 0) (nI i) j then (1 <<< ((nI i) &&& 31)) else 0))), (0, .ref h0), (1, .int (nI j))]) hx hb dX4_goodFor_78 hl (k := 1) rfl (h_ninc (a := i) (k := 1) (rfl)) (by decide) rfl (fun ls hl => ?_)
        refine lv_goto (tgt := 54) hx hb dX4_goodFor_81 (by decide) ?_
        exact ih_54 (i + 1) (v0 ||| (if takP (F 0) (nI i) j then (1 <<< ((nI i) &&& 31)) else 0)) ⟨by omega, by omega, by rw [hi3]; rfl⟩ H locs hP hD hS ls (lv_sub hl [0, 1, 2, 3] rfl)
    exact loop_54 5 0 (16) ⟨by omega, by omega, by simp only [goodK, eq_true c_1, eq_false c_2, eq_true (Int32.not_lt.mp c_2), eq_false c_5, eq_true (Int32.not_lt.mp c_5), if_true, if_false, not_true_eq_false, not_false_eq_true, ite_true, ite_false, reduceIte, Nat.add_zero, Nat.add_sub_cancel, true_and, and_true, false_and, and_false, or_false, false_or, true_or, or_true, and_self, or_self]⟩ H locs hP hD hS ls (lv_sub hl [0, 1, 2, 3] rfl)
  rw [hh] at c_1
  refine lv_iconst (v := 1) hx hb dX4_goodFor_9 (by decide) ?_
  refine lv_goto (tgt := 14) hx hb dX4_goodFor_10 (by decide) ?_
  refine lv_iconst (v := 1) hx hb dX4_goodFor_14 (by decide) ?_
  refine mcV (As := [.int 1, .int 1]) (rest := []) (wr := []) (mX4_isThrown1 l g E ho h0 a I F 1) kX4_isThrown q2574 hx hb hml hown hts hRf hRl ho.1 hE hS hP hD hA [0, 1, 2, 3, 4, 5, 6, 7, 8] [] rfl (by decide) rfl (by decide) (by decide) ⟨Nat.zero_le _, Nat.zero_le _⟩ (va_recv hK hP (ci := 0) (q0 := 0) rfl rfl) hl ⟨rfl, rfl⟩ rfl rfl (Nat.le_of_ble_eq_true rfl) dX4_goodFor_15 (fun _ H locs _ hP hD hS _ _ => ?_)
  have hP : va_P (gD g) Cl (mW g h0 a (upd I 1 1) F) H := hP
  have hD : va_D A (mW g h0 a (upd I 1 1) F) := hD
  refine lv_if_eq (tgt := 23) hx hb dX4_goodFor_18 (by decide) (fun c => absurd c (by decide)) (fun _ => ?_)
  refine lv_iconst (v := 0) hx hb dX4_goodFor_21 (by decide) ?_
  have hop : gGoodFor (F 0) p0 = (1, 0) := by simp only [htw, htwc, ht, htc, hh, hhc, hb6, hbc, hk5, hkc, gGoodFor, eq_false c_1, if_true, if_false, not_true_eq_false, not_false_eq_true, ite_true, ite_false, reduceIte, Nat.add_zero, Nat.add_sub_cancel]
  have hW1 : (mW g h0 a (upd I 1 1) F) = mW g h0 a (upd I 1 (gGoodFor (F 0) p0).1) F := by
    rw [hop]
  rw [hW1] at hP hD
  exact hm_i hQ hx hb hr hlk rfl () (by rw [hop]) trivial hP hD hS (by decide) (by decide) dX4_goodFor_22
theorem kX4_hoursLeft : hkV RX4 yX4_hoursLeft cX4_hoursLeft 5 (some .int) 1 := ⟨q2615, q2616, q78, q2617, rfl, by decide +kernel⟩
set_option maxHeartbeats 4000000 in
theorem mX4_hoursLeft (l : Launch) (g : hG) (E : hEnv) (ho : mOk g E) (h0 : Nat) (a : Nat → Nat) (I : Nat → Int32) (F : Nat → Nat → Int32) (p0 : Int32) (nt : Nat) (nh : Nat) (nb : Nat) (nc : Nat) (tw : Nat) (hc : Cn (F 0) nt nh nb nc tw) (hhr : ∀ j : Nat, j < nb → ∃ h : Nat, h < 1000 ∧ F 0 (153 + 7 * j + 2) = nI h) : MM l yX4_hoursLeft cX4_hoursLeft 5 (some .int) 2 43 0 0 [.ref h0, .int p0] g E (mW g h0 a I F) (S := Unit) (fun _ => (some (.int ((gHoursLeft (F 0) p0).2)))) (fun _ => True) (fun _ => mW g h0 a (upd I 1 (gHoursLeft (F 0) p0).1) F) := by
  refine MM.mk (by decide) (Nat.le_of_ble_eq_true rfl) ?_
  intro p e R s m args below meth c Q A H locs ls hX hRc hRs hP hD hE hS hA hnm hl hQ
  obtain ⟨hx, hb, hr, hlk, hml, hown, hts, hRf, hRl⟩ := hX
  have hown : s.vm.findClass RX4 = some m.cls := hown
  have hK := ho.2 _ _ _ hE
  have hl : lv_has ls 5 [(0, .ref h0), (1, .int p0)] := hl
  have hc0 := hc
  obtain ⟨htw, htw6, ht, ht10, hh, hh20, hb6, hb6l, hk5, hk5l⟩ := hc
  have htc : (nI nt).toNatClampNeg = nt := nI_clamp (by omega)
  have hhc : (nI nh).toNatClampNeg = nh := nI_clamp (by omega)
  have hbc : (nI nb).toNatClampNeg = nb := nI_clamp (by omega)
  have hkc : (nI nc).toNatClampNeg = nc := nI_clamp (by omega)
  have htwc : (nI tw).toNatClampNeg = tw := nI_clamp (by omega)
  refine lv_aload_n hx hb dX4_hoursLeft_0 rfl (lv_at hl 0 rfl) ?_
  refine lv_aload_n hx hb dX4_hoursLeft_1 rfl (lv_at hl 0 rfl) ?_
  refine lv_iload_n hx hb dX4_hoursLeft_2 rfl (lv_at hl 1 rfl) ?_
  refine rcV (As := [.int p0]) (rest := [.ref h0]) (st1 := [.int (if inR p0 0 (F 0 5 - 1) then 1 else 0), .ref h0]) (mX4_isBow l g E ho h0 a I F p0) kX4_isBow q2494 hx hb hml hown hts hRf hRl ho.1 hE hS hP (va_recv hK hP (ci := 0) (q0 := 0) rfl rfl) ⟨Nat.zero_le _, Nat.zero_le _⟩ hl ⟨rfl, rfl⟩ rfl rfl (Nat.le_of_ble_eq_true rfl) rfl dX4_hoursLeft_3 ?_
  refine h_ifne_b (tgt := 13) hx hb dX4_hoursLeft_6 (by decide) (fun c_1 => ?_) (fun c_1 => ?_)
  · rw [hb6] at c_1
    refine lv_iconst (v := 0) hx hb dX4_hoursLeft_13 (by decide) ?_
    refine lv_iconst (v := 1) hx hb dX4_hoursLeft_14 (by decide) ?_
    refine mcV (As := [.int 0, .int 1]) (rest := []) (wr := []) (mX4_isThrown0 l g E ho h0 a I F 1) kX4_isThrown q2574 hx hb hml hown hts hRf hRl ho.1 hE hS hP hD hA [0, 1, 2, 3, 4, 5, 6, 7, 8] [] rfl (by decide) rfl (by decide) (by decide) ⟨Nat.zero_le _, Nat.zero_le _⟩ (va_recv hK hP (ci := 0) (q0 := 0) rfl rfl) hl ⟨rfl, rfl⟩ rfl rfl (Nat.le_of_ble_eq_true rfl) dX4_hoursLeft_15 (fun _ H locs _ hP hD hS _ _ => ?_)
    have hP : va_P (gD g) Cl (mW g h0 a (upd I 1 0) F) H := hP
    have hD : va_D A (mW g h0 a (upd I 1 0) F) := hD
    refine lv_if_eq (tgt := 23) hx hb dX4_hoursLeft_18 (by decide) (fun _ => ?_) (fun c => absurd c (by decide))
    have hrj := c_1
    obtain ⟨j, hj, rfl⟩ := inR_ix hrj rfl (by omega)
    have hjc : (nI j).toNatClampNeg = j := nI_clamp (by omega)
    obtain ⟨q0, hq0, hqe⟩ := hhr j hj
    refine lv_aload_n hx hb dX4_hoursLeft_23 rfl (lv_at hl 0 rfl) ?_
    refine lv_iload_n hx hb dX4_hoursLeft_24 rfl (lv_at hl 1 rfl) ?_
    refine lv_iconst (v := 2) hx hb dX4_hoursLeft_25 (by decide) ?_
    refine rcV (As := [.int (nI j), .int 2]) (rest := []) (st1 := [.int (F 0 (153 + 7 * j + 2))]) (mX4_ofBow l g E ho h0 a (upd I 1 0) F j 2 (by omega)) kX4_ofBow q2498 hx hb hml hown hts hRf hRl ho.1 hE hS hP (va_recv hK hP (ci := 0) (q0 := 0) rfl rfl) ⟨Nat.zero_le _, Nat.zero_le _⟩ hl ⟨rfl, rfl⟩ rfl rfl (Nat.le_of_ble_eq_true rfl) rfl dX4_hoursLeft_26 ?_
    refine h_topi (v := nI q0) (hqe) ?_
    refine lv_istore_n (lv' := [(2, .int (nI q0)), (0, .ref h0), (1, .int (nI j))]) hx hb dX4_hoursLeft_29 rfl hl (by decide) rfl (fun ls hl => ?_)
    refine lv_aload_n hx hb dX4_hoursLeft_30 rfl (lv_at hl 1 rfl) ?_
    refine lv_iload_n hx hb dX4_hoursLeft_31 rfl (lv_at hl 2 rfl) ?_
    refine lv_iconst (v := 1) hx hb dX4_hoursLeft_32 (by decide) ?_
    refine rcV (As := [.int (nI j), .int 1]) (rest := []) (st1 := [.int (F 0 (153 + 7 * j + 1))]) (mX4_ofBow l g E ho h0 a (upd I 1 0) F j 1 (by omega)) kX4_ofBow q2498 hx hb hml hown hts hRf hRl ho.1 hE hS hP (va_recv hK hP (ci := 0) (q0 := 0) rfl rfl) ⟨Nat.zero_le _, Nat.zero_le _⟩ hl ⟨rfl, rfl⟩ rfl rfl (Nat.le_of_ble_eq_true rfl) rfl dX4_hoursLeft_33 ?_
    refine lv_istore_n (lv' := [(3, .int (F 0 (153 + 7 * j + 1))), (2, .int (nI q0)), (0, .ref h0), (1, .int (nI j))]) hx hb dX4_hoursLeft_36 rfl hl (by decide) rfl (fun ls hl => ?_)
    refine lv_iconst (v := 0) hx hb dX4_hoursLeft_37 (by decide) ?_
    refine lv_istore (lv' := [(4, .int 0), (3, .int (F 0 (153 + 7 * j + 1))), (2, .int (nI q0)), (0, .ref h0), (1, .int (nI j))]) hx hb dX4_hoursLeft_38 hl (by decide) rfl (fun ls hl => ?_)
    have loop_40 : ∀ (k : Nat) (q n0 : Nat) (r0 : Int32), (q < k ∧ q ≤ 1000 ∧ n0 + k = 1000 ∧ hoursC (F 0 (153 + 7 * j)) 1000 (F 0 (153 + 7 * j + 2)) (F 0 (153 + 7 * j + 1)) = hoursC (F 0 (153 + 7 * j)) k (nI q) r0 + n0) → ∀ (H : Heap) (locs : List Loc), va_P (gD g) Cl (mW g h0 a (upd I 1 0) F) H → va_D A (mW g h0 a (upd I 1 0) F) → va_S A s.heap H locs → ∀ (ls : Array Slot), lv_has ls 5 [(4, .int (nI n0)), (3, .int r0), (2, .int (nI q)), (0, .ref h0), (1, .int (nI j))] → W p l e R s m args below meth c H locs 0 0 Q (F0 m 40 ls []) := by
      intro k
      induction k with
      | zero =>
        intro q n0 r0 hi H locs hP hD hS ls hl
        exact absurd hi.1 (by omega)
      | succ k ih_40 =>
        intro q n0 r0 hi H locs hP hD hS ls hl
        obtain ⟨hi1, hi2, hi3, hi4⟩ := hi
        refine lv_iload_n hx hb dX4_hoursLeft_40 rfl (lv_at hl 2 rfl) ?_
        refine lv_aload_n hx hb dX4_hoursLeft_41 rfl (lv_at hl 3 rfl) ?_
        refine lv_iload_n hx hb dX4_hoursLeft_42 rfl (lv_at hl 4 rfl) ?_
        refine lv_iconst (v := 0) hx hb dX4_hoursLeft_43 (by decide) ?_
        refine rcV (As := [.int (nI j), .int 0]) (rest := [.int (nI q)]) (st1 := [.int (F 0 (153 + 7 * j)), .int (nI q)]) (mX4_ofBow l g E ho h0 a (upd I 1 0) F j 0 (by omega)) kX4_ofBow q2498 hx hb hml hown hts hRf hRl ho.1 hE hS hP (va_recv hK hP (ci := 0) (q0 := 0) rfl rfl) ⟨Nat.zero_le _, Nat.zero_le _⟩ hl ⟨rfl, rfl⟩ rfl rfl (Nat.le_of_ble_eq_true rfl) rfl dX4_hoursLeft_44 ?_
        refine rcS (As := [.int (nI q), .int (F 0 (153 + 7 * j))]) (rest := []) (st1 := [.int (if ¬ 2 * (nI q) < needsK (F 0 (153 + 7 * j)) then 1 else 0)]) (mX4_canBePlayed l g E ho (nI q) (F 0 (153 + 7 * j))) kX4_canBePlayed q2536 hx hb hml hown hts hRf hRl ho.1 hE hS (hP.sub [] rfl) ⟨Nat.zero_le _, Nat.zero_le _⟩ hl ⟨rfl, rfl⟩ rfl rfl (Nat.le_of_ble_eq_true rfl) rfl dX4_hoursLeft_47 ?_
        refine h_ifeq_b (tgt := 84) hx hb dX4_hoursLeft_50 (by decide) (fun c_2 => ?_) (fun c_2 => ?_)
        · have hcc : hoursC (F 0 (153 + 7 * j)) 1000 (F 0 (153 + 7 * j + 2)) (F 0 (153 + 7 * j + 1)) = n0 := by rw [hi4, hoursC, if_neg c_2, Nat.zero_add]
          refine lv_iload hx hb dX4_hoursLeft_84 (lv_at hl 0 rfl) ?_
          have hop : gHoursLeft (F 0) (nI j) = (0, nI n0) := by simp only [htw, htwc, ht, htc, hh, hhc, hb6, hbc, hk5, hkc, gHoursLeft, hjc, hcc, eq_true c_1, eq_false c_2, if_true, if_false, not_true_eq_false, not_false_eq_true, ite_true, ite_false, reduceIte, Nat.add_zero, Nat.add_sub_cancel]
          have hW1 : (mW g h0 a (upd I 1 0) F) = mW g h0 a (upd I 1 (gHoursLeft (F 0) (nI j)).1) F := by
            rw [hop]
          rw [hW1] at hP hD
          exact hm_i hQ hx hb hr hlk rfl () (by rw [hop]) trivial hP hD hS (by decide) (by decide) dX4_hoursLeft_86
        have hq0 : 0 < q := by
          rcases Nat.eq_zero_or_pos q with z | z
          · rw [z] at c_2
            exact absurd (needsK_pos _) c_2
          · exact z
        obtain ⟨d, hde, hd1, hd2⟩ := minI_hour r0 hq0 hi2
        refine lv_iload_n hx hb dX4_hoursLeft_53 rfl (lv_at hl 2 rfl) ?_
        refine lv_iload_n hx hb dX4_hoursLeft_54 rfl (lv_at hl 2 rfl) ?_
        refine lv_iload_n hx hb dX4_hoursLeft_55 rfl (lv_at hl 1 rfl) ?_
        refine h_join (J := 65) (v := if r0 ≤ 0 then 7 else 2) (rest := [.int (nI q), .int (nI q)]) ?_ ?_
        rotate_left
        · intro hJ
          refine lv_if_le (tgt := 63) hx hb dX4_hoursLeft_56 (by decide) (fun c_3 => ?_) (fun c_3 => ?_)
          · refine lv_bipush (v := 7) hx hb dX4_hoursLeft_63 (by decide) ?_
            exact h_topi (if_pos c_3).symm hJ
          refine lv_iconst (v := 2) hx hb dX4_hoursLeft_59 (by decide) ?_
          refine lv_goto (tgt := 65) hx hb dX4_hoursLeft_60 (by decide) ?_
          exact h_topi (if_neg c_3).symm hJ
        refine rcS (As := [.int (nI q), .int (if r0 ≤ 0 then 7 else 2)]) (rest := [.int (nI q)]) (st1 := [.int (minI (nI q) (if r0 ≤ 0 then 7 else 2)), .int (nI q)]) (mX4_lesser l g E ho (nI q) (if r0 ≤ 0 then 7 else 2)) kX4_lesser q2457 hx hb hml hown hts hRf hRl ho.1 hE hS (hP.sub [] rfl) ⟨Nat.zero_le _, Nat.zero_le _⟩ hl ⟨rfl, rfl⟩ rfl rfl (Nat.le_of_ble_eq_true rfl) rfl dX4_hoursLeft_65 ?_
        refine h_topi (v := nI d) hde ?_
        refine lv_isub hx hb dX4_hoursLeft_68 ?_
        refine h_topi (v := nI (q - d)) (h_nsub (a := q) (b := d) (rfl) (rfl) (by omega)) ?_
        refine lv_istore_n (lv' := [(2, .int (nI (q - d))), (4, .int (nI n0)), (3, .int r0), (0, .ref h0), (1, .int (nI j))]) hx hb dX4_hoursLeft_69 rfl hl (by decide) rfl (fun ls hl => ?_)
        refine lv_iconst (v := 0) hx hb dX4_hoursLeft_70 (by decide) ?_
        refine lv_iload_n hx hb dX4_hoursLeft_71 rfl (lv_at hl 2 rfl) ?_
        refine lv_iconst (v := 1) hx hb dX4_hoursLeft_72 (by decide) ?_
        refine lv_isub hx hb dX4_hoursLeft_73 ?_
        refine rcS (As := [.int 0, .int (r0 - 1)]) (rest := []) (st1 := [.int (maxI 0 (r0 - 1))]) (mX4_greater l g E ho 0 (r0 - 1)) kX4_greater q2438 hx hb hml hown hts hRf hRl ho.1 hE hS (hP.sub [] rfl) ⟨Nat.zero_le _, Nat.zero_le _⟩ hl ⟨rfl, rfl⟩ rfl rfl (Nat.le_of_ble_eq_true rfl) rfl dX4_hoursLeft_74 ?_
        refine lv_istore_n (lv' := [(3, .int (maxI 0 (r0 - 1))), (2, .int (nI (q - d))), (4, .int (nI n0)), (0, .ref h0), (1, .int (nI j))]) hx hb dX4_hoursLeft_77 rfl hl (by decide) rfl (fun ls hl => ?_)
        refine lv_iinc (v := nI (n0 + 1)) (lv' := [(4, .int (nI (n0 + 1))), (3, .int (maxI 0 (r0 - 1))), (2, .int (nI (q - d))), (0, .ref h0), (1, .int (nI j))]) hx hb dX4_hoursLeft_78 hl (k := 2) rfl (h_ninc (a := n0) (k := 1) (rfl)) (by decide) rfl (fun ls hl => ?_)
        refine lv_goto (tgt := 40) hx hb dX4_hoursLeft_81 (by decide) ?_
        exact ih_40 (q - d) (n0 + 1) (maxI 0 (r0 - 1)) ⟨by omega, by omega, by omega, by rw [hi4, hoursC, if_pos c_2, hde, pk_sub hd2]; omega⟩ H locs hP hD hS ls (lv_sub hl [0, 1, 2, 3, 4] rfl)
    exact loop_40 1000 q0 0 (F 0 (153 + 7 * j + 1)) ⟨by omega, by omega, by omega, by rw [hqe]; rfl⟩ H locs hP hD hS ls (lv_sub hl [0, 1, 2, 3, 4] rfl)
  rw [hb6] at c_1
  refine lv_iconst (v := 1) hx hb dX4_hoursLeft_9 (by decide) ?_
  refine lv_goto (tgt := 14) hx hb dX4_hoursLeft_10 (by decide) ?_
  refine lv_iconst (v := 1) hx hb dX4_hoursLeft_14 (by decide) ?_
  refine mcV (As := [.int 1, .int 1]) (rest := []) (wr := []) (mX4_isThrown1 l g E ho h0 a I F 1) kX4_isThrown q2574 hx hb hml hown hts hRf hRl ho.1 hE hS hP hD hA [0, 1, 2, 3, 4, 5, 6, 7, 8] [] rfl (by decide) rfl (by decide) (by decide) ⟨Nat.zero_le _, Nat.zero_le _⟩ (va_recv hK hP (ci := 0) (q0 := 0) rfl rfl) hl ⟨rfl, rfl⟩ rfl rfl (Nat.le_of_ble_eq_true rfl) dX4_hoursLeft_15 (fun _ H locs _ hP hD hS _ _ => ?_)
  have hP : va_P (gD g) Cl (mW g h0 a (upd I 1 1) F) H := hP
  have hD : va_D A (mW g h0 a (upd I 1 1) F) := hD
  refine lv_if_eq (tgt := 23) hx hb dX4_hoursLeft_18 (by decide) (fun c => absurd c (by decide)) (fun _ => ?_)
  refine lv_iconst (v := 0) hx hb dX4_hoursLeft_21 (by decide) ?_
  have hop : gHoursLeft (F 0) p0 = (1, 0) := by simp only [htw, htwc, ht, htc, hh, hhc, hb6, hbc, hk5, hkc, gHoursLeft, eq_false c_1, if_true, if_false, not_true_eq_false, not_false_eq_true, ite_true, ite_false, reduceIte, Nat.add_zero, Nat.add_sub_cancel]
  have hW1 : (mW g h0 a (upd I 1 1) F) = mW g h0 a (upd I 1 (gHoursLeft (F 0) p0).1) F := by
    rw [hop]
  rw [hW1] at hP hD
  exact hm_i hQ hx hb hr hlk rfl () (by rw [hop]) trivial hP hD hS (by decide) (by decide) dX4_hoursLeft_22
theorem kX4_daysTo : hkV RX4 yX4_daysTo cX4_daysTo 4 (some .int) 1 := ⟨q2619, q2620, q78, q2621, rfl, by decide +kernel⟩
set_option maxHeartbeats 4000000 in
theorem mX4_daysTo (l : Launch) (g : hG) (E : hEnv) (ho : mOk g E) (h0 : Nat) (a : Nat → Nat) (I : Nat → Int32) (F : Nat → Nat → Int32) (p0 : Int32) (nt : Nat) (nh : Nat) (nb : Nat) (nc : Nat) (tw : Nat) (hc : Cn (F 0) nt nh nb nc tw) : MM l yX4_daysTo cX4_daysTo 4 (some .int) 2 42 0 0 [.ref h0, .int p0] g E (mW g h0 a I F) (S := Unit) (fun _ => (some (.int ((gDaysTo (F 0) p0).2)))) (fun _ => True) (fun _ => mW g h0 a (upd I 1 (gDaysTo (F 0) p0).1) F) := by
  refine MM.mk (by decide) (Nat.le_of_ble_eq_true rfl) ?_
  intro p e R s m args below meth c Q A H locs ls hX hRc hRs hP hD hE hS hA hnm hl hQ
  obtain ⟨hx, hb, hr, hlk, hml, hown, hts, hRf, hRl⟩ := hX
  have hown : s.vm.findClass RX4 = some m.cls := hown
  have hK := ho.2 _ _ _ hE
  have hl : lv_has ls 4 [(0, .ref h0), (1, .int p0)] := hl
  have hc0 := hc
  obtain ⟨htw, htw6, ht, ht10, hh, hh20, hb6, hb6l, hk5, hk5l⟩ := hc
  have htc : (nI nt).toNatClampNeg = nt := nI_clamp (by omega)
  have hhc : (nI nh).toNatClampNeg = nh := nI_clamp (by omega)
  have hbc : (nI nb).toNatClampNeg = nb := nI_clamp (by omega)
  have hkc : (nI nc).toNatClampNeg = nc := nI_clamp (by omega)
  have htwc : (nI tw).toNatClampNeg = tw := nI_clamp (by omega)
  refine lv_aload_n hx hb dX4_daysTo_0 rfl (lv_at hl 0 rfl) ?_
  refine lv_iload_n hx hb dX4_daysTo_1 rfl (lv_at hl 1 rfl) ?_
  refine rcS (As := [.int p0]) (rest := [.ref h0]) (st1 := [.int (if inR p0 0 5 then 1 else 0), .ref h0]) (mX4_isTown l g E ho p0) kX4_isTown q2543 hx hb hml hown hts hRf hRl ho.1 hE hS (hP.sub [] rfl) ⟨Nat.zero_le _, Nat.zero_le _⟩ hl ⟨rfl, rfl⟩ rfl rfl (Nat.le_of_ble_eq_true rfl) rfl dX4_daysTo_2 ?_
  refine h_ifne_b (tgt := 12) hx hb dX4_daysTo_5 (by decide) (fun c_1 => ?_) (fun c_1 => ?_)
  · refine lv_iconst (v := 0) hx hb dX4_daysTo_12 (by decide) ?_
    refine lv_iconst (v := 1) hx hb dX4_daysTo_13 (by decide) ?_
    refine mcV (As := [.int 0, .int 1]) (rest := []) (wr := []) (mX4_isThrown0 l g E ho h0 a I F 1) kX4_isThrown q2574 hx hb hml hown hts hRf hRl ho.1 hE hS hP hD hA [0, 1, 2, 3, 4, 5, 6, 7, 8] [] rfl (by decide) rfl (by decide) (by decide) ⟨Nat.zero_le _, Nat.zero_le _⟩ (va_recv hK hP (ci := 0) (q0 := 0) rfl rfl) hl ⟨rfl, rfl⟩ rfl rfl (Nat.le_of_ble_eq_true rfl) dX4_daysTo_14 (fun _ H locs _ hP hD hS _ _ => ?_)
    have hP : va_P (gD g) Cl (mW g h0 a (upd I 1 0) F) H := hP
    have hD : va_D A (mW g h0 a (upd I 1 0) F) := hD
    refine lv_if_eq (tgt := 22) hx hb dX4_daysTo_17 (by decide) (fun _ => ?_) (fun c => absurd c (by decide))
    have hrq := c_1
    obtain ⟨q, hq1, hq2, rfl⟩ := inR_lit (a := 0) (b := 5) hrq rfl rfl (by decide) (by decide)
    have hqc : (nI q).toNatClampNeg = q := nI_clamp (by omega)
    refine lv_iconst (v := 0) hx hb dX4_daysTo_22 (by decide) ?_
    refine lv_istore_n (lv' := [(2, .int 0), (0, .ref h0), (1, .int (nI q))]) hx hb dX4_daysTo_23 rfl hl (by decide) rfl (fun ls hl => ?_)
    refine lv_aload_n hx hb dX4_daysTo_24 rfl (lv_at hl 1 rfl) ?_
    refine va_get (D := gD g) (ci := 0) (v := .ref (a 0)) (C := RX4) (T := TX4) (N := 21) hx hb hts in_X4 hown hK hP 0 rfl rfl 0 (by decide) (hts _ q2314) (fun _ h9 => h9) rfl dX4_daysTo_25 ?_
    refine lv_iconst (v := 2) hx hb dX4_daysTo_28 (by decide) ?_
    refine h_iald (f := (F 0)) hx hb hK hP 1 0 rfl rfl 2 rfl (by decide) (by decide) dX4_daysTo_29 ?_
    refine h_topi (v := nI tw) (htw) ?_
    refine lv_istore_n (lv' := [(3, .int (nI tw)), (2, .int 0), (0, .ref h0), (1, .int (nI q))]) hx hb dX4_daysTo_30 rfl hl (by decide) rfl (fun ls hl => ?_)
    have loop_31 : ∀ (k : Nat) (i t : Nat) (y0 : Int32), ((q + 6 - tw) % 6 < i + k ∧ i ≤ (q + 6 - tw) % 6 ∧ t = (tw + i) % 6 ∧ y0 = daysW (F 0) tw i) → ∀ (H : Heap) (locs : List Loc), va_P (gD g) Cl (mW g h0 a (upd I 1 0) F) H → va_D A (mW g h0 a (upd I 1 0) F) → va_S A s.heap H locs → ∀ (ls : Array Slot), lv_has ls 4 [(3, .int (nI t)), (2, .int y0), (0, .ref h0), (1, .int (nI q))] → W p l e R s m args below meth c H locs 0 0 Q (F0 m 31 ls []) := by
      intro k
      induction k with
      | zero =>
        intro i t y0 hi H locs hP hD hS ls hl
        exact absurd hi.1 (by omega)
      | succ k ih_31 =>
        intro i t y0 hi H locs hP hD hS ls hl
        obtain ⟨hi1, hi2, hi3, hi4⟩ := hi
        refine lv_iload_n hx hb dX4_daysTo_31 rfl (lv_at hl 0 rfl) ?_
        refine lv_iload_n hx hb dX4_daysTo_32 rfl (lv_at hl 3 rfl) ?_
        refine lv_icmp_eq (tgt := 58) hx hb dX4_daysTo_33 (by decide) (fun c_2 => ?_) (fun c_2 => ?_)
        · have htq : t = q := (nI_eq (by omega) (by omega)).mp c_2
          have hie : (q + 6 - tw) % 6 = i := by omega
          refine lv_iload_n hx hb dX4_daysTo_58 rfl (lv_at hl 1 rfl) ?_
          have hop : gDaysTo (F 0) (nI q) = (0, y0) := by simp only [htw, htwc, ht, htc, hh, hhc, hb6, hbc, hk5, hkc, gDaysTo, hqc, hie, ← hi4, eq_true c_1, eq_true c_2, if_true, if_false, not_true_eq_false, not_false_eq_true, ite_true, ite_false, reduceIte, Nat.add_zero, Nat.add_sub_cancel]
          have hW1 : (mW g h0 a (upd I 1 0) F) = mW g h0 a (upd I 1 (gDaysTo (F 0) (nI q)).1) F := by
            rw [hop]
          rw [hW1] at hP hD
          exact hm_i hQ hx hb hr hlk rfl () (by rw [hop]) trivial hP hD hS (by decide) (by decide) dX4_daysTo_59
        have htq : t ≠ q := fun z => c_2 (by rw [z])
        refine lv_iload_n hx hb dX4_daysTo_36 rfl (lv_at hl 1 rfl) ?_
        refine lv_aload_n hx hb dX4_daysTo_37 rfl (lv_at hl 2 rfl) ?_
        refine va_get (D := gD g) (ci := 0) (v := .ref (a 0)) (C := RX4) (T := TX4) (N := 21) hx hb hts in_X4 hown hK hP 0 rfl rfl 0 (by decide) (hts _ q2314) (fun _ h9 => h9) rfl dX4_daysTo_38 ?_
        refine lv_bipush (v := 12) hx hb dX4_daysTo_41 (by decide) ?_
        refine lv_iload_n hx hb dX4_daysTo_43 rfl (lv_at hl 0 rfl) ?_
        refine lv_iadd hx hb dX4_daysTo_44 ?_
        refine h_topi (v := nI (12 + t)) (h_nadd (a := 12) (b := t) (rfl) (rfl)) ?_
        refine h_iald (f := (F 0)) hx hb hK hP 1 0 rfl rfl (12 + t) rfl (by omega) (by decide) dX4_daysTo_45 ?_
        refine lv_iadd hx hb dX4_daysTo_46 ?_
        refine lv_istore_n (lv' := [(2, .int (y0 + (F 0 (12 + t)))), (3, .int (nI t)), (0, .ref h0), (1, .int (nI q))]) hx hb dX4_daysTo_47 rfl hl (by decide) rfl (fun ls hl => ?_)
        refine lv_iload_n hx hb dX4_daysTo_48 rfl (lv_at hl 1 rfl) ?_
        refine lv_iconst (v := 1) hx hb dX4_daysTo_49 (by decide) ?_
        refine lv_iadd hx hb dX4_daysTo_50 ?_
        refine h_topi (v := nI (t + 1)) (h_nadd (a := t) (b := 1) (rfl) (rfl)) ?_
        refine lv_bipush (v := 6) hx hb dX4_daysTo_51 (by decide) ?_
        refine lv_irem hx hb dX4_daysTo_53 (by decide) ?_
        refine h_topi (v := nI ((t + 1) % 6)) (h_nrem (a := t + 1) (b := 6) (rfl) (rfl) (by omega) (by omega) (by omega)) ?_
        refine lv_istore_n (lv' := [(3, .int (nI ((t + 1) % 6))), (2, .int (y0 + (F 0 (12 + t)))), (0, .ref h0), (1, .int (nI q))]) hx hb dX4_daysTo_54 rfl hl (by decide) rfl (fun ls hl => ?_)
        refine lv_goto (tgt := 31) hx hb dX4_daysTo_55 (by decide) ?_
        exact ih_31 (i + 1) ((t + 1) % 6) (y0 + (F 0 (12 + t))) ⟨by omega, by omega, by omega, by rw [hi4, hi3]; rfl⟩ H locs hP hD hS ls (lv_sub hl [0, 1, 2, 3] rfl)
    exact loop_31 7 0 tw 0 ⟨by omega, by omega, by omega, rfl⟩ H locs hP hD hS ls (lv_sub hl [0, 1, 2, 3] rfl)
  refine lv_iconst (v := 1) hx hb dX4_daysTo_8 (by decide) ?_
  refine lv_goto (tgt := 13) hx hb dX4_daysTo_9 (by decide) ?_
  refine lv_iconst (v := 1) hx hb dX4_daysTo_13 (by decide) ?_
  refine mcV (As := [.int 1, .int 1]) (rest := []) (wr := []) (mX4_isThrown1 l g E ho h0 a I F 1) kX4_isThrown q2574 hx hb hml hown hts hRf hRl ho.1 hE hS hP hD hA [0, 1, 2, 3, 4, 5, 6, 7, 8] [] rfl (by decide) rfl (by decide) (by decide) ⟨Nat.zero_le _, Nat.zero_le _⟩ (va_recv hK hP (ci := 0) (q0 := 0) rfl rfl) hl ⟨rfl, rfl⟩ rfl rfl (Nat.le_of_ble_eq_true rfl) dX4_daysTo_14 (fun _ H locs _ hP hD hS _ _ => ?_)
  have hP : va_P (gD g) Cl (mW g h0 a (upd I 1 1) F) H := hP
  have hD : va_D A (mW g h0 a (upd I 1 1) F) := hD
  refine lv_if_eq (tgt := 22) hx hb dX4_daysTo_17 (by decide) (fun c => absurd c (by decide)) (fun _ => ?_)
  refine lv_iconst (v := 0) hx hb dX4_daysTo_20 (by decide) ?_
  have hop : gDaysTo (F 0) p0 = (1, 0) := by simp only [htw, htwc, ht, htc, hh, hhc, hb6, hbc, hk5, hkc, gDaysTo, eq_false c_1, if_true, if_false, not_true_eq_false, not_false_eq_true, ite_true, ite_false, reduceIte, Nat.add_zero, Nat.add_sub_cancel]
  have hW1 : (mW g h0 a (upd I 1 1) F) = mW g h0 a (upd I 1 (gDaysTo (F 0) p0).1) F := by
    rw [hop]
  rw [hW1] at hP hD
  exact hm_i hQ hx hb hr hlk rfl () (by rw [hop]) trivial hP hD hS (by decide) (by decide) dX4_daysTo_21
theorem kX4_fairs : hkV RX4 yX4_fairs cX4_fairs 5 (some .int) 0 := ⟨q2623, q2624, q78, q2625, rfl, by decide +kernel⟩
set_option maxHeartbeats 4000000 in
theorem mX4_fairs (l : Launch) (g : hG) (E : hEnv) (ho : mOk g E) (h0 : Nat) (a : Nat → Nat) (I : Nat → Int32) (F : Nat → Nat → Int32) (nt : Nat) (nh : Nat) (nb : Nat) (nc : Nat) (tw : Nat) (hc : Cn (F 0) nt nh nb nc tw) : MM l yX4_fairs cX4_fairs 5 (some .int) 0 0 0 0 [.ref h0] g E (mW g h0 a I F) (S := Unit) (fun _ => (some (.int ((gFairs (F 0)).2)))) (fun _ => True) (fun _ => mW g h0 a (upd I 1 (gFairs (F 0)).1) F) := by
  refine MM.mk (by decide) (Nat.le_of_ble_eq_true rfl) ?_
  intro p e R s m args below meth c Q A H locs ls hX hRc hRs hP hD hE hS hA hnm hl hQ
  obtain ⟨hx, hb, hr, hlk, hml, hown, hts, hRf, hRl⟩ := hX
  have hown : s.vm.findClass RX4 = some m.cls := hown
  have hK := ho.2 _ _ _ hE
  have hl : lv_has ls 5 [(0, .ref h0)] := hl
  have hc0 := hc
  obtain ⟨htw, htw6, ht, ht10, hh, hh20, hb6, hb6l, hk5, hk5l⟩ := hc
  have htc : (nI nt).toNatClampNeg = nt := nI_clamp (by omega)
  have hhc : (nI nh).toNatClampNeg = nh := nI_clamp (by omega)
  have hbc : (nI nb).toNatClampNeg = nb := nI_clamp (by omega)
  have hkc : (nI nc).toNatClampNeg = nc := nI_clamp (by omega)
  have htwc : (nI tw).toNatClampNeg = tw := nI_clamp (by omega)
  refine lv_aload_n hx hb dX4_fairs_0 rfl (lv_at hl 0 rfl) ?_
  refine lv_iconst (v := 0) hx hb dX4_fairs_1 (by decide) ?_
  refine va_put (D := gD g) (ci := 0) (v := .int 0) (ty := .int) (C := RX4) (T := TX4) (N := 21) hx hb hts in_X4 tyX4 tyX4_ok nmX4 hown hK hP hD hS 0 rfl rfl 5 (by decide) (hts _ q2319) (fun _ h9 => h9) rfl (by decide +kernel) rfl rfl (Nat.le_of_ble_eq_true rfl) dX4_fairs_2 (fun H locs hP hD hS => ?_)
  have hP : va_P (gD g) Cl (mW g h0 a (upd I 1 0) F) H := hP
  have hD : va_D A (mW g h0 a (upd I 1 0) F) := hD
  refine lv_iconst (v := 0) hx hb dX4_fairs_5 (by decide) ?_
  refine lv_istore_n (lv' := [(1, .int 0), (0, .ref h0)]) hx hb dX4_fairs_6 rfl hl (by decide) rfl (fun ls hl => ?_)
  refine lv_aload_n hx hb dX4_fairs_7 rfl (lv_at hl 1 rfl) ?_
  refine va_get (D := gD g) (ci := 0) (v := .ref (a 0)) (C := RX4) (T := TX4) (N := 21) hx hb hts in_X4 hown hK hP 0 rfl rfl 0 (by decide) (hts _ q2314) (fun _ h9 => h9) rfl dX4_fairs_8 ?_
  refine lv_iconst (v := 1) hx hb dX4_fairs_11 (by decide) ?_
  refine h_iald (f := (F 0)) hx hb hK hP 1 0 rfl rfl 1 rfl (by decide) (by decide) dX4_fairs_12 ?_
  refine lv_istore_n (lv' := [(2, .int (F 0 1)), (1, .int 0), (0, .ref h0)]) hx hb dX4_fairs_13 rfl hl (by decide) rfl (fun ls hl => ?_)
  refine lv_aload_n hx hb dX4_fairs_14 rfl (lv_at hl 2 rfl) ?_
  refine va_get (D := gD g) (ci := 0) (v := .ref (a 0)) (C := RX4) (T := TX4) (N := 21) hx hb hts in_X4 hown hK hP 0 rfl rfl 0 (by decide) (hts _ q2314) (fun _ h9 => h9) rfl dX4_fairs_15 ?_
  refine lv_iconst (v := 2) hx hb dX4_fairs_18 (by decide) ?_
  refine h_iald (f := (F 0)) hx hb hK hP 1 0 rfl rfl 2 rfl (by decide) (by decide) dX4_fairs_19 ?_
  refine h_topi (v := nI tw) (htw) ?_
  refine lv_istore_n (lv' := [(3, .int (nI tw)), (2, .int (F 0 1)), (1, .int 0), (0, .ref h0)]) hx hb dX4_fairs_20 rfl hl (by decide) rfl (fun ls hl => ?_)
  refine lv_iconst (v := 0) hx hb dX4_fairs_21 (by decide) ?_
  refine lv_istore (lv' := [(4, .int 0), (3, .int (nI tw)), (2, .int (F 0 1)), (1, .int 0), (0, .ref h0)]) hx hb dX4_fairs_22 hl (by decide) rfl (fun ls hl => ?_)
  have loop_24 : ∀ (k : Nat) (i t : Nat) (v0 y0 : Int32), (6 < i + k ∧ i ≤ 6 ∧ t = (tw + i) % 6 ∧ v0 = fairS (F 0) tw i ∧ y0 = fairD (F 0) tw i) → ∀ (H : Heap) (locs : List Loc), va_P (gD g) Cl (mW g h0 a (upd I 1 0) F) H → va_D A (mW g h0 a (upd I 1 0) F) → va_S A s.heap H locs → ∀ (ls : Array Slot), lv_has ls 5 [(4, .int (nI i)), (3, .int (nI t)), (2, .int y0), (1, .int v0), (0, .ref h0)] → W p l e R s m args below meth c H locs 0 0 Q (F0 m 24 ls []) := by
    intro k
    induction k with
    | zero =>
      intro i t v0 y0 hi H locs hP hD hS ls hl
      exact absurd hi.1 (by omega)
    | succ k ih_24 =>
      intro i t v0 y0 hi H locs hP hD hS ls hl
      obtain ⟨hi1, hi2, hi3, hi4, hi5⟩ := hi
      refine lv_iload hx hb dX4_fairs_24 (lv_at hl 0 rfl) ?_
      refine lv_bipush (v := 6) hx hb dX4_fairs_26 (by decide) ?_
      refine lv_icmp_ge (tgt := 74) hx hb dX4_fairs_28 (by decide) (fun c_1 => ?_) (fun c_1 => ?_)
      · have hiq : i = 6 := by
          rcases Nat.lt_or_ge i 6 with z | z
          · exact absurd c_1 (nI_ge (a := i) (b := 6) z (by first | decide | omega))
          · omega
        rw [hiq] at hi4
        refine lv_iload_n hx hb dX4_fairs_74 rfl (lv_at hl 3 rfl) ?_
        have hop : gFairs (F 0) = (0, v0) := by simp only [htw, htwc, ht, htc, hh, hhc, hb6, hbc, hk5, hkc, gFairs, ← hi4, eq_true c_1, eq_false (Int32.not_lt.mpr c_1), if_true, if_false, not_true_eq_false, not_false_eq_true, ite_true, ite_false, reduceIte, Nat.add_zero, Nat.add_sub_cancel]
        have hW1 : (mW g h0 a (upd I 1 0) F) = mW g h0 a (upd I 1 (gFairs (F 0)).1) F := by
          rw [hop]
        rw [hW1] at hP hD
        exact hm_i hQ hx hb hr hlk rfl () (by rw [hop]) trivial hP hD hS (by decide) (by decide) dX4_fairs_75
      have hlt : i < 6 := by
        rcases Nat.lt_or_ge i 6 with z | z
        · exact z
        · exact absurd (nI_le (a := 6) (b := i) z (by omega)) c_1
      refine lv_iload_n hx hb dX4_fairs_31 rfl (lv_at hl 2 rfl) ?_
      refine lv_aload_n hx hb dX4_fairs_32 rfl (lv_at hl 4 rfl) ?_
      refine va_get (D := gD g) (ci := 0) (v := .ref (a 0)) (C := RX4) (T := TX4) (N := 21) hx hb hts in_X4 hown hK hP 0 rfl rfl 0 (by decide) (hts _ q2314) (fun _ h9 => h9) rfl dX4_fairs_33 ?_
      refine lv_bipush (v := 12) hx hb dX4_fairs_36 (by decide) ?_
      refine lv_iload_n hx hb dX4_fairs_38 rfl (lv_at hl 1 rfl) ?_
      refine lv_iadd hx hb dX4_fairs_39 ?_
      refine h_topi (v := nI (12 + t)) (h_nadd (a := 12) (b := t) (rfl) (rfl)) ?_
      refine h_iald (f := (F 0)) hx hb hK hP 1 0 rfl rfl (12 + t) rfl (by omega) (by decide) dX4_fairs_40 ?_
      refine lv_iadd hx hb dX4_fairs_41 ?_
      refine lv_istore_n (lv' := [(2, .int (y0 + (F 0 (12 + t)))), (4, .int (nI i)), (3, .int (nI t)), (1, .int v0), (0, .ref h0)]) hx hb dX4_fairs_42 rfl hl (by decide) rfl (fun ls hl => ?_)
      refine lv_iload_n hx hb dX4_fairs_43 rfl (lv_at hl 2 rfl) ?_
      refine lv_iconst (v := 1) hx hb dX4_fairs_44 (by decide) ?_
      refine lv_iadd hx hb dX4_fairs_45 ?_
      refine h_topi (v := nI (t + 1)) (h_nadd (a := t) (b := 1) (rfl) (rfl)) ?_
      refine lv_bipush (v := 6) hx hb dX4_fairs_46 (by decide) ?_
      refine lv_irem hx hb dX4_fairs_48 (by decide) ?_
      refine h_topi (v := nI ((t + 1) % 6)) (h_nrem (a := t + 1) (b := 6) (rfl) (rfl) (by omega) (by omega) (by omega)) ?_
      refine lv_istore_n (lv' := [(3, .int (nI ((t + 1) % 6))), (2, .int (y0 + (F 0 (12 + t)))), (4, .int (nI i)), (1, .int v0), (0, .ref h0)]) hx hb dX4_fairs_49 rfl hl (by decide) rfl (fun ls hl => ?_)
      refine lv_iload_n hx hb dX4_fairs_50 rfl (lv_at hl 3 rfl) ?_
      refine lv_iload_n hx hb dX4_fairs_51 rfl (lv_at hl 1 rfl) ?_
      refine lv_bipush (v := 7) hx hb dX4_fairs_52 (by decide) ?_
      refine lv_irem hx hb dX4_fairs_54 (by decide) ?_
      refine lv_iload_n hx hb dX4_fairs_55 rfl (lv_at hl 0 rfl) ?_
      refine h_join (J := 66) (v := if ((y0 + (F 0 (12 + t))) - (y0 + (F 0 (12 + t))) / 7 * 7) = (nI ((t + 1) % 6)) then (1 <<< ((nI ((t + 1) % 6)) &&& 31)) else 0) (rest := [.int v0]) ?_ ?_
      rotate_left
      · intro hJ
        refine lv_icmp_ne (tgt := 65) hx hb dX4_fairs_56 (by decide) (fun c_2 => ?_) (fun c_2 => ?_)
        · refine lv_iconst (v := 0) hx hb dX4_fairs_65 (by decide) ?_
          exact h_topi (if_neg c_2).symm hJ
        refine lv_iconst (v := 1) hx hb dX4_fairs_59 (by decide) ?_
        refine lv_iload_n hx hb dX4_fairs_60 rfl (lv_at hl 0 rfl) ?_
        refine lv_ishl hx hb dX4_fairs_61 ?_
        refine lv_goto (tgt := 66) hx hb dX4_fairs_62 (by decide) ?_
        exact h_topi (if_pos c_2).symm hJ
      refine lv_ior hx hb dX4_fairs_66 ?_
      refine lv_istore_n (lv' := [(1, .int (v0 ||| (if ((y0 + (F 0 (12 + t))) - (y0 + (F 0 (12 + t))) / 7 * 7) = (nI ((t + 1) % 6)) then (1 <<< ((nI ((t + 1) % 6)) &&& 31)) else 0))), (3, .int (nI ((t + 1) % 6))), (2, .int (y0 + (F 0 (12 + t)))), (4, .int (nI i)), (0, .ref h0)]) hx hb dX4_fairs_67 rfl hl (by decide) rfl (fun ls hl => ?_)
      refine lv_iinc (v := nI (i + 1)) (lv' := [(4, .int (nI (i + 1))), (1, .int (v0 ||| (if ((y0 + (F 0 (12 + t))) - (y0 + (F 0 (12 + t))) / 7 * 7) = (nI ((t + 1) % 6)) then (1 <<< ((nI ((t + 1) % 6)) &&& 31)) else 0))), (3, .int (nI ((t + 1) % 6))), (2, .int (y0 + (F 0 (12 + t)))), (0, .ref h0)]) hx hb dX4_fairs_68 hl (k := 3) rfl (h_ninc (a := i) (k := 1) (rfl)) (by decide) rfl (fun ls hl => ?_)
      refine lv_goto (tgt := 24) hx hb dX4_fairs_71 (by decide) ?_
      exact ih_24 (i + 1) ((t + 1) % 6) (v0 ||| (if ((y0 + (F 0 (12 + t))) - (y0 + (F 0 (12 + t))) / 7 * 7) = (nI ((t + 1) % 6)) then (1 <<< ((nI ((t + 1) % 6)) &&& 31)) else 0)) (y0 + (F 0 (12 + t))) ⟨by omega, by omega, by omega, by rw [show (t + 1) % 6 = (tw + i + 1) % 6 by omega, hi4, hi5, hi3]; rfl, by rw [hi5, hi3]; rfl⟩ H locs hP hD hS ls (lv_sub hl [0, 2, 3, 1, 4] rfl)
  exact loop_24 7 0 tw 0 (F 0 1) ⟨by omega, by omega, by omega, rfl, rfl⟩ H locs hP hD hS ls (lv_sub hl [0, 1, 2, 3, 4] rfl)
theorem kX4_worth : hkV RX4 yX4_worth cX4_worth 4 (some .int) 1 := ⟨q2627, q2628, q78, q2629, rfl, by decide +kernel⟩
set_option maxHeartbeats 4000000 in
theorem mX4_worth (l : Launch) (g : hG) (E : hEnv) (ho : mOk g E) (h0 : Nat) (a : Nat → Nat) (I : Nat → Int32) (F : Nat → Nat → Int32) (p0 : Int32) (nt : Nat) (nh : Nat) (nb : Nat) (nc : Nat) (tw : Nat) (hc : Cn (F 0) nt nh nb nc tw) : MM l yX4_worth cX4_worth 4 (some .int) 0 0 0 0 [.ref h0, .int p0] g E (mW g h0 a I F) (S := Unit) (fun _ => (some (.int ((gWorth (F 0) p0).2)))) (fun _ => True) (fun _ => mW g h0 a (upd I 1 (gWorth (F 0) p0).1) F) := by
  refine MM.mk (by decide) (Nat.le_of_ble_eq_true rfl) ?_
  intro p e R s m args below meth c Q A H locs ls hX hRc hRs hP hD hE hS hA hnm hl hQ
  obtain ⟨hx, hb, hr, hlk, hml, hown, hts, hRf, hRl⟩ := hX
  have hown : s.vm.findClass RX4 = some m.cls := hown
  have hK := ho.2 _ _ _ hE
  have hl : lv_has ls 4 [(0, .ref h0), (1, .int p0)] := hl
  have hc0 := hc
  obtain ⟨htw, htw6, ht, ht10, hh, hh20, hb6, hb6l, hk5, hk5l⟩ := hc
  have htc : (nI nt).toNatClampNeg = nt := nI_clamp (by omega)
  have hhc : (nI nh).toNatClampNeg = nh := nI_clamp (by omega)
  have hbc : (nI nb).toNatClampNeg = nb := nI_clamp (by omega)
  have hkc : (nI nc).toNatClampNeg = nc := nI_clamp (by omega)
  have htwc : (nI tw).toNatClampNeg = tw := nI_clamp (by omega)
  refine lv_aload_n hx hb dX4_worth_0 rfl (lv_at hl 0 rfl) ?_
  refine lv_iconst (v := 0) hx hb dX4_worth_1 (by decide) ?_
  refine va_put (D := gD g) (ci := 0) (v := .int 0) (ty := .int) (C := RX4) (T := TX4) (N := 21) hx hb hts in_X4 tyX4 tyX4_ok nmX4 hown hK hP hD hS 0 rfl rfl 5 (by decide) (hts _ q2319) (fun _ h9 => h9) rfl (by decide +kernel) rfl rfl (Nat.le_of_ble_eq_true rfl) dX4_worth_2 (fun H locs hP hD hS => ?_)
  have hP : va_P (gD g) Cl (mW g h0 a (upd I 1 0) F) H := hP
  have hD : va_D A (mW g h0 a (upd I 1 0) F) := hD
  refine lv_iconst (v := 0) hx hb dX4_worth_5 (by decide) ?_
  refine lv_istore_n (lv' := [(2, .int 0), (0, .ref h0), (1, .int p0)]) hx hb dX4_worth_6 rfl hl (by decide) rfl (fun ls hl => ?_)
  refine lv_iconst (v := 1) hx hb dX4_worth_7 (by decide) ?_
  refine lv_istore_n (lv' := [(3, .int 1), (2, .int 0), (0, .ref h0), (1, .int p0)]) hx hb dX4_worth_8 rfl hl (by decide) rfl (fun ls hl => ?_)
  have loop_9 : ∀ (k : Nat) (i : Nat) (v0 : Int32), (9 < i + k ∧ i ≤ 9 ∧ v0 = worthS (F 0) i) → ∀ (H : Heap) (locs : List Loc), va_P (gD g) Cl (mW g h0 a (upd I 1 0) F) H → va_D A (mW g h0 a (upd I 1 0) F) → va_S A s.heap H locs → ∀ (ls : Array Slot), lv_has ls 4 [(3, .int (nI (i + 1))), (2, .int v0), (0, .ref h0), (1, .int p0)] → W p l e R s m args below meth c H locs 0 0 Q (F0 m 9 ls []) := by
    intro k
    induction k with
    | zero =>
      intro i v0 hi H locs hP hD hS ls hl
      exact absurd hi.1 (by omega)
    | succ k ih_9 =>
      intro i v0 hi H locs hP hD hS ls hl
      obtain ⟨hi1, hi2, hi3⟩ := hi
      refine lv_iload_n hx hb dX4_worth_9 rfl (lv_at hl 0 rfl) ?_
      refine lv_bipush (v := 9) hx hb dX4_worth_10 (by decide) ?_
      refine lv_icmp_gt (tgt := 37) hx hb dX4_worth_12 (by decide) (fun c_1 => ?_) (fun c_1 => ?_)
      · have hiq : i = 9 := by
          rcases Nat.lt_or_ge i 9 with z | z
          · exact absurd (nI_le (a := i + 1) (b := 9) (by omega) (by omega)) (fun y => absurd y (Int32.not_le.mpr c_1))
          · omega
        rw [hiq] at hi3
        refine lv_iload_n hx hb dX4_worth_37 rfl (lv_at hl 3 rfl) ?_
        refine lv_if_eq (tgt := 47) hx hb dX4_worth_38 (by decide) (fun c_2 => ?_) (fun c_2 => ?_)
        · refine lv_iload_n hx hb dX4_worth_47 rfl (lv_at hl 1 rfl) ?_
          have hop : gWorth (F 0) p0 = (0, v0) := by simp only [htw, htwc, ht, htc, hh, hhc, hb6, hbc, hk5, hkc, gWorth, ← hi3, eq_true c_1, eq_false (Int32.not_le.mpr c_1), eq_true c_2, if_true, if_false, not_true_eq_false, not_false_eq_true, ite_true, ite_false, reduceIte, Nat.add_zero, Nat.add_sub_cancel]
          have hW1 : (mW g h0 a (upd I 1 0) F) = mW g h0 a (upd I 1 (gWorth (F 0) p0).1) F := by
            rw [hop]
          rw [hW1] at hP hD
          exact hm_i hQ hx hb hr hlk rfl () (by rw [hop]) trivial hP hD hS (by decide) (by decide) dX4_worth_48
        refine lv_iconst (v := 2) hx hb dX4_worth_41 (by decide) ?_
        refine lv_iload_n hx hb dX4_worth_42 rfl (lv_at hl 1 rfl) ?_
        refine lv_imul hx hb dX4_worth_43 ?_
        refine lv_goto (tgt := 48) hx hb dX4_worth_44 (by decide) ?_
        have hop : gWorth (F 0) p0 = (0, 2 * v0) := by simp only [htw, htwc, ht, htc, hh, hhc, hb6, hbc, hk5, hkc, gWorth, ← hi3, eq_true c_1, eq_false (Int32.not_le.mpr c_1), eq_false c_2, if_true, if_false, not_true_eq_false, not_false_eq_true, ite_true, ite_false, reduceIte, Nat.add_zero, Nat.add_sub_cancel]
        have hW1 : (mW g h0 a (upd I 1 0) F) = mW g h0 a (upd I 1 (gWorth (F 0) p0).1) F := by
          rw [hop]
        rw [hW1] at hP hD
        exact hm_i hQ hx hb hr hlk rfl () (by rw [hop]) trivial hP hD hS (by decide) (by decide) dX4_worth_48
      have hlt : i < 9 := by
        rcases Nat.lt_or_ge i 9 with z | z
        · exact z
        · exact absurd (Int32.not_le.mp (nI_ge (a := 9) (b := i + 1) (by omega) (by omega))) c_1
      refine lv_iload_n hx hb dX4_worth_15 rfl (lv_at hl 1 rfl) ?_
      refine lv_aload_n hx hb dX4_worth_16 rfl (lv_at hl 2 rfl) ?_
      refine va_get (D := gD g) (ci := 0) (v := .ref (a 0)) (C := RX4) (T := TX4) (N := 21) hx hb hts in_X4 hown hK hP 0 rfl rfl 0 (by decide) (hts _ q2314) (fun _ h9 => h9) rfl dX4_worth_17 ?_
      refine lv_bipush (v := 18) hx hb dX4_worth_20 (by decide) ?_
      refine lv_iload_n hx hb dX4_worth_22 rfl (lv_at hl 0 rfl) ?_
      refine lv_iadd hx hb dX4_worth_23 ?_
      refine h_topi (v := nI (18 + (i + 1))) (h_nadd (a := 18) (b := i + 1) (rfl) (rfl)) ?_
      refine h_iald (f := (F 0)) hx hb hK hP 1 0 rfl rfl (18 + (i + 1)) rfl (by omega) (by decide) dX4_worth_24 ?_
      refine lv_iconst (v := 3) hx hb dX4_worth_25 (by decide) ?_
      refine lv_iload_n hx hb dX4_worth_26 rfl (lv_at hl 0 rfl) ?_
      refine lv_iadd hx hb dX4_worth_27 ?_
      refine h_topi (v := nI (3 + (i + 1))) (h_nadd (a := 3) (b := i + 1) (rfl) (rfl)) ?_
      refine lv_imul hx hb dX4_worth_28 ?_
      refine lv_iadd hx hb dX4_worth_29 ?_
      refine lv_istore_n (lv' := [(2, .int (v0 + ((F 0 (18 + (i + 1))) * (nI (3 + (i + 1)))))), (3, .int (nI (i + 1))), (0, .ref h0), (1, .int p0)]) hx hb dX4_worth_30 rfl hl (by decide) rfl (fun ls hl => ?_)
      refine lv_iinc (v := nI (i + 1 + 1)) (lv' := [(3, .int (nI (i + 1 + 1))), (2, .int (v0 + ((F 0 (18 + (i + 1))) * (nI (3 + (i + 1)))))), (0, .ref h0), (1, .int p0)]) hx hb dX4_worth_31 hl (k := 1) rfl (h_ninc (a := i + 1) (k := 1) (rfl)) (by decide) rfl (fun ls hl => ?_)
      refine lv_goto (tgt := 9) hx hb dX4_worth_34 (by decide) ?_
      exact ih_9 (i + 1) (v0 + ((F 0 (18 + (i + 1))) * (nI (3 + (i + 1))))) ⟨by omega, by omega, by rw [hi3]; rfl⟩ H locs hP hD hS ls (lv_sub hl [0, 1, 2, 3] rfl)
  exact loop_9 10 0 0 ⟨by omega, by omega, rfl⟩ H locs hP hD hS ls (lv_sub hl [0, 1, 2, 3] rfl)
