/-! THE REFERENCE: more orders -/
set_option maxRecDepth 100000
theorem kX4_ties : hkV RX4 yX4_ties cX4_ties 6 (some .int) 2 := ⟨q2447, qs32, q78, q2448, rfl, by decide +kernel⟩
set_option maxHeartbeats 4000000 in
theorem mX4_ties (l : Launch) (g : hG) (E : hEnv) (ho : mOk g E) (h0 : Nat) (a : Nat → Nat) (I : Nat → Int32) (F : Nat → Nat → Int32) (p0 : Int32) (p1 : Int32) (nt : Nat) (nh : Nat) (nb : Nat) (nc : Nat) (tw : Nat) (hc : Cn (F 0) nt nh nb nc tw) : MM l yX4_ties cX4_ties 6 (some .int) 2 43 0 0 [.ref h0, .int p0, .int p1] g E (mW g h0 a I F) (S := Unit) (fun _ => (some (.int ((opTie (F 0) p0 p1).2.2.1)))) (fun _ => True) (fun _ => mW g h0 a (opI I (opTie (F 0) p0 p1)) (va_up F 0 (opTie (F 0) p0 p1).2.2.2)) := by
  refine MM.mk (by decide) (Nat.le_of_ble_eq_true rfl) ?_
  intro p e R s m args below meth c Q A H locs ls hX hRc hRs hP hD hE hS hA hnm hl hQ
  obtain ⟨hx, hb, hr, hlk, hml, hown, hts, hRf, hRl⟩ := hX
  have hown : s.vm.findClass RX4 = some m.cls := hown
  have hK := ho.2 _ _ _ hE
  have hl : lv_has ls 6 [(0, .ref h0), (1, .int p0), (2, .int p1)] := hl
  have hc0 := hc
  obtain ⟨htw, htw6, ht, ht10, hh, hh20, hb6, hb6l, hk5, hk5l⟩ := hc
  have htc : (nI nt).toNatClampNeg = nt := nI_clamp (by omega)
  have hhc : (nI nh).toNatClampNeg = nh := nI_clamp (by omega)
  have hbc : (nI nb).toNatClampNeg = nb := nI_clamp (by omega)
  have hkc : (nI nc).toNatClampNeg = nc := nI_clamp (by omega)
  have htwc : (nI tw).toNatClampNeg = tw := nI_clamp (by omega)
  refine lv_aload_n hx hb dX4_ties_0 rfl (lv_at hl 0 rfl) ?_
  refine lv_aload_n hx hb dX4_ties_1 rfl (lv_at hl 0 rfl) ?_
  refine lv_iload_n hx hb dX4_ties_2 rfl (lv_at hl 1 rfl) ?_
  refine rcV (As := [.int p0]) (rest := [.ref h0]) (st1 := [.int (if inR p0 0 (F 0 4 - 1) then 1 else 0), .ref h0]) (mX4_isHank l g E ho h0 a I F p0) kX4_isHank q2449 hx hb hml hown hts hRf hRl ho.1 hE hS hP (va_recv hK hP (ci := 0) (q0 := 0) rfl rfl) ⟨Nat.zero_le _, Nat.zero_le _⟩ hl ⟨rfl, rfl⟩ rfl rfl (Nat.le_of_ble_eq_true rfl) rfl dX4_ties_3 ?_
  refine h_ifne_b (tgt := 13) hx hb dX4_ties_6 (by decide) (fun c_1 => ?_) (fun c_1 => ?_)
  · rw [hh] at c_1
    refine lv_iconst (v := 0) hx hb dX4_ties_13 (by decide) ?_
    refine lv_iconst (v := 2) hx hb dX4_ties_14 (by decide) ?_
    refine lv_iload_n hx hb dX4_ties_15 rfl (lv_at hl 1 rfl) ?_
    refine rcV (As := [.int 0, .int 2, .int p0]) (rest := []) (st1 := [.int 0]) (mX4_isRefused0 l g E ho h0 a I F 2 p0) kX4_isRefused q2400 hx hb hml hown hts hRf hRl ho.1 hE hS hP (va_recv hK hP (ci := 0) (q0 := 0) rfl rfl) ⟨Nat.zero_le _, Nat.zero_le _⟩ hl ⟨rfl, rfl⟩ rfl rfl (Nat.le_of_ble_eq_true rfl) rfl dX4_ties_16 ?_
    refine lv_if_ne (tgt := 64) hx hb dX4_ties_19 (by decide) (fun c => absurd c (by decide)) (fun _ => ?_)
    have hri := c_1
    obtain ⟨i, hi, rfl⟩ := inR_ix hri rfl (by omega)
    have hic : (nI i).toNatClampNeg = i := nI_clamp (by omega)
    refine lv_aload_n hx hb dX4_ties_22 rfl (lv_at hl 0 rfl) ?_
    refine lv_aload_n hx hb dX4_ties_23 rfl (lv_at hl 0 rfl) ?_
    refine lv_iload_n hx hb dX4_ties_24 rfl (lv_at hl 2 rfl) ?_
    refine rcV (As := [.int p1]) (rest := [.ref h0]) (st1 := [.int (if inR p1 0 (F 0 4 - 1) then 1 else 0), .ref h0]) (mX4_isHank l g E ho h0 a I F p1) kX4_isHank q2449 hx hb hml hown hts hRf hRl ho.1 hE hS hP (va_recv hK hP (ci := 0) (q0 := 0) rfl rfl) ⟨Nat.zero_le _, Nat.zero_le _⟩ hl ⟨rfl, rfl⟩ rfl rfl (Nat.le_of_ble_eq_true rfl) rfl dX4_ties_25 ?_
    refine h_ifne_b (tgt := 35) hx hb dX4_ties_28 (by decide) (fun c_2 => ?_) (fun c_2 => ?_)
    · rw [hh] at c_2
      refine lv_iconst (v := 0) hx hb dX4_ties_35 (by decide) ?_
      refine lv_iconst (v := 2) hx hb dX4_ties_36 (by decide) ?_
      refine lv_iload_n hx hb dX4_ties_37 rfl (lv_at hl 2 rfl) ?_
      refine rcV (As := [.int 0, .int 2, .int p1]) (rest := []) (st1 := [.int 0]) (mX4_isRefused0 l g E ho h0 a I F 2 p1) kX4_isRefused q2400 hx hb hml hown hts hRf hRl ho.1 hE hS hP (va_recv hK hP (ci := 0) (q0 := 0) rfl rfl) ⟨Nat.zero_le _, Nat.zero_le _⟩ hl ⟨rfl, rfl⟩ rfl rfl (Nat.le_of_ble_eq_true rfl) rfl dX4_ties_38 ?_
      refine lv_if_ne (tgt := 64) hx hb dX4_ties_41 (by decide) (fun c => absurd c (by decide)) (fun _ => ?_)
      have hrj := c_2
      obtain ⟨j, hj, rfl⟩ := inR_ix hrj rfl (by omega)
      have hjc : (nI j).toNatClampNeg = j := nI_clamp (by omega)
      refine lv_aload_n hx hb dX4_ties_44 rfl (lv_at hl 0 rfl) ?_
      refine lv_iload_n hx hb dX4_ties_45 rfl (lv_at hl 1 rfl) ?_
      refine lv_iload_n hx hb dX4_ties_46 rfl (lv_at hl 2 rfl) ?_
      refine lv_icmp_ne (tgt := 54) hx hb dX4_ties_47 (by decide) (fun c_3 => ?_) (fun c_3 => ?_)
      · refine lv_iconst (v := 0) hx hb dX4_ties_54 (by decide) ?_
        refine lv_bipush (v := 8) hx hb dX4_ties_55 (by decide) ?_
        refine lv_iload_n hx hb dX4_ties_57 rfl (lv_at hl 1 rfl) ?_
        refine rcV (As := [.int 0, .int 8, .int (nI i)]) (rest := []) (st1 := [.int 0]) (mX4_isRefused0 l g E ho h0 a I F 8 (nI i)) kX4_isRefused q2400 hx hb hml hown hts hRf hRl ho.1 hE hS hP (va_recv hK hP (ci := 0) (q0 := 0) rfl rfl) ⟨Nat.zero_le _, Nat.zero_le _⟩ hl ⟨rfl, rfl⟩ rfl rfl (Nat.le_of_ble_eq_true rfl) rfl dX4_ties_58 ?_
        refine lv_if_eq (tgt := 66) hx hb dX4_ties_61 (by decide) (fun _ => ?_) (fun c => absurd c (by decide))
        refine lv_aload_n hx hb dX4_ties_66 rfl (lv_at hl 0 rfl) ?_
        refine lv_iload_n hx hb dX4_ties_67 rfl (lv_at hl 1 rfl) ?_
        refine lv_iconst (v := 2) hx hb dX4_ties_68 (by decide) ?_
        refine rcV (As := [.int (nI i), .int 2]) (rest := []) (st1 := [.int (F 0 (73 + 4 * i + 2))]) (mX4_ofHank l g E ho h0 a I F i 2 (by omega)) kX4_ofHank q2453 hx hb hml hown hts hRf hRl ho.1 hE hS hP (va_recv hK hP (ci := 0) (q0 := 0) rfl rfl) ⟨Nat.zero_le _, Nat.zero_le _⟩ hl ⟨rfl, rfl⟩ rfl rfl (Nat.le_of_ble_eq_true rfl) rfl dX4_ties_69 ?_
        refine lv_aload_n hx hb dX4_ties_72 rfl (lv_at hl 0 rfl) ?_
        refine lv_iload_n hx hb dX4_ties_73 rfl (lv_at hl 2 rfl) ?_
        refine lv_iconst (v := 2) hx hb dX4_ties_74 (by decide) ?_
        refine rcV (As := [.int (nI j), .int 2]) (rest := [.int (F 0 (73 + 4 * i + 2))]) (st1 := [.int (F 0 (73 + 4 * j + 2)), .int (F 0 (73 + 4 * i + 2))]) (mX4_ofHank l g E ho h0 a I F j 2 (by omega)) kX4_ofHank q2453 hx hb hml hown hts hRf hRl ho.1 hE hS hP (va_recv hK hP (ci := 0) (q0 := 0) rfl rfl) ⟨Nat.zero_le _, Nat.zero_le _⟩ hl ⟨rfl, rfl⟩ rfl rfl (Nat.le_of_ble_eq_true rfl) rfl dX4_ties_75 ?_
        refine lv_iadd hx hb dX4_ties_78 ?_
        refine lv_istore_n (lv' := [(3, .int ((F 0 (73 + 4 * i + 2)) + (F 0 (73 + 4 * j + 2)))), (0, .ref h0), (1, .int (nI i)), (2, .int (nI j))]) hx hb dX4_ties_79 rfl hl (by decide) rfl (fun ls hl => ?_)
        refine lv_aload_n hx hb dX4_ties_80 rfl (lv_at hl 1 rfl) ?_
        refine lv_iload_n hx hb dX4_ties_81 rfl (lv_at hl 0 rfl) ?_
        refine lv_sipush (v := 600) hx hb dX4_ties_82 (by decide) ?_
        refine lv_icmp_le (tgt := 92) hx hb dX4_ties_85 (by decide) (fun c_4 => ?_) (fun c_4 => ?_)
        · refine lv_iconst (v := 0) hx hb dX4_ties_92 (by decide) ?_
          refine lv_bipush (v := 7) hx hb dX4_ties_93 (by decide) ?_
          refine lv_iload_n hx hb dX4_ties_95 rfl (lv_at hl 0 rfl) ?_
          refine lv_sipush (v := 600) hx hb dX4_ties_96 (by decide) ?_
          refine lv_isub hx hb dX4_ties_99 ?_
          refine rcV (As := [.int 0, .int 7, .int (((F 0 (73 + 4 * i + 2)) + (F 0 (73 + 4 * j + 2))) - 600)]) (rest := []) (st1 := [.int 0]) (mX4_isRefused0 l g E ho h0 a I F 7 (((F 0 (73 + 4 * i + 2)) + (F 0 (73 + 4 * j + 2))) - 600)) kX4_isRefused q2400 hx hb hml hown hts hRf hRl ho.1 hE hS hP (va_recv hK hP (ci := 0) (q0 := 0) rfl rfl) ⟨Nat.zero_le _, Nat.zero_le _⟩ hl ⟨rfl, rfl⟩ rfl rfl (Nat.le_of_ble_eq_true rfl) rfl dX4_ties_100 ?_
          refine lv_if_eq (tgt := 108) hx hb dX4_ties_103 (by decide) (fun _ => ?_) (fun c => absurd c (by decide))
          obtain ⟨t, hte⟩ : ∃ t, t = min i j := ⟨_, rfl⟩
          obtain ⟨f, hfe⟩ : ∃ f, f = max i j := ⟨_, rfl⟩
          have hij : i ≠ j := fun q => c_3 (by rw [q])
          have htl : t < nh ∧ f < nh ∧ t < f := by omega
          refine lv_iload_n hx hb dX4_ties_108 rfl (lv_at hl 2 rfl) ?_
          refine lv_iload_n hx hb dX4_ties_109 rfl (lv_at hl 3 rfl) ?_
          refine rcS (As := [.int (nI i), .int (nI j)]) (rest := []) (st1 := [.int (minI (nI i) (nI j))]) (mX4_lesser l g E ho (nI i) (nI j)) kX4_lesser q2457 hx hb hml hown hts hRf hRl ho.1 hE hS (hP.sub [] rfl) ⟨Nat.zero_le _, Nat.zero_le _⟩ hl ⟨rfl, rfl⟩ rfl rfl (Nat.le_of_ble_eq_true rfl) rfl dX4_ties_110 ?_
          refine h_topi (v := nI t) (by rw [minI_n (by omega) (by omega), hte]) ?_
          refine lv_istore (lv' := [(4, .int (nI t)), (3, .int ((F 0 (73 + 4 * i + 2)) + (F 0 (73 + 4 * j + 2)))), (0, .ref h0), (1, .int (nI i)), (2, .int (nI j))]) hx hb dX4_ties_113 hl (by decide) rfl (fun ls hl => ?_)
          refine lv_iload_n hx hb dX4_ties_115 rfl (lv_at hl 3 rfl) ?_
          refine lv_iload_n hx hb dX4_ties_116 rfl (lv_at hl 4 rfl) ?_
          refine rcS (As := [.int (nI i), .int (nI j)]) (rest := []) (st1 := [.int (maxI (nI i) (nI j))]) (mX4_greater l g E ho (nI i) (nI j)) kX4_greater q2438 hx hb hml hown hts hRf hRl ho.1 hE hS (hP.sub [] rfl) ⟨Nat.zero_le _, Nat.zero_le _⟩ hl ⟨rfl, rfl⟩ rfl rfl (Nat.le_of_ble_eq_true rfl) rfl dX4_ties_117 ?_
          refine h_topi (v := nI f) (by rw [maxI_n (by omega) (by omega), hfe]) ?_
          refine lv_istore (lv' := [(5, .int (nI f)), (4, .int (nI t)), (3, .int ((F 0 (73 + 4 * i + 2)) + (F 0 (73 + 4 * j + 2)))), (0, .ref h0), (1, .int (nI i)), (2, .int (nI j))]) hx hb dX4_ties_120 hl (by decide) rfl (fun ls hl => ?_)
          refine lv_aload_n hx hb dX4_ties_122 rfl (lv_at hl 3 rfl) ?_
          refine va_get (D := gD g) (ci := 0) (v := .ref (a 0)) (C := RX4) (T := TX4) (N := 21) hx hb hts in_X4 hown hK hP 0 rfl rfl 0 (by decide) (hts _ q2314) (fun _ h9 => h9) rfl dX4_ties_123 ?_
          refine lv_iload hx hb dX4_ties_126 (lv_at hl 1 rfl) ?_
          refine lv_iconst (v := 2) hx hb dX4_ties_128 (by decide) ?_
          refine rcS (As := [.int (nI t), .int 2]) (rest := [.ref (a 0)]) (st1 := [.int (nI (73 + 4 * t + 2)), .ref (a 0)]) (mX4_hankAt l g E ho t 2) kX4_hankAt q2431 hx hb hml hown hts hRf hRl ho.1 hE hS (hP.sub [] rfl) ⟨Nat.zero_le _, Nat.zero_le _⟩ hl ⟨rfl, rfl⟩ rfl rfl (Nat.le_of_ble_eq_true rfl) rfl dX4_ties_129 ?_
          refine lv_iload_n hx hb dX4_ties_132 rfl (lv_at hl 2 rfl) ?_
          refine h_iast (f := (F 0)) hx hb hK hP hD hS 1 0 rfl rfl (73 + 4 * t + 2) rfl (by omega) (by decide) dX4_ties_133 (fun H locs hP hD hS => ?_)
          have hP : va_P (gD g) Cl (mW g h0 a I (va_up F 0 (upd (F 0) (73 + 4 * t + 2) ((F 0 (73 + 4 * i + 2)) + (F 0 (73 + 4 * j + 2)))))) H := hP
          have hD : va_D A (mW g h0 a I (va_up F 0 (upd (F 0) (73 + 4 * t + 2) ((F 0 (73 + 4 * i + 2)) + (F 0 (73 + 4 * j + 2)))))) := hD
          refine lv_aload_n hx hb dX4_ties_134 rfl (lv_at hl 3 rfl) ?_
          refine va_get (D := gD g) (ci := 0) (v := .ref (a 0)) (C := RX4) (T := TX4) (N := 21) hx hb hts in_X4 hown hK hP 0 rfl rfl 0 (by decide) (hts _ q2314) (fun _ h9 => h9) rfl dX4_ties_135 ?_
          refine lv_iload hx hb dX4_ties_138 (lv_at hl 1 rfl) ?_
          refine lv_iconst (v := 1) hx hb dX4_ties_140 (by decide) ?_
          refine rcS (As := [.int (nI t), .int 1]) (rest := [.ref (a 0)]) (st1 := [.int (nI (73 + 4 * t + 1)), .ref (a 0)]) (mX4_hankAt l g E ho t 1) kX4_hankAt q2431 hx hb hml hown hts hRf hRl ho.1 hE hS (hP.sub [] rfl) ⟨Nat.zero_le _, Nat.zero_le _⟩ hl ⟨rfl, rfl⟩ rfl rfl (Nat.le_of_ble_eq_true rfl) rfl dX4_ties_141 ?_
          refine lv_aload_n hx hb dX4_ties_144 rfl (lv_at hl 3 rfl) ?_
          refine lv_iload hx hb dX4_ties_145 (lv_at hl 1 rfl) ?_
          refine lv_iconst (v := 1) hx hb dX4_ties_147 (by decide) ?_
          refine rcV (As := [.int (nI t), .int 1]) (rest := [.int (nI (73 + 4 * t + 1)), .ref (a 0)]) (st1 := [.int ((upd (F 0) (73 + 4 * t + 2) ((F 0 (73 + 4 * i + 2)) + (F 0 (73 + 4 * j + 2)))) (73 + 4 * t + 1)), .int (nI (73 + 4 * t + 1)), .ref (a 0)]) (mX4_ofHank l g E ho h0 a I (va_up F 0 (upd (F 0) (73 + 4 * t + 2) ((F 0 (73 + 4 * i + 2)) + (F 0 (73 + 4 * j + 2))))) t 1 (by omega)) kX4_ofHank q2453 hx hb hml hown hts hRf hRl ho.1 hE hS hP (va_recv hK hP (ci := 0) (q0 := 0) rfl rfl) ⟨Nat.zero_le _, Nat.zero_le _⟩ hl ⟨rfl, rfl⟩ rfl rfl (Nat.le_of_ble_eq_true rfl) rfl dX4_ties_148 ?_
          refine h_topi (v := F 0 (73 + 4 * t + 1)) (by rw [pk_un (by omega)]) ?_
          refine lv_aload_n hx hb dX4_ties_151 rfl (lv_at hl 3 rfl) ?_
          refine lv_iload hx hb dX4_ties_152 (lv_at hl 0 rfl) ?_
          refine lv_iconst (v := 1) hx hb dX4_ties_154 (by decide) ?_
          refine rcV (As := [.int (nI f), .int 1]) (rest := [.int (F 0 (73 + 4 * t + 1)), .int (nI (73 + 4 * t + 1)), .ref (a 0)]) (st1 := [.int ((upd (F 0) (73 + 4 * t + 2) ((F 0 (73 + 4 * i + 2)) + (F 0 (73 + 4 * j + 2)))) (73 + 4 * f + 1)), .int (F 0 (73 + 4 * t + 1)), .int (nI (73 + 4 * t + 1)), .ref (a 0)]) (mX4_ofHank l g E ho h0 a I (va_up F 0 (upd (F 0) (73 + 4 * t + 2) ((F 0 (73 + 4 * i + 2)) + (F 0 (73 + 4 * j + 2))))) f 1 (by omega)) kX4_ofHank q2453 hx hb hml hown hts hRf hRl ho.1 hE hS hP (va_recv hK hP (ci := 0) (q0 := 0) rfl rfl) ⟨Nat.zero_le _, Nat.zero_le _⟩ hl ⟨rfl, rfl⟩ rfl rfl (Nat.le_of_ble_eq_true rfl) rfl dX4_ties_155 ?_
          refine h_topi (v := F 0 (73 + 4 * f + 1)) (by rw [pk_un (by omega)]) ?_
          refine rcS (As := [.int (F 0 (73 + 4 * t + 1)), .int (F 0 (73 + 4 * f + 1))]) (rest := [.int (nI (73 + 4 * t + 1)), .ref (a 0)]) (st1 := [.int (minI (F 0 (73 + 4 * t + 1)) (F 0 (73 + 4 * f + 1))), .int (nI (73 + 4 * t + 1)), .ref (a 0)]) (mX4_lesser l g E ho (F 0 (73 + 4 * t + 1)) (F 0 (73 + 4 * f + 1))) kX4_lesser q2457 hx hb hml hown hts hRf hRl ho.1 hE hS (hP.sub [] rfl) ⟨Nat.zero_le _, Nat.zero_le _⟩ hl ⟨rfl, rfl⟩ rfl rfl (Nat.le_of_ble_eq_true rfl) rfl dX4_ties_158 ?_
          refine h_iast (f := (upd (F 0) (73 + 4 * t + 2) ((F 0 (73 + 4 * i + 2)) + (F 0 (73 + 4 * j + 2))))) hx hb hK hP hD hS 1 0 rfl rfl (73 + 4 * t + 1) rfl (by omega) (by decide) dX4_ties_161 (fun H locs hP hD hS => ?_)
          have hP : va_P (gD g) Cl (mW g h0 a I (va_up F 0 (upd (upd (F 0) (73 + 4 * t + 2) ((F 0 (73 + 4 * i + 2)) + (F 0 (73 + 4 * j + 2)))) (73 + 4 * t + 1) (minI (F 0 (73 + 4 * t + 1)) (F 0 (73 + 4 * f + 1)))))) H := hP
          have hD : va_D A (mW g h0 a I (va_up F 0 (upd (upd (F 0) (73 + 4 * t + 2) ((F 0 (73 + 4 * i + 2)) + (F 0 (73 + 4 * j + 2)))) (73 + 4 * t + 1) (minI (F 0 (73 + 4 * t + 1)) (F 0 (73 + 4 * f + 1)))))) := hD
          refine lv_aload_n hx hb dX4_ties_162 rfl (lv_at hl 3 rfl) ?_
          refine va_get (D := gD g) (ci := 0) (v := .ref (a 0)) (C := RX4) (T := TX4) (N := 21) hx hb hts in_X4 hown hK hP 0 rfl rfl 0 (by decide) (hts _ q2314) (fun _ h9 => h9) rfl dX4_ties_163 ?_
          refine lv_iload hx hb dX4_ties_166 (lv_at hl 1 rfl) ?_
          refine lv_iconst (v := 0) hx hb dX4_ties_168 (by decide) ?_
          refine rcS (As := [.int (nI t), .int 0]) (rest := [.ref (a 0)]) (st1 := [.int (nI (73 + 4 * t)), .ref (a 0)]) (mX4_hankAt l g E ho t 0) kX4_hankAt q2431 hx hb hml hown hts hRf hRl ho.1 hE hS (hP.sub [] rfl) ⟨Nat.zero_le _, Nat.zero_le _⟩ hl ⟨rfl, rfl⟩ rfl rfl (Nat.le_of_ble_eq_true rfl) rfl dX4_ties_169 ?_
          refine lv_aload_n hx hb dX4_ties_172 rfl (lv_at hl 3 rfl) ?_
          refine lv_iload hx hb dX4_ties_173 (lv_at hl 1 rfl) ?_
          refine lv_iconst (v := 0) hx hb dX4_ties_175 (by decide) ?_
          refine rcV (As := [.int (nI t), .int 0]) (rest := [.int (nI (73 + 4 * t)), .ref (a 0)]) (st1 := [.int ((upd (upd (F 0) (73 + 4 * t + 2) ((F 0 (73 + 4 * i + 2)) + (F 0 (73 + 4 * j + 2)))) (73 + 4 * t + 1) (minI (F 0 (73 + 4 * t + 1)) (F 0 (73 + 4 * f + 1)))) (73 + 4 * t)), .int (nI (73 + 4 * t)), .ref (a 0)]) (mX4_ofHank l g E ho h0 a I (va_up F 0 (upd (upd (F 0) (73 + 4 * t + 2) ((F 0 (73 + 4 * i + 2)) + (F 0 (73 + 4 * j + 2)))) (73 + 4 * t + 1) (minI (F 0 (73 + 4 * t + 1)) (F 0 (73 + 4 * f + 1))))) t 0 (by omega)) kX4_ofHank q2453 hx hb hml hown hts hRf hRl ho.1 hE hS hP (va_recv hK hP (ci := 0) (q0 := 0) rfl rfl) ⟨Nat.zero_le _, Nat.zero_le _⟩ hl ⟨rfl, rfl⟩ rfl rfl (Nat.le_of_ble_eq_true rfl) rfl dX4_ties_176 ?_
          refine h_topi (v := F 0 (73 + 4 * t)) (by rw [pk_un (by omega), pk_un (by omega)]) ?_
          refine lv_aload_n hx hb dX4_ties_179 rfl (lv_at hl 3 rfl) ?_
          refine lv_iload hx hb dX4_ties_180 (lv_at hl 0 rfl) ?_
          refine lv_iconst (v := 0) hx hb dX4_ties_182 (by decide) ?_
          refine rcV (As := [.int (nI f), .int 0]) (rest := [.int (F 0 (73 + 4 * t)), .int (nI (73 + 4 * t)), .ref (a 0)]) (st1 := [.int ((upd (upd (F 0) (73 + 4 * t + 2) ((F 0 (73 + 4 * i + 2)) + (F 0 (73 + 4 * j + 2)))) (73 + 4 * t + 1) (minI (F 0 (73 + 4 * t + 1)) (F 0 (73 + 4 * f + 1)))) (73 + 4 * f)), .int (F 0 (73 + 4 * t)), .int (nI (73 + 4 * t)), .ref (a 0)]) (mX4_ofHank l g E ho h0 a I (va_up F 0 (upd (upd (F 0) (73 + 4 * t + 2) ((F 0 (73 + 4 * i + 2)) + (F 0 (73 + 4 * j + 2)))) (73 + 4 * t + 1) (minI (F 0 (73 + 4 * t + 1)) (F 0 (73 + 4 * f + 1))))) f 0 (by omega)) kX4_ofHank q2453 hx hb hml hown hts hRf hRl ho.1 hE hS hP (va_recv hK hP (ci := 0) (q0 := 0) rfl rfl) ⟨Nat.zero_le _, Nat.zero_le _⟩ hl ⟨rfl, rfl⟩ rfl rfl (Nat.le_of_ble_eq_true rfl) rfl dX4_ties_183 ?_
          refine h_topi (v := F 0 (73 + 4 * f)) (by rw [pk_un (by omega), pk_un (by omega)]) ?_
          refine h_join (J := 200) (v := if (F 0 (73 + 4 * t)) = (F 0 (73 + 4 * f)) then (F 0 (73 + 4 * t)) else 3) (rest := [.int (nI (73 + 4 * t)), .ref (a 0)]) ?_ ?_
          rotate_left
          · intro hJ
            refine lv_icmp_ne (tgt := 199) hx hb dX4_ties_186 (by decide) (fun c_5 => ?_) (fun c_5 => ?_)
            · refine lv_iconst (v := 3) hx hb dX4_ties_199 (by decide) ?_
              exact h_topi (if_neg c_5).symm hJ
            refine lv_aload_n hx hb dX4_ties_189 rfl (lv_at hl 3 rfl) ?_
            refine lv_iload hx hb dX4_ties_190 (lv_at hl 1 rfl) ?_
            refine lv_iconst (v := 0) hx hb dX4_ties_192 (by decide) ?_
            refine rcV (As := [.int (nI t), .int 0]) (rest := [.int (nI (73 + 4 * t)), .ref (a 0)]) (st1 := [.int ((upd (upd (F 0) (73 + 4 * t + 2) ((F 0 (73 + 4 * i + 2)) + (F 0 (73 + 4 * j + 2)))) (73 + 4 * t + 1) (minI (F 0 (73 + 4 * t + 1)) (F 0 (73 + 4 * f + 1)))) (73 + 4 * t)), .int (nI (73 + 4 * t)), .ref (a 0)]) (mX4_ofHank l g E ho h0 a I (va_up F 0 (upd (upd (F 0) (73 + 4 * t + 2) ((F 0 (73 + 4 * i + 2)) + (F 0 (73 + 4 * j + 2)))) (73 + 4 * t + 1) (minI (F 0 (73 + 4 * t + 1)) (F 0 (73 + 4 * f + 1))))) t 0 (by omega)) kX4_ofHank q2453 hx hb hml hown hts hRf hRl ho.1 hE hS hP (va_recv hK hP (ci := 0) (q0 := 0) rfl rfl) ⟨Nat.zero_le _, Nat.zero_le _⟩ hl ⟨rfl, rfl⟩ rfl rfl (Nat.le_of_ble_eq_true rfl) rfl dX4_ties_193 ?_
            refine h_topi (v := F 0 (73 + 4 * t)) (by rw [pk_un (by omega), pk_un (by omega)]) ?_
            refine lv_goto (tgt := 200) hx hb dX4_ties_196 (by decide) ?_
            exact h_topi (if_pos c_5).symm hJ
          refine h_iast (f := (upd (upd (F 0) (73 + 4 * t + 2) ((F 0 (73 + 4 * i + 2)) + (F 0 (73 + 4 * j + 2)))) (73 + 4 * t + 1) (minI (F 0 (73 + 4 * t + 1)) (F 0 (73 + 4 * f + 1))))) hx hb hK hP hD hS 1 0 rfl rfl (73 + 4 * t) rfl (by omega) (by decide) dX4_ties_200 (fun H locs hP hD hS => ?_)
          have hP : va_P (gD g) Cl (mW g h0 a I (va_up F 0 (upd (upd (upd (F 0) (73 + 4 * t + 2) ((F 0 (73 + 4 * i + 2)) + (F 0 (73 + 4 * j + 2)))) (73 + 4 * t + 1) (minI (F 0 (73 + 4 * t + 1)) (F 0 (73 + 4 * f + 1)))) (73 + 4 * t) (if (F 0 (73 + 4 * t)) = (F 0 (73 + 4 * f)) then (F 0 (73 + 4 * t)) else 3)))) H := hP
          have hD : va_D A (mW g h0 a I (va_up F 0 (upd (upd (upd (F 0) (73 + 4 * t + 2) ((F 0 (73 + 4 * i + 2)) + (F 0 (73 + 4 * j + 2)))) (73 + 4 * t + 1) (minI (F 0 (73 + 4 * t + 1)) (F 0 (73 + 4 * f + 1)))) (73 + 4 * t) (if (F 0 (73 + 4 * t)) = (F 0 (73 + 4 * f)) then (F 0 (73 + 4 * t)) else 3)))) := hD
          refine lv_aload_n hx hb dX4_ties_201 rfl (lv_at hl 3 rfl) ?_
          refine va_get (D := gD g) (ci := 0) (v := .ref (a 0)) (C := RX4) (T := TX4) (N := 21) hx hb hts in_X4 hown hK hP 0 rfl rfl 0 (by decide) (hts _ q2314) (fun _ h9 => h9) rfl dX4_ties_202 ?_
          refine lv_iload hx hb dX4_ties_205 (lv_at hl 1 rfl) ?_
          refine lv_iconst (v := 3) hx hb dX4_ties_207 (by decide) ?_
          refine rcS (As := [.int (nI t), .int 3]) (rest := [.ref (a 0)]) (st1 := [.int (nI (73 + 4 * t + 3)), .ref (a 0)]) (mX4_hankAt l g E ho t 3) kX4_hankAt q2431 hx hb hml hown hts hRf hRl ho.1 hE hS (hP.sub [] rfl) ⟨Nat.zero_le _, Nat.zero_le _⟩ hl ⟨rfl, rfl⟩ rfl rfl (Nat.le_of_ble_eq_true rfl) rfl dX4_ties_208 ?_
          refine lv_aload_n hx hb dX4_ties_211 rfl (lv_at hl 3 rfl) ?_
          refine lv_iload hx hb dX4_ties_212 (lv_at hl 1 rfl) ?_
          refine lv_iconst (v := 3) hx hb dX4_ties_214 (by decide) ?_
          refine rcV (As := [.int (nI t), .int 3]) (rest := [.int (nI (73 + 4 * t + 3)), .ref (a 0)]) (st1 := [.int ((upd (upd (upd (F 0) (73 + 4 * t + 2) ((F 0 (73 + 4 * i + 2)) + (F 0 (73 + 4 * j + 2)))) (73 + 4 * t + 1) (minI (F 0 (73 + 4 * t + 1)) (F 0 (73 + 4 * f + 1)))) (73 + 4 * t) (if (F 0 (73 + 4 * t)) = (F 0 (73 + 4 * f)) then (F 0 (73 + 4 * t)) else 3)) (73 + 4 * t + 3)), .int (nI (73 + 4 * t + 3)), .ref (a 0)]) (mX4_ofHank l g E ho h0 a I (va_up F 0 (upd (upd (upd (F 0) (73 + 4 * t + 2) ((F 0 (73 + 4 * i + 2)) + (F 0 (73 + 4 * j + 2)))) (73 + 4 * t + 1) (minI (F 0 (73 + 4 * t + 1)) (F 0 (73 + 4 * f + 1)))) (73 + 4 * t) (if (F 0 (73 + 4 * t)) = (F 0 (73 + 4 * f)) then (F 0 (73 + 4 * t)) else 3))) t 3 (by omega)) kX4_ofHank q2453 hx hb hml hown hts hRf hRl ho.1 hE hS hP (va_recv hK hP (ci := 0) (q0 := 0) rfl rfl) ⟨Nat.zero_le _, Nat.zero_le _⟩ hl ⟨rfl, rfl⟩ rfl rfl (Nat.le_of_ble_eq_true rfl) rfl dX4_ties_215 ?_
          refine h_topi (v := F 0 (73 + 4 * t + 3)) (by rw [pk_un (by omega), pk_un (by omega), pk_un (by omega)]) ?_
          refine lv_aload_n hx hb dX4_ties_218 rfl (lv_at hl 3 rfl) ?_
          refine lv_iload hx hb dX4_ties_219 (lv_at hl 0 rfl) ?_
          refine lv_iconst (v := 3) hx hb dX4_ties_221 (by decide) ?_
          refine rcV (As := [.int (nI f), .int 3]) (rest := [.int (F 0 (73 + 4 * t + 3)), .int (nI (73 + 4 * t + 3)), .ref (a 0)]) (st1 := [.int ((upd (upd (upd (F 0) (73 + 4 * t + 2) ((F 0 (73 + 4 * i + 2)) + (F 0 (73 + 4 * j + 2)))) (73 + 4 * t + 1) (minI (F 0 (73 + 4 * t + 1)) (F 0 (73 + 4 * f + 1)))) (73 + 4 * t) (if (F 0 (73 + 4 * t)) = (F 0 (73 + 4 * f)) then (F 0 (73 + 4 * t)) else 3)) (73 + 4 * f + 3)), .int (F 0 (73 + 4 * t + 3)), .int (nI (73 + 4 * t + 3)), .ref (a 0)]) (mX4_ofHank l g E ho h0 a I (va_up F 0 (upd (upd (upd (F 0) (73 + 4 * t + 2) ((F 0 (73 + 4 * i + 2)) + (F 0 (73 + 4 * j + 2)))) (73 + 4 * t + 1) (minI (F 0 (73 + 4 * t + 1)) (F 0 (73 + 4 * f + 1)))) (73 + 4 * t) (if (F 0 (73 + 4 * t)) = (F 0 (73 + 4 * f)) then (F 0 (73 + 4 * t)) else 3))) f 3 (by omega)) kX4_ofHank q2453 hx hb hml hown hts hRf hRl ho.1 hE hS hP (va_recv hK hP (ci := 0) (q0 := 0) rfl rfl) ⟨Nat.zero_le _, Nat.zero_le _⟩ hl ⟨rfl, rfl⟩ rfl rfl (Nat.le_of_ble_eq_true rfl) rfl dX4_ties_222 ?_
          refine h_topi (v := F 0 (73 + 4 * f + 3)) (by rw [pk_un (by omega), pk_un (by omega), pk_un (by omega)]) ?_
          refine h_join (J := 239) (v := if (F 0 (73 + 4 * t + 3)) = (F 0 (73 + 4 * f + 3)) then (F 0 (73 + 4 * t + 3)) else (-1)) (rest := [.int (nI (73 + 4 * t + 3)), .ref (a 0)]) ?_ ?_
          rotate_left
          · intro hJ
            refine lv_icmp_ne (tgt := 238) hx hb dX4_ties_225 (by decide) (fun c_6 => ?_) (fun c_6 => ?_)
            · refine lv_iconst (v := (-1)) hx hb dX4_ties_238 (by decide) ?_
              exact h_topi (if_neg c_6).symm hJ
            refine lv_aload_n hx hb dX4_ties_228 rfl (lv_at hl 3 rfl) ?_
            refine lv_iload hx hb dX4_ties_229 (lv_at hl 1 rfl) ?_
            refine lv_iconst (v := 3) hx hb dX4_ties_231 (by decide) ?_
            refine rcV (As := [.int (nI t), .int 3]) (rest := [.int (nI (73 + 4 * t + 3)), .ref (a 0)]) (st1 := [.int ((upd (upd (upd (F 0) (73 + 4 * t + 2) ((F 0 (73 + 4 * i + 2)) + (F 0 (73 + 4 * j + 2)))) (73 + 4 * t + 1) (minI (F 0 (73 + 4 * t + 1)) (F 0 (73 + 4 * f + 1)))) (73 + 4 * t) (if (F 0 (73 + 4 * t)) = (F 0 (73 + 4 * f)) then (F 0 (73 + 4 * t)) else 3)) (73 + 4 * t + 3)), .int (nI (73 + 4 * t + 3)), .ref (a 0)]) (mX4_ofHank l g E ho h0 a I (va_up F 0 (upd (upd (upd (F 0) (73 + 4 * t + 2) ((F 0 (73 + 4 * i + 2)) + (F 0 (73 + 4 * j + 2)))) (73 + 4 * t + 1) (minI (F 0 (73 + 4 * t + 1)) (F 0 (73 + 4 * f + 1)))) (73 + 4 * t) (if (F 0 (73 + 4 * t)) = (F 0 (73 + 4 * f)) then (F 0 (73 + 4 * t)) else 3))) t 3 (by omega)) kX4_ofHank q2453 hx hb hml hown hts hRf hRl ho.1 hE hS hP (va_recv hK hP (ci := 0) (q0 := 0) rfl rfl) ⟨Nat.zero_le _, Nat.zero_le _⟩ hl ⟨rfl, rfl⟩ rfl rfl (Nat.le_of_ble_eq_true rfl) rfl dX4_ties_232 ?_
            refine h_topi (v := F 0 (73 + 4 * t + 3)) (by rw [pk_un (by omega), pk_un (by omega), pk_un (by omega)]) ?_
            refine lv_goto (tgt := 239) hx hb dX4_ties_235 (by decide) ?_
            exact h_topi (if_pos c_6).symm hJ
          refine h_iast (f := (upd (upd (upd (F 0) (73 + 4 * t + 2) ((F 0 (73 + 4 * i + 2)) + (F 0 (73 + 4 * j + 2)))) (73 + 4 * t + 1) (minI (F 0 (73 + 4 * t + 1)) (F 0 (73 + 4 * f + 1)))) (73 + 4 * t) (if (F 0 (73 + 4 * t)) = (F 0 (73 + 4 * f)) then (F 0 (73 + 4 * t)) else 3))) hx hb hK hP hD hS 1 0 rfl rfl (73 + 4 * t + 3) rfl (by omega) (by decide) dX4_ties_239 (fun H locs hP hD hS => ?_)
          have hP : va_P (gD g) Cl (mW g h0 a I (va_up F 0 (upd (upd (upd (upd (F 0) (73 + 4 * t + 2) ((F 0 (73 + 4 * i + 2)) + (F 0 (73 + 4 * j + 2)))) (73 + 4 * t + 1) (minI (F 0 (73 + 4 * t + 1)) (F 0 (73 + 4 * f + 1)))) (73 + 4 * t) (if (F 0 (73 + 4 * t)) = (F 0 (73 + 4 * f)) then (F 0 (73 + 4 * t)) else 3)) (73 + 4 * t + 3) (if (F 0 (73 + 4 * t + 3)) = (F 0 (73 + 4 * f + 3)) then (F 0 (73 + 4 * t + 3)) else (-1))))) H := hP
          have hD : va_D A (mW g h0 a I (va_up F 0 (upd (upd (upd (upd (F 0) (73 + 4 * t + 2) ((F 0 (73 + 4 * i + 2)) + (F 0 (73 + 4 * j + 2)))) (73 + 4 * t + 1) (minI (F 0 (73 + 4 * t + 1)) (F 0 (73 + 4 * f + 1)))) (73 + 4 * t) (if (F 0 (73 + 4 * t)) = (F 0 (73 + 4 * f)) then (F 0 (73 + 4 * t)) else 3)) (73 + 4 * t + 3) (if (F 0 (73 + 4 * t + 3)) = (F 0 (73 + 4 * f + 3)) then (F 0 (73 + 4 * t + 3)) else (-1))))) := hD
          refine lv_aload_n hx hb dX4_ties_240 rfl (lv_at hl 3 rfl) ?_
          refine lv_iload hx hb dX4_ties_241 (lv_at hl 0 rfl) ?_
          refine mcV (As := [.int (nI f)]) (rest := []) (wr := []) (mX4_goes l g E ho h0 a I (va_up F 0 (upd (upd (upd (upd (F 0) (73 + 4 * t + 2) ((F 0 (73 + 4 * i + 2)) + (F 0 (73 + 4 * j + 2)))) (73 + 4 * t + 1) (minI (F 0 (73 + 4 * t + 1)) (F 0 (73 + 4 * f + 1)))) (73 + 4 * t) (if (F 0 (73 + 4 * t)) = (F 0 (73 + 4 * f)) then (F 0 (73 + 4 * t)) else 3)) (73 + 4 * t + 3) (if (F 0 (73 + 4 * t + 3)) = (F 0 (73 + 4 * f + 3)) then (F 0 (73 + 4 * t + 3)) else (-1)))) f nt nh nb nc tw (⟨by show (upd (upd (upd (upd (F 0) (73 + 4 * t + 2) ((F 0 (73 + 4 * i + 2)) + (F 0 (73 + 4 * j + 2)))) (73 + 4 * t + 1) (minI (F 0 (73 + 4 * t + 1)) (F 0 (73 + 4 * f + 1)))) (73 + 4 * t) (if (F 0 (73 + 4 * t)) = (F 0 (73 + 4 * f)) then (F 0 (73 + 4 * t)) else 3)) (73 + 4 * t + 3) (if (F 0 (73 + 4 * t + 3)) = (F 0 (73 + 4 * f + 3)) then (F 0 (73 + 4 * t + 3)) else (-1))) 2 = _; rw [pk_un (by omega), pk_un (by omega), pk_un (by omega), pk_un (by omega)]; exact htw, htw6, by show (upd (upd (upd (upd (F 0) (73 + 4 * t + 2) ((F 0 (73 + 4 * i + 2)) + (F 0 (73 + 4 * j + 2)))) (73 + 4 * t + 1) (minI (F 0 (73 + 4 * t + 1)) (F 0 (73 + 4 * f + 1)))) (73 + 4 * t) (if (F 0 (73 + 4 * t)) = (F 0 (73 + 4 * f)) then (F 0 (73 + 4 * t)) else 3)) (73 + 4 * t + 3) (if (F 0 (73 + 4 * t + 3)) = (F 0 (73 + 4 * f + 3)) then (F 0 (73 + 4 * t + 3)) else (-1))) 3 = _; rw [pk_un (by omega), pk_un (by omega), pk_un (by omega), pk_un (by omega)]; exact ht, ht10, by show (upd (upd (upd (upd (F 0) (73 + 4 * t + 2) ((F 0 (73 + 4 * i + 2)) + (F 0 (73 + 4 * j + 2)))) (73 + 4 * t + 1) (minI (F 0 (73 + 4 * t + 1)) (F 0 (73 + 4 * f + 1)))) (73 + 4 * t) (if (F 0 (73 + 4 * t)) = (F 0 (73 + 4 * f)) then (F 0 (73 + 4 * t)) else 3)) (73 + 4 * t + 3) (if (F 0 (73 + 4 * t + 3)) = (F 0 (73 + 4 * f + 3)) then (F 0 (73 + 4 * t + 3)) else (-1))) 4 = _; rw [pk_un (by omega), pk_un (by omega), pk_un (by omega), pk_un (by omega)]; exact hh, hh20, by show (upd (upd (upd (upd (F 0) (73 + 4 * t + 2) ((F 0 (73 + 4 * i + 2)) + (F 0 (73 + 4 * j + 2)))) (73 + 4 * t + 1) (minI (F 0 (73 + 4 * t + 1)) (F 0 (73 + 4 * f + 1)))) (73 + 4 * t) (if (F 0 (73 + 4 * t)) = (F 0 (73 + 4 * f)) then (F 0 (73 + 4 * t)) else 3)) (73 + 4 * t + 3) (if (F 0 (73 + 4 * t + 3)) = (F 0 (73 + 4 * f + 3)) then (F 0 (73 + 4 * t + 3)) else (-1))) 5 = _; rw [pk_un (by omega), pk_un (by omega), pk_un (by omega), pk_un (by omega)]; exact hb6, hb6l, by show (upd (upd (upd (upd (F 0) (73 + 4 * t + 2) ((F 0 (73 + 4 * i + 2)) + (F 0 (73 + 4 * j + 2)))) (73 + 4 * t + 1) (minI (F 0 (73 + 4 * t + 1)) (F 0 (73 + 4 * f + 1)))) (73 + 4 * t) (if (F 0 (73 + 4 * t)) = (F 0 (73 + 4 * f)) then (F 0 (73 + 4 * t)) else 3)) (73 + 4 * t + 3) (if (F 0 (73 + 4 * t + 3)) = (F 0 (73 + 4 * f + 3)) then (F 0 (73 + 4 * t + 3)) else (-1))) 6 = _; rw [pk_un (by omega), pk_un (by omega), pk_un (by omega), pk_un (by omega)]; exact hk5, hk5l⟩) (by omega)) kX4_goes q2460 hx hb hml hown hts hRf hRl ho.1 hE hS hP hD hA [0, 1, 2, 3, 4, 5, 6, 7, 8] [] rfl (by decide) rfl (by decide) (by decide) ⟨Nat.zero_le _, Nat.zero_le _⟩ (va_recv hK hP (ci := 0) (q0 := 0) rfl rfl) hl ⟨rfl, rfl⟩ rfl rfl (Nat.le_of_ble_eq_true rfl) dX4_ties_243 (fun _ H locs _ hP hD hS _ _ => ?_)
          have hP : va_P (gD g) Cl (mW g h0 a I (va_up F 0 (goS (upd (upd (upd (upd (F 0) (73 + 4 * t + 2) ((F 0 (73 + 4 * i + 2)) + (F 0 (73 + 4 * j + 2)))) (73 + 4 * t + 1) (minI (F 0 (73 + 4 * t + 1)) (F 0 (73 + 4 * f + 1)))) (73 + 4 * t) (if (F 0 (73 + 4 * t)) = (F 0 (73 + 4 * f)) then (F 0 (73 + 4 * t)) else 3)) (73 + 4 * t + 3) (if (F 0 (73 + 4 * t + 3)) = (F 0 (73 + 4 * f + 3)) then (F 0 (73 + 4 * t + 3)) else (-1))) f nh))) H := hP
          have hD : va_D A (mW g h0 a I (va_up F 0 (goS (upd (upd (upd (upd (F 0) (73 + 4 * t + 2) ((F 0 (73 + 4 * i + 2)) + (F 0 (73 + 4 * j + 2)))) (73 + 4 * t + 1) (minI (F 0 (73 + 4 * t + 1)) (F 0 (73 + 4 * f + 1)))) (73 + 4 * t) (if (F 0 (73 + 4 * t)) = (F 0 (73 + 4 * f)) then (F 0 (73 + 4 * t)) else 3)) (73 + 4 * t + 3) (if (F 0 (73 + 4 * t + 3)) = (F 0 (73 + 4 * f + 3)) then (F 0 (73 + 4 * t + 3)) else (-1))) f nh))) := hD
          refine lv_iload hx hb dX4_ties_246 (lv_at hl 1 rfl) ?_
          have hop : opTie (F 0) (nI i) (nI j) = (0, 0, nI t, (goS (upd (upd (upd (upd (F 0) (73 + 4 * t + 2) ((F 0 (73 + 4 * i + 2)) + (F 0 (73 + 4 * j + 2)))) (73 + 4 * t + 1) (minI (F 0 (73 + 4 * t + 1)) (F 0 (73 + 4 * f + 1)))) (73 + 4 * t) (if (F 0 (73 + 4 * t)) = (F 0 (73 + 4 * f)) then (F 0 (73 + 4 * t)) else 3)) (73 + 4 * t + 3) (if (F 0 (73 + 4 * t + 3)) = (F 0 (73 + 4 * f + 3)) then (F 0 (73 + 4 * t + 3)) else (-1))) f nh)) := by simp only [htw, htwc, ht, htc, hh, hhc, hb6, hbc, hk5, hkc, opTie, opTieN, hic, hjc, eq_true c_1, eq_true c_2, eq_false c_3, eq_true c_4, eq_false (Int32.not_lt.mpr c_4), if_true, if_false, not_true_eq_false, not_false_eq_true, ite_true, ite_false, reduceIte, Nat.add_zero, Nat.add_sub_cancel, ← hte, ← hfe]
          have hW1 : (mW g h0 a I (va_up F 0 (goS (upd (upd (upd (upd (F 0) (73 + 4 * t + 2) ((F 0 (73 + 4 * i + 2)) + (F 0 (73 + 4 * j + 2)))) (73 + 4 * t + 1) (minI (F 0 (73 + 4 * t + 1)) (F 0 (73 + 4 * f + 1)))) (73 + 4 * t) (if (F 0 (73 + 4 * t)) = (F 0 (73 + 4 * f)) then (F 0 (73 + 4 * t)) else 3)) (73 + 4 * t + 3) (if (F 0 (73 + 4 * t + 3)) = (F 0 (73 + 4 * f + 3)) then (F 0 (73 + 4 * t + 3)) else (-1))) f nh))) = mW g h0 a (opI I (opTie (F 0) (nI i) (nI j))) (va_up F 0 (opTie (F 0) (nI i) (nI j)).2.2.2) := by
            rw [hop]
            first | rfl | (simp only [opI, hup_id]; rfl)
          rw [hW1] at hP hD
          exact hm_i hQ hx hb hr hlk rfl () (by rw [hop]) trivial hP hD hS (by decide) (by decide) dX4_ties_248
        refine lv_iconst (v := 1) hx hb dX4_ties_88 (by decide) ?_
        refine lv_goto (tgt := 93) hx hb dX4_ties_89 (by decide) ?_
        refine lv_bipush (v := 7) hx hb dX4_ties_93 (by decide) ?_
        refine lv_iload_n hx hb dX4_ties_95 rfl (lv_at hl 0 rfl) ?_
        refine lv_sipush (v := 600) hx hb dX4_ties_96 (by decide) ?_
        refine lv_isub hx hb dX4_ties_99 ?_
        refine mcV (As := [.int 1, .int 7, .int (((F 0 (73 + 4 * i + 2)) + (F 0 (73 + 4 * j + 2))) - 600)]) (rest := []) (wr := []) (mX4_isRefused1 l g E ho h0 a I F 7 (((F 0 (73 + 4 * i + 2)) + (F 0 (73 + 4 * j + 2))) - 600)) kX4_isRefused q2400 hx hb hml hown hts hRf hRl ho.1 hE hS hP hD hA [0, 1, 2, 3, 4, 5, 6, 7, 8] [] rfl (by decide) rfl (by decide) (by decide) ⟨Nat.zero_le _, Nat.zero_le _⟩ (va_recv hK hP (ci := 0) (q0 := 0) rfl rfl) hl ⟨rfl, rfl⟩ rfl rfl (Nat.le_of_ble_eq_true rfl) dX4_ties_100 (fun _ H locs _ hP hD hS _ _ => ?_)
        have hP : va_P (gD g) Cl (mW g h0 a (refI I 7 (((F 0 (73 + 4 * i + 2)) + (F 0 (73 + 4 * j + 2))) - 600)) F) H := hP
        have hD : va_D A (mW g h0 a (refI I 7 (((F 0 (73 + 4 * i + 2)) + (F 0 (73 + 4 * j + 2))) - 600)) F) := hD
        refine lv_if_eq (tgt := 108) hx hb dX4_ties_103 (by decide) (fun c => absurd c (by decide)) (fun _ => ?_)
        refine lv_iconst (v := 0) hx hb dX4_ties_106 (by decide) ?_
        have hop : opTie (F 0) (nI i) (nI j) = (7, (((F 0 (73 + 4 * i + 2)) + (F 0 (73 + 4 * j + 2))) - 600), 0, F 0) := by simp only [htw, htwc, ht, htc, hh, hhc, hb6, hbc, hk5, hkc, opTie, opTieN, hic, hjc, eq_true c_1, eq_true c_2, eq_false c_3, eq_false c_4, eq_true (Int32.not_le.mp c_4), if_true, if_false, not_true_eq_false, not_false_eq_true, ite_true, ite_false, reduceIte, Nat.add_zero, Nat.add_sub_cancel]
        have hW1 : (mW g h0 a (refI I 7 (((F 0 (73 + 4 * i + 2)) + (F 0 (73 + 4 * j + 2))) - 600)) F) = mW g h0 a (opI I (opTie (F 0) (nI i) (nI j))) (va_up F 0 (opTie (F 0) (nI i) (nI j)).2.2.2) := by
          rw [hop]
          first | rfl | (simp only [opI, hup_id]; rfl)
        rw [hW1] at hP hD
        exact hm_i hQ hx hb hr hlk rfl () (by rw [hop]) trivial hP hD hS (by decide) (by decide) dX4_ties_107
      refine lv_iconst (v := 1) hx hb dX4_ties_50 (by decide) ?_
      refine lv_goto (tgt := 55) hx hb dX4_ties_51 (by decide) ?_
      refine lv_bipush (v := 8) hx hb dX4_ties_55 (by decide) ?_
      refine lv_iload_n hx hb dX4_ties_57 rfl (lv_at hl 1 rfl) ?_
      refine mcV (As := [.int 1, .int 8, .int (nI i)]) (rest := []) (wr := []) (mX4_isRefused1 l g E ho h0 a I F 8 (nI i)) kX4_isRefused q2400 hx hb hml hown hts hRf hRl ho.1 hE hS hP hD hA [0, 1, 2, 3, 4, 5, 6, 7, 8] [] rfl (by decide) rfl (by decide) (by decide) ⟨Nat.zero_le _, Nat.zero_le _⟩ (va_recv hK hP (ci := 0) (q0 := 0) rfl rfl) hl ⟨rfl, rfl⟩ rfl rfl (Nat.le_of_ble_eq_true rfl) dX4_ties_58 (fun _ H locs _ hP hD hS _ _ => ?_)
      have hP : va_P (gD g) Cl (mW g h0 a (refI I 8 (nI i)) F) H := hP
      have hD : va_D A (mW g h0 a (refI I 8 (nI i)) F) := hD
      refine lv_if_eq (tgt := 66) hx hb dX4_ties_61 (by decide) (fun c => absurd c (by decide)) (fun _ => ?_)
      refine lv_iconst (v := 0) hx hb dX4_ties_64 (by decide) ?_
      have hop : opTie (F 0) (nI i) (nI j) = (8, (nI i), 0, F 0) := by simp only [htw, htwc, ht, htc, hh, hhc, hb6, hbc, hk5, hkc, opTie, opTieN, hic, hjc, eq_true c_1, eq_true c_2, eq_true c_3, if_true, if_false, not_true_eq_false, not_false_eq_true, ite_true, ite_false, reduceIte, Nat.add_zero, Nat.add_sub_cancel]
      have hW1 : (mW g h0 a (refI I 8 (nI i)) F) = mW g h0 a (opI I (opTie (F 0) (nI i) (nI j))) (va_up F 0 (opTie (F 0) (nI i) (nI j)).2.2.2) := by
        rw [hop]
        first | rfl | (simp only [opI, hup_id]; rfl)
      rw [hW1] at hP hD
      exact hm_i hQ hx hb hr hlk rfl () (by rw [hop]) trivial hP hD hS (by decide) (by decide) dX4_ties_65
    rw [hh] at c_2
    refine lv_iconst (v := 1) hx hb dX4_ties_31 (by decide) ?_
    refine lv_goto (tgt := 36) hx hb dX4_ties_32 (by decide) ?_
    refine lv_iconst (v := 2) hx hb dX4_ties_36 (by decide) ?_
    refine lv_iload_n hx hb dX4_ties_37 rfl (lv_at hl 2 rfl) ?_
    refine mcV (As := [.int 1, .int 2, .int p1]) (rest := []) (wr := []) (mX4_isRefused1 l g E ho h0 a I F 2 p1) kX4_isRefused q2400 hx hb hml hown hts hRf hRl ho.1 hE hS hP hD hA [0, 1, 2, 3, 4, 5, 6, 7, 8] [] rfl (by decide) rfl (by decide) (by decide) ⟨Nat.zero_le _, Nat.zero_le _⟩ (va_recv hK hP (ci := 0) (q0 := 0) rfl rfl) hl ⟨rfl, rfl⟩ rfl rfl (Nat.le_of_ble_eq_true rfl) dX4_ties_38 (fun _ H locs _ hP hD hS _ _ => ?_)
    have hP : va_P (gD g) Cl (mW g h0 a (refI I 2 p1) F) H := hP
    have hD : va_D A (mW g h0 a (refI I 2 p1) F) := hD
    refine lv_if_ne (tgt := 64) hx hb dX4_ties_41 (by decide) (fun _ => ?_) (fun c => absurd c (by decide))
    refine lv_iconst (v := 0) hx hb dX4_ties_64 (by decide) ?_
    have hop : opTie (F 0) (nI i) p1 = (2, p1, 0, F 0) := by simp only [htw, htwc, ht, htc, hh, hhc, hb6, hbc, hk5, hkc, opTie, opTieN, hic, eq_true c_1, eq_false c_2, if_true, if_false, not_true_eq_false, not_false_eq_true, ite_true, ite_false, reduceIte, Nat.add_zero, Nat.add_sub_cancel]
    have hW1 : (mW g h0 a (refI I 2 p1) F) = mW g h0 a (opI I (opTie (F 0) (nI i) p1)) (va_up F 0 (opTie (F 0) (nI i) p1).2.2.2) := by
      rw [hop]
      first | rfl | (simp only [opI, hup_id]; rfl)
    rw [hW1] at hP hD
    exact hm_i hQ hx hb hr hlk rfl () (by rw [hop]) trivial hP hD hS (by decide) (by decide) dX4_ties_65
  rw [hh] at c_1
  refine lv_iconst (v := 1) hx hb dX4_ties_9 (by decide) ?_
  refine lv_goto (tgt := 14) hx hb dX4_ties_10 (by decide) ?_
  refine lv_iconst (v := 2) hx hb dX4_ties_14 (by decide) ?_
  refine lv_iload_n hx hb dX4_ties_15 rfl (lv_at hl 1 rfl) ?_
  refine mcV (As := [.int 1, .int 2, .int p0]) (rest := []) (wr := []) (mX4_isRefused1 l g E ho h0 a I F 2 p0) kX4_isRefused q2400 hx hb hml hown hts hRf hRl ho.1 hE hS hP hD hA [0, 1, 2, 3, 4, 5, 6, 7, 8] [] rfl (by decide) rfl (by decide) (by decide) ⟨Nat.zero_le _, Nat.zero_le _⟩ (va_recv hK hP (ci := 0) (q0 := 0) rfl rfl) hl ⟨rfl, rfl⟩ rfl rfl (Nat.le_of_ble_eq_true rfl) dX4_ties_16 (fun _ H locs _ hP hD hS _ _ => ?_)
  have hP : va_P (gD g) Cl (mW g h0 a (refI I 2 p0) F) H := hP
  have hD : va_D A (mW g h0 a (refI I 2 p0) F) := hD
  refine lv_if_ne (tgt := 64) hx hb dX4_ties_19 (by decide) (fun _ => ?_) (fun c => absurd c (by decide))
  refine lv_iconst (v := 0) hx hb dX4_ties_64 (by decide) ?_
  have hop : opTie (F 0) p0 p1 = (2, p0, 0, F 0) := by simp only [htw, htwc, ht, htc, hh, hhc, hb6, hbc, hk5, hkc, opTie, opTieN, eq_false c_1, if_true, if_false, not_true_eq_false, not_false_eq_true, ite_true, ite_false, reduceIte, Nat.add_zero, Nat.add_sub_cancel]
  have hW1 : (mW g h0 a (refI I 2 p0) F) = mW g h0 a (opI I (opTie (F 0) p0 p1)) (va_up F 0 (opTie (F 0) p0 p1).2.2.2) := by
    rw [hop]
    first | rfl | (simp only [opI, hup_id]; rfl)
  rw [hW1] at hP hD
  exact hm_i hQ hx hb hr hlk rfl () (by rw [hop]) trivial hP hD hS (by decide) (by decide) dX4_ties_65
theorem kX4_tie : hkV RX4 yX4_tie cX4_tie 3 (some .int) 2 := ⟨q2442, q2443, q78, q2444, rfl, by decide +kernel⟩
set_option maxHeartbeats 4000000 in
theorem mX4_tie (l : Launch) (g : hG) (E : hEnv) (ho : mOk g E) (h0 : Nat) (a : Nat → Nat) (I : Nat → Int32) (F : Nat → Nat → Int32) (p0 : Int32) (p1 : Int32) (nt : Nat) (nh : Nat) (nb : Nat) (nc : Nat) (tw : Nat) (n : Nat) (hc : Cn (F 0) nt nh nb nc tw) (hn : I 0 = nI n) (hn8 : n ≤ 8) : MM l yX4_tie cX4_tie 3 (some .int) 3 68 0 0 [.ref h0, .int p0, .int p1] g E (mW g h0 a I F) (S := Unit) (fun _ => (some (.int ((opTie (F 0) p0 p1).2.2.1)))) (fun _ => True) (fun _ => mW g h0 a (pubI I n (opTie (F 0) p0 p1)) (pubF F n (opTie (F 0) p0 p1))) := by
  refine MM.mk (by decide) (Nat.le_of_ble_eq_true rfl) ?_
  intro p e R s m args below meth c Q A H locs ls hX hRc hRs hP hD hE hS hA hnm hl hQ
  obtain ⟨hx, hb, hr, hlk, hml, hown, hts, hRf, hRl⟩ := hX
  have hown : s.vm.findClass RX4 = some m.cls := hown
  have hK := ho.2 _ _ _ hE
  have hl : lv_has ls 3 [(0, .ref h0), (1, .int p0), (2, .int p1)] := hl
  have hc0 := hc
  obtain ⟨htw, htw6, ht, ht10, hh, hh20, hb6, hb6l, hk5, hk5l⟩ := hc
  have htc : (nI nt).toNatClampNeg = nt := nI_clamp (by omega)
  have hhc : (nI nh).toNatClampNeg = nh := nI_clamp (by omega)
  have hbc : (nI nb).toNatClampNeg = nb := nI_clamp (by omega)
  have hkc : (nI nc).toNatClampNeg = nc := nI_clamp (by omega)
  have htwc : (nI tw).toNatClampNeg = tw := nI_clamp (by omega)
  refine lv_aload_n hx hb dX4_tie_0 rfl (lv_at hl 0 rfl) ?_
  refine mcV (As := []) (rest := []) (wr := []) (mX4_begins l g E ho h0 a I F) kX4_begins q2386 hx hb hml hown hts hRf hRl ho.1 hE hS hP hD hA [0, 1, 2, 3, 4, 5, 6, 7, 8] [] rfl (by decide) rfl (by decide) (by decide) ⟨Nat.zero_le _, Nat.zero_le _⟩ (va_recv hK hP (ci := 0) (q0 := 0) rfl rfl) hl ⟨rfl, rfl⟩ rfl rfl (Nat.le_of_ble_eq_true rfl) dX4_tie_1 (fun _ H locs _ hP hD hS _ _ => ?_)
  have hP : va_P (gD g) Cl (mW g h0 a (upd (upd I 5 0) 1 0) (va_up F 1 (va_cpy (F 0) (F 1) 0 0 195))) H := hP
  have hD : va_D A (mW g h0 a (upd (upd I 5 0) 1 0) (va_up F 1 (va_cpy (F 0) (F 1) 0 0 195))) := hD
  refine lv_aload_n hx hb dX4_tie_4 rfl (lv_at hl 0 rfl) ?_
  refine lv_aload_n hx hb dX4_tie_5 rfl (lv_at hl 0 rfl) ?_
  refine lv_iload_n hx hb dX4_tie_6 rfl (lv_at hl 1 rfl) ?_
  refine lv_iload_n hx hb dX4_tie_7 rfl (lv_at hl 2 rfl) ?_
  refine mcV (As := [.int p0, .int p1]) (rest := [.ref h0]) (wr := []) (mX4_ties l g E ho h0 a (upd (upd I 5 0) 1 0) (va_up F 1 (va_cpy (F 0) (F 1) 0 0 195)) p0 p1 nt nh nb nc tw hc0) kX4_ties q2445 hx hb hml hown hts hRf hRl ho.1 hE hS hP hD hA [0, 1, 2, 3, 4, 5, 6, 7, 8] [] rfl (by decide) rfl (by decide) (by decide) ⟨Nat.zero_le _, Nat.zero_le _⟩ (va_recv hK hP (ci := 0) (q0 := 0) rfl rfl) hl ⟨rfl, rfl⟩ rfl rfl (Nat.le_of_ble_eq_true rfl) dX4_tie_8 (fun _ H locs _ hP hD hS _ _ => ?_)
  have hP : va_P (gD g) Cl (mW g h0 a (opI (upd (upd I 5 0) 1 0) (opTie (F 0) p0 p1)) (va_up (va_up F 0 ((opTie (F 0) p0 p1).2.2.2)) 1 (va_cpy (F 0) (F 1) 0 0 195))) H := hP
  have hD : va_D A (mW g h0 a (opI (upd (upd I 5 0) 1 0) (opTie (F 0) p0 p1)) (va_up (va_up F 0 ((opTie (F 0) p0 p1).2.2.2)) 1 (va_cpy (F 0) (F 1) 0 0 195))) := hD
  by_cases hz : (opTie (F 0) p0 p1).1 = 0
  · have hI : opI (upd (upd I 5 0) 1 0) (opTie (F 0) p0 p1) = (upd (upd I 5 0) 1 0) := if_pos hz
    rw [hI] at hP hD
    refine mcV (As := [.int ((opTie (F 0) p0 p1).2.2.1)]) (rest := []) (wr := []) (mX4_ends0 l g E ho h0 a (upd (upd I 5 0) 1 0) (va_up (va_up F 0 ((opTie (F 0) p0 p1).2.2.2)) 1 (va_cpy (F 0) (F 1) 0 0 195)) ((opTie (F 0) p0 p1).2.2.1) n rfl hn hn8) kX4_ends q2411 hx hb hml hown hts hRf hRl ho.1 hE hS hP hD hA [0, 1, 2, 3, 4, 5, 6, 7, 8] [] rfl (by decide) rfl (by decide) (by decide) ⟨Nat.zero_le _, Nat.zero_le _⟩ (va_recv hK hP (ci := 0) (q0 := 0) rfl rfl) hl ⟨rfl, rfl⟩ rfl rfl (Nat.le_of_ble_eq_true rfl) dX4_tie_11 (fun _ H locs _ hP hD hS _ _ => ?_)
    have hP : va_P (gD g) Cl (mW g h0 a (upd (upd (upd I 5 0) 1 0) 0 (nI (chN n))) (va_up (va_up (va_up F 0 ((opTie (F 0) p0 p1).2.2.2)) 1 (va_cpy (F 0) (F 1) 0 0 195)) 3 (chP (va_cpy (F 0) (F 1) 0 0 195) (F 3) n))) H := hP
    have hD : va_D A (mW g h0 a (upd (upd (upd I 5 0) 1 0) 0 (nI (chN n))) (va_up (va_up (va_up F 0 ((opTie (F 0) p0 p1).2.2.2)) 1 (va_cpy (F 0) (F 1) 0 0 195)) 3 (chP (va_cpy (F 0) (F 1) 0 0 195) (F 3) n))) := hD
    have hW1 : (mW g h0 a (upd (upd (upd I 5 0) 1 0) 0 (nI (chN n))) (va_up (va_up (va_up F 0 ((opTie (F 0) p0 p1).2.2.2)) 1 (va_cpy (F 0) (F 1) 0 0 195)) 3 (chP (va_cpy (F 0) (F 1) 0 0 195) (F 3) n))) = mW g h0 a (pubI I n (opTie (F 0) p0 p1)) (pubF F n (opTie (F 0) p0 p1)) := by
      rw [show pubI I n (opTie (F 0) p0 p1) = chI (upd (upd I 5 0) 1 0) n from if_pos hz, show pubF F n (opTie (F 0) p0 p1) = chF (va_up (kpF F) 0 (opTie (F 0) p0 p1).2.2.2) n from if_pos hz]
      rfl
    rw [hW1] at hP hD
    exact hm_i hQ hx hb hr hlk rfl () rfl trivial hP hD hS (by decide) (by decide) dX4_tie_14
  obtain ⟨hv0, hs0⟩ := opTie_ref (F 0) p0 p1 hz
  have hI : opI (upd (upd I 5 0) 1 0) (opTie (F 0) p0 p1) = (refI (upd (upd I 5 0) 1 0) (opTie (F 0) p0 p1).1 (opTie (F 0) p0 p1).2.1) := if_neg hz
  rw [hI] at hP hD
  refine rcV (As := [.int ((opTie (F 0) p0 p1).2.2.1)]) (rest := []) (st1 := [.int 0]) (mX4_ends1 l g E ho h0 a (refI (upd (upd I 5 0) 1 0) (opTie (F 0) p0 p1).1 (opTie (F 0) p0 p1).2.1) (va_up (va_up F 0 ((opTie (F 0) p0 p1).2.2.2)) 1 (va_cpy (F 0) (F 1) 0 0 195)) ((opTie (F 0) p0 p1).2.2.1) (by show ¬ (1 : Int32) = 0; decide)) kX4_ends q2411 hx hb hml hown hts hRf hRl ho.1 hE hS hP (va_recv hK hP (ci := 0) (q0 := 0) rfl rfl) ⟨Nat.zero_le _, Nat.zero_le _⟩ hl ⟨rfl, rfl⟩ rfl rfl (Nat.le_of_ble_eq_true rfl) rfl dX4_tie_11 ?_
  have hW1 : (mW g h0 a (refI (upd (upd I 5 0) 1 0) (opTie (F 0) p0 p1).1 (opTie (F 0) p0 p1).2.1) (va_up (va_up F 0 ((opTie (F 0) p0 p1).2.2.2)) 1 (va_cpy (F 0) (F 1) 0 0 195))) = mW g h0 a (pubI I n (opTie (F 0) p0 p1)) (pubF F n (opTie (F 0) p0 p1)) := by
    rw [show pubI I n (opTie (F 0) p0 p1) = refI (upd (upd I 5 0) 1 0) (opTie (F 0) p0 p1).1 (opTie (F 0) p0 p1).2.1 from if_neg hz, show pubF F n (opTie (F 0) p0 p1) = kpF F from if_neg hz, hs0]
    rfl
  rw [hW1] at hP hD
  exact hm_i hQ hx hb hr hlk rfl () (by rw [hv0]) trivial hP hD hS (by decide) (by decide) dX4_tie_14
theorem kX4_weaves : hkV RX4 yX4_weaves cX4_weaves 4 (some .int) 2 := ⟨q2470, qs36, q78, q2471, rfl, by decide +kernel⟩
set_option maxHeartbeats 4000000 in
theorem mX4_weaves (l : Launch) (g : hG) (E : hEnv) (ho : mOk g E) (h0 : Nat) (a : Nat → Nat) (I : Nat → Int32) (F : Nat → Nat → Int32) (p0 : Int32) (p1 : Int32) (nt : Nat) (nh : Nat) (nb : Nat) (nc : Nat) (tw : Nat) (hc : Cn (F 0) nt nh nb nc tw) : MM l yX4_weaves cX4_weaves 4 (some .int) 3 65 0 0 [.ref h0, .int p0, .int p1] g E (mW g h0 a I F) (S := Unit) (fun _ => (some (.int ((opWeave (F 0) p0 p1).2.2.1)))) (fun _ => True) (fun _ => mW g h0 a (opI I (opWeave (F 0) p0 p1)) (va_up F 0 (opWeave (F 0) p0 p1).2.2.2)) := by
  refine MM.mk (by decide) (Nat.le_of_ble_eq_true rfl) ?_
  intro p e R s m args below meth c Q A H locs ls hX hRc hRs hP hD hE hS hA hnm hl hQ
  obtain ⟨hx, hb, hr, hlk, hml, hown, hts, hRf, hRl⟩ := hX
  have hown : s.vm.findClass RX4 = some m.cls := hown
  have hK := ho.2 _ _ _ hE
  have hl : lv_has ls 4 [(0, .ref h0), (1, .int p0), (2, .int p1)] := hl
  have hc0 := hc
  obtain ⟨htw, htw6, ht, ht10, hh, hh20, hb6, hb6l, hk5, hk5l⟩ := hc
  have htc : (nI nt).toNatClampNeg = nt := nI_clamp (by omega)
  have hhc : (nI nh).toNatClampNeg = nh := nI_clamp (by omega)
  have hbc : (nI nb).toNatClampNeg = nb := nI_clamp (by omega)
  have hkc : (nI nc).toNatClampNeg = nc := nI_clamp (by omega)
  have htwc : (nI tw).toNatClampNeg = tw := nI_clamp (by omega)
  refine lv_aload_n hx hb dX4_weaves_0 rfl (lv_at hl 0 rfl) ?_
  refine lv_aload_n hx hb dX4_weaves_1 rfl (lv_at hl 0 rfl) ?_
  refine lv_iload_n hx hb dX4_weaves_2 rfl (lv_at hl 1 rfl) ?_
  refine rcV (As := [.int p0]) (rest := [.ref h0]) (st1 := [.int (if inR p0 0 (F 0 4 - 1) then 1 else 0), .ref h0]) (mX4_isHank l g E ho h0 a I F p0) kX4_isHank q2449 hx hb hml hown hts hRf hRl ho.1 hE hS hP (va_recv hK hP (ci := 0) (q0 := 0) rfl rfl) ⟨Nat.zero_le _, Nat.zero_le _⟩ hl ⟨rfl, rfl⟩ rfl rfl (Nat.le_of_ble_eq_true rfl) rfl dX4_weaves_3 ?_
  refine h_ifne_b (tgt := 13) hx hb dX4_weaves_6 (by decide) (fun c_1 => ?_) (fun c_1 => ?_)
  · rw [hh] at c_1
    refine lv_iconst (v := 0) hx hb dX4_weaves_13 (by decide) ?_
    refine lv_iconst (v := 2) hx hb dX4_weaves_14 (by decide) ?_
    refine lv_iload_n hx hb dX4_weaves_15 rfl (lv_at hl 1 rfl) ?_
    refine rcV (As := [.int 0, .int 2, .int p0]) (rest := []) (st1 := [.int 0]) (mX4_isRefused0 l g E ho h0 a I F 2 p0) kX4_isRefused q2400 hx hb hml hown hts hRf hRl ho.1 hE hS hP (va_recv hK hP (ci := 0) (q0 := 0) rfl rfl) ⟨Nat.zero_le _, Nat.zero_le _⟩ hl ⟨rfl, rfl⟩ rfl rfl (Nat.le_of_ble_eq_true rfl) rfl dX4_weaves_16 ?_
    refine lv_if_ne (tgt := 43) hx hb dX4_weaves_19 (by decide) (fun c => absurd c (by decide)) (fun _ => ?_)
    have hrj := c_1
    obtain ⟨j, hj, rfl⟩ := inR_ix hrj rfl (by omega)
    have hjc : (nI j).toNatClampNeg = j := nI_clamp (by omega)
    refine lv_aload_n hx hb dX4_weaves_22 rfl (lv_at hl 0 rfl) ?_
    refine lv_iload_n hx hb dX4_weaves_23 rfl (lv_at hl 2 rfl) ?_
    refine rcS (As := [.int p1]) (rest := [.ref h0]) (st1 := [.int (if inR p1 1 9 then 1 else 0), .ref h0]) (mX4_isMesh l g E ho p1) kX4_isMesh q2472 hx hb hml hown hts hRf hRl ho.1 hE hS (hP.sub [] rfl) ⟨Nat.zero_le _, Nat.zero_le _⟩ hl ⟨rfl, rfl⟩ rfl rfl (Nat.le_of_ble_eq_true rfl) rfl dX4_weaves_24 ?_
    refine h_ifne_b (tgt := 34) hx hb dX4_weaves_27 (by decide) (fun c_2 => ?_) (fun c_2 => ?_)
    · refine lv_iconst (v := 0) hx hb dX4_weaves_34 (by decide) ?_
      refine lv_iconst (v := 3) hx hb dX4_weaves_35 (by decide) ?_
      refine lv_iload_n hx hb dX4_weaves_36 rfl (lv_at hl 2 rfl) ?_
      refine rcV (As := [.int 0, .int 3, .int p1]) (rest := []) (st1 := [.int 0]) (mX4_isRefused0 l g E ho h0 a I F 3 p1) kX4_isRefused q2400 hx hb hml hown hts hRf hRl ho.1 hE hS hP (va_recv hK hP (ci := 0) (q0 := 0) rfl rfl) ⟨Nat.zero_le _, Nat.zero_le _⟩ hl ⟨rfl, rfl⟩ rfl rfl (Nat.le_of_ble_eq_true rfl) rfl dX4_weaves_37 ?_
      refine lv_if_eq (tgt := 45) hx hb dX4_weaves_40 (by decide) (fun _ => ?_) (fun c => absurd c (by decide))
      have hrq := c_2
      obtain ⟨q, hq1, hq2, rfl⟩ := inR_lit (a := 1) (b := 9) hrq rfl rfl (by decide) (by decide)
      have hqc : (nI q).toNatClampNeg = q := nI_clamp (by omega)
      refine lv_bipush (v := 40) hx hb dX4_weaves_45 (by decide) ?_
      refine lv_iload_n hx hb dX4_weaves_47 rfl (lv_at hl 2 rfl) ?_
      refine lv_imul hx hb dX4_weaves_48 ?_
      refine h_topi (v := nI (40 * q)) (h_nmul (a := 40) (b := q) (rfl) (rfl)) ?_
      refine lv_istore_n (lv' := [(3, .int (nI (40 * q))), (0, .ref h0), (1, .int (nI j)), (2, .int (nI q))]) hx hb dX4_weaves_49 rfl hl (by decide) rfl (fun ls hl => ?_)
      refine lv_aload_n hx hb dX4_weaves_50 rfl (lv_at hl 1 rfl) ?_
      refine lv_aload_n hx hb dX4_weaves_51 rfl (lv_at hl 1 rfl) ?_
      refine lv_iload_n hx hb dX4_weaves_52 rfl (lv_at hl 2 rfl) ?_
      refine lv_iconst (v := 1) hx hb dX4_weaves_53 (by decide) ?_
      refine rcV (As := [.int (nI j), .int 1]) (rest := [.ref h0]) (st1 := [.int (F 0 (73 + 4 * j + 1)), .ref h0]) (mX4_ofHank l g E ho h0 a I F j 1 (by omega)) kX4_ofHank q2453 hx hb hml hown hts hRf hRl ho.1 hE hS hP (va_recv hK hP (ci := 0) (q0 := 0) rfl rfl) ⟨Nat.zero_le _, Nat.zero_le _⟩ hl ⟨rfl, rfl⟩ rfl rfl (Nat.le_of_ble_eq_true rfl) rfl dX4_weaves_54 ?_
      refine lv_bipush (v := 50) hx hb dX4_weaves_57 (by decide) ?_
      refine lv_icmp_ge (tgt := 66) hx hb dX4_weaves_59 (by decide) (fun c_3 => ?_) (fun c_3 => ?_)
      · refine lv_iconst (v := 0) hx hb dX4_weaves_66 (by decide) ?_
        refine lv_bipush (v := 6) hx hb dX4_weaves_67 (by decide) ?_
        refine lv_bipush (v := 50) hx hb dX4_weaves_69 (by decide) ?_
        refine lv_aload_n hx hb dX4_weaves_71 rfl (lv_at hl 1 rfl) ?_
        refine lv_iload_n hx hb dX4_weaves_72 rfl (lv_at hl 2 rfl) ?_
        refine lv_iconst (v := 1) hx hb dX4_weaves_73 (by decide) ?_
        refine rcV (As := [.int (nI j), .int 1]) (rest := [.int 50, .int 6, .int 0, .ref h0]) (st1 := [.int (F 0 (73 + 4 * j + 1)), .int 50, .int 6, .int 0, .ref h0]) (mX4_ofHank l g E ho h0 a I F j 1 (by omega)) kX4_ofHank q2453 hx hb hml hown hts hRf hRl ho.1 hE hS hP (va_recv hK hP (ci := 0) (q0 := 0) rfl rfl) ⟨Nat.zero_le _, Nat.zero_le _⟩ hl ⟨rfl, rfl⟩ rfl rfl (Nat.le_of_ble_eq_true rfl) rfl dX4_weaves_74 ?_
        refine lv_isub hx hb dX4_weaves_77 ?_
        refine rcV (As := [.int 0, .int 6, .int (50 - (F 0 (73 + 4 * j + 1)))]) (rest := []) (st1 := [.int 0]) (mX4_isRefused0 l g E ho h0 a I F 6 (50 - (F 0 (73 + 4 * j + 1)))) kX4_isRefused q2400 hx hb hml hown hts hRf hRl ho.1 hE hS hP (va_recv hK hP (ci := 0) (q0 := 0) rfl rfl) ⟨Nat.zero_le _, Nat.zero_le _⟩ hl ⟨rfl, rfl⟩ rfl rfl (Nat.le_of_ble_eq_true rfl) rfl dX4_weaves_78 ?_
        refine lv_if_ne (tgt := 142) hx hb dX4_weaves_81 (by decide) (fun c => absurd c (by decide)) (fun _ => ?_)
        refine lv_aload_n hx hb dX4_weaves_84 rfl (lv_at hl 1 rfl) ?_
        refine lv_aload_n hx hb dX4_weaves_85 rfl (lv_at hl 1 rfl) ?_
        refine lv_iload_n hx hb dX4_weaves_86 rfl (lv_at hl 2 rfl) ?_
        refine lv_iconst (v := 2) hx hb dX4_weaves_87 (by decide) ?_
        refine rcV (As := [.int (nI j), .int 2]) (rest := [.ref h0]) (st1 := [.int (F 0 (73 + 4 * j + 2)), .ref h0]) (mX4_ofHank l g E ho h0 a I F j 2 (by omega)) kX4_ofHank q2453 hx hb hml hown hts hRf hRl ho.1 hE hS hP (va_recv hK hP (ci := 0) (q0 := 0) rfl rfl) ⟨Nat.zero_le _, Nat.zero_le _⟩ hl ⟨rfl, rfl⟩ rfl rfl (Nat.le_of_ble_eq_true rfl) rfl dX4_weaves_88 ?_
        refine lv_iload_n hx hb dX4_weaves_91 rfl (lv_at hl 0 rfl) ?_
        refine lv_icmp_ge (tgt := 99) hx hb dX4_weaves_92 (by decide) (fun c_4 => ?_) (fun c_4 => ?_)
        · refine lv_iconst (v := 0) hx hb dX4_weaves_99 (by decide) ?_
          refine lv_iconst (v := 5) hx hb dX4_weaves_100 (by decide) ?_
          refine lv_aload_n hx hb dX4_weaves_101 rfl (lv_at hl 1 rfl) ?_
          refine lv_iload_n hx hb dX4_weaves_102 rfl (lv_at hl 2 rfl) ?_
          refine lv_iconst (v := 2) hx hb dX4_weaves_103 (by decide) ?_
          refine rcV (As := [.int (nI j), .int 2]) (rest := [.int 5, .int 0, .ref h0]) (st1 := [.int (F 0 (73 + 4 * j + 2)), .int 5, .int 0, .ref h0]) (mX4_ofHank l g E ho h0 a I F j 2 (by omega)) kX4_ofHank q2453 hx hb hml hown hts hRf hRl ho.1 hE hS hP (va_recv hK hP (ci := 0) (q0 := 0) rfl rfl) ⟨Nat.zero_le _, Nat.zero_le _⟩ hl ⟨rfl, rfl⟩ rfl rfl (Nat.le_of_ble_eq_true rfl) rfl dX4_weaves_104 ?_
          refine rcV (As := [.int 0, .int 5, .int (F 0 (73 + 4 * j + 2))]) (rest := []) (st1 := [.int 0]) (mX4_isRefused0 l g E ho h0 a I F 5 (F 0 (73 + 4 * j + 2))) kX4_isRefused q2400 hx hb hml hown hts hRf hRl ho.1 hE hS hP (va_recv hK hP (ci := 0) (q0 := 0) rfl rfl) ⟨Nat.zero_le _, Nat.zero_le _⟩ hl ⟨rfl, rfl⟩ rfl rfl (Nat.le_of_ble_eq_true rfl) rfl dX4_weaves_107 ?_
          refine lv_if_ne (tgt := 142) hx hb dX4_weaves_110 (by decide) (fun c => absurd c (by decide)) (fun _ => ?_)
          refine lv_aload_n hx hb dX4_weaves_113 rfl (lv_at hl 1 rfl) ?_
          refine lv_aload_n hx hb dX4_weaves_114 rfl (lv_at hl 1 rfl) ?_
          refine va_get (D := gD g) (ci := 0) (v := .ref (a 0)) (C := RX4) (T := TX4) (N := 21) hx hb hts in_X4 hown hK hP 0 rfl rfl 0 (by decide) (hts _ q2314) (fun _ h9 => h9) rfl dX4_weaves_115 ?_
          refine lv_bipush (v := 18) hx hb dX4_weaves_118 (by decide) ?_
          refine lv_iload_n hx hb dX4_weaves_120 rfl (lv_at hl 3 rfl) ?_
          refine lv_iadd hx hb dX4_weaves_121 ?_
          refine h_topi (v := nI (18 + q)) (h_nadd (a := 18) (b := q) (rfl) (rfl)) ?_
          refine h_iald (f := (F 0)) hx hb hK hP 1 0 rfl rfl (18 + q) rfl (by omega) (by decide) dX4_weaves_122 ?_
          refine lv_bipush (v := 20) hx hb dX4_weaves_123 (by decide) ?_
          refine lv_icmp_ne (tgt := 132) hx hb dX4_weaves_125 (by decide) (fun c_5 => ?_) (fun c_5 => ?_)
          · refine lv_iconst (v := 0) hx hb dX4_weaves_132 (by decide) ?_
            refine lv_iconst (v := 1) hx hb dX4_weaves_133 (by decide) ?_
            refine lv_bipush (v := 20) hx hb dX4_weaves_134 (by decide) ?_
            refine rcV (As := [.int 0, .int 1, .int 20]) (rest := []) (st1 := [.int 0]) (mX4_isRefused0 l g E ho h0 a I F 1 20) kX4_isRefused q2400 hx hb hml hown hts hRf hRl ho.1 hE hS hP (va_recv hK hP (ci := 0) (q0 := 0) rfl rfl) ⟨Nat.zero_le _, Nat.zero_le _⟩ hl ⟨rfl, rfl⟩ rfl rfl (Nat.le_of_ble_eq_true rfl) rfl dX4_weaves_136 ?_
            refine lv_if_eq (tgt := 144) hx hb dX4_weaves_139 (by decide) (fun _ => ?_) (fun c => absurd c (by decide))
            refine lv_aload_n hx hb dX4_weaves_144 rfl (lv_at hl 1 rfl) ?_
            refine lv_iload_n hx hb dX4_weaves_145 rfl (lv_at hl 2 rfl) ?_
            refine lv_iload_n hx hb dX4_weaves_146 rfl (lv_at hl 0 rfl) ?_
            refine mcV (As := [.int (nI j), .int (nI (40 * q))]) (rest := []) (wr := []) (mX4_loses l g E ho h0 a I F j (nI (40 * q)) nt nh nb nc tw (⟨by show (F 0) 2 = _; exact htw, htw6, by show (F 0) 3 = _; exact ht, ht10, by show (F 0) 4 = _; exact hh, hh20, by show (F 0) 5 = _; exact hb6, hb6l, by show (F 0) 6 = _; exact hk5, hk5l⟩) (by omega)) kX4_loses q2475 hx hb hml hown hts hRf hRl ho.1 hE hS hP hD hA [0, 1, 2, 3, 4, 5, 6, 7, 8] [] rfl (by decide) rfl (by decide) (by decide) ⟨Nat.zero_le _, Nat.zero_le _⟩ (va_recv hK hP (ci := 0) (q0 := 0) rfl rfl) hl ⟨rfl, rfl⟩ rfl rfl (Nat.le_of_ble_eq_true rfl) dX4_weaves_147 (fun _ H locs _ hP hD hS _ _ => ?_)
            have hP : va_P (gD g) Cl (mW g h0 a I (va_up F 0 (loseS (F 0) j nh (nI (40 * q))))) H := hP
            have hD : va_D A (mW g h0 a I (va_up F 0 (loseS (F 0) j nh (nI (40 * q))))) := hD
            refine lv_aload_n hx hb dX4_weaves_150 rfl (lv_at hl 1 rfl) ?_
            refine va_get (D := gD g) (ci := 0) (v := .ref (a 0)) (C := RX4) (T := TX4) (N := 21) hx hb hts in_X4 hown hK hP 0 rfl rfl 0 (by decide) (hts _ q2314) (fun _ h9 => h9) rfl dX4_weaves_151 ?_
            refine lv_bipush (v := 9) hx hb dX4_weaves_154 (by decide) ?_
            refine lv_dup2_11 hx hb dX4_weaves_156 rfl rfl ?_
            refine h_iald (f := (loseS (F 0) j nh (nI (40 * q)))) hx hb hK hP 1 0 rfl rfl 9 rfl (by decide) (by decide) dX4_weaves_157 ?_
            refine lv_iload_n hx hb dX4_weaves_158 rfl (lv_at hl 0 rfl) ?_
            refine lv_iadd hx hb dX4_weaves_159 ?_
            refine h_iast (f := (loseS (F 0) j nh (nI (40 * q)))) hx hb hK hP hD hS 1 0 rfl rfl 9 rfl (by decide) (by decide) dX4_weaves_160 (fun H locs hP hD hS => ?_)
            have hP : va_P (gD g) Cl (mW g h0 a I (va_up F 0 (upd (loseS (F 0) j nh (nI (40 * q))) 9 (((loseS (F 0) j nh (nI (40 * q))) 9) + (nI (40 * q)))))) H := hP
            have hD : va_D A (mW g h0 a I (va_up F 0 (upd (loseS (F 0) j nh (nI (40 * q))) 9 (((loseS (F 0) j nh (nI (40 * q))) 9) + (nI (40 * q)))))) := hD
            refine lv_aload_n hx hb dX4_weaves_161 rfl (lv_at hl 1 rfl) ?_
            refine va_get (D := gD g) (ci := 0) (v := .ref (a 0)) (C := RX4) (T := TX4) (N := 21) hx hb hts in_X4 hown hK hP 0 rfl rfl 0 (by decide) (hts _ q2314) (fun _ h9 => h9) rfl dX4_weaves_162 ?_
            refine lv_bipush (v := 18) hx hb dX4_weaves_165 (by decide) ?_
            refine lv_iload_n hx hb dX4_weaves_167 rfl (lv_at hl 3 rfl) ?_
            refine lv_iadd hx hb dX4_weaves_168 ?_
            refine h_topi (v := nI (18 + q)) (h_nadd (a := 18) (b := q) (rfl) (rfl)) ?_
            refine lv_dup2_11 hx hb dX4_weaves_169 rfl rfl ?_
            refine h_iald (f := (upd (loseS (F 0) j nh (nI (40 * q))) 9 (((loseS (F 0) j nh (nI (40 * q))) 9) + (nI (40 * q))))) hx hb hK hP 1 0 rfl rfl (18 + q) rfl (by omega) (by decide) dX4_weaves_170 ?_
            refine h_topi (v := (loseS (F 0) j nh (nI (40 * q))) (18 + q)) (by rw [pk_un (by omega)]) ?_
            refine lv_iconst (v := 1) hx hb dX4_weaves_171 (by decide) ?_
            refine lv_iadd hx hb dX4_weaves_172 ?_
            refine h_iast (f := (upd (loseS (F 0) j nh (nI (40 * q))) 9 (((loseS (F 0) j nh (nI (40 * q))) 9) + (nI (40 * q))))) hx hb hK hP hD hS 1 0 rfl rfl (18 + q) rfl (by omega) (by decide) dX4_weaves_173 (fun H locs hP hD hS => ?_)
            have hP : va_P (gD g) Cl (mW g h0 a I (va_up F 0 (upd (upd (loseS (F 0) j nh (nI (40 * q))) 9 (((loseS (F 0) j nh (nI (40 * q))) 9) + (nI (40 * q)))) (18 + q) (((loseS (F 0) j nh (nI (40 * q))) (18 + q)) + 1)))) H := hP
            have hD : va_D A (mW g h0 a I (va_up F 0 (upd (upd (loseS (F 0) j nh (nI (40 * q))) 9 (((loseS (F 0) j nh (nI (40 * q))) 9) + (nI (40 * q)))) (18 + q) (((loseS (F 0) j nh (nI (40 * q))) (18 + q)) + 1)))) := hD
            refine lv_aload_n hx hb dX4_weaves_174 rfl (lv_at hl 1 rfl) ?_
            refine va_get (D := gD g) (ci := 0) (v := .ref (a 0)) (C := RX4) (T := TX4) (N := 21) hx hb hts in_X4 hown hK hP 0 rfl rfl 0 (by decide) (hts _ q2314) (fun _ h9 => h9) rfl dX4_weaves_175 ?_
            refine lv_bipush (v := 18) hx hb dX4_weaves_178 (by decide) ?_
            refine lv_iload_n hx hb dX4_weaves_180 rfl (lv_at hl 3 rfl) ?_
            refine lv_iadd hx hb dX4_weaves_181 ?_
            refine h_topi (v := nI (18 + q)) (h_nadd (a := 18) (b := q) (rfl) (rfl)) ?_
            refine h_iald (f := (upd (upd (loseS (F 0) j nh (nI (40 * q))) 9 (((loseS (F 0) j nh (nI (40 * q))) 9) + (nI (40 * q)))) (18 + q) (((loseS (F 0) j nh (nI (40 * q))) (18 + q)) + 1))) hx hb hK hP 1 0 rfl rfl (18 + q) rfl (by omega) (by decide) dX4_weaves_182 ?_
            refine h_topi (v := ((loseS (F 0) j nh (nI (40 * q))) (18 + q)) + 1) (by rw [pk_us]) ?_
            have hop : opWeave (F 0) (nI j) (nI q) = (0, 0, ((loseS (F 0) j nh (nI (40 * q))) (18 + q)) + 1, (upd (upd (loseS (F 0) j nh (nI (40 * q))) 9 (((loseS (F 0) j nh (nI (40 * q))) 9) + (nI (40 * q)))) (18 + q) (((loseS (F 0) j nh (nI (40 * q))) (18 + q)) + 1))) := by simp only [htw, htwc, ht, htc, hh, hhc, hb6, hbc, hk5, hkc, opWeave, opWeaveN, hjc, hqc, eq_true c_1, eq_true c_2, eq_true c_3, eq_false (Int32.not_lt.mpr c_3), eq_true c_4, eq_false (Int32.not_lt.mpr c_4), eq_false c_5, if_true, if_false, not_true_eq_false, not_false_eq_true, ite_true, ite_false, reduceIte, Nat.add_zero, Nat.add_sub_cancel]
            have hW1 : (mW g h0 a I (va_up F 0 (upd (upd (loseS (F 0) j nh (nI (40 * q))) 9 (((loseS (F 0) j nh (nI (40 * q))) 9) + (nI (40 * q)))) (18 + q) (((loseS (F 0) j nh (nI (40 * q))) (18 + q)) + 1)))) = mW g h0 a (opI I (opWeave (F 0) (nI j) (nI q))) (va_up F 0 (opWeave (F 0) (nI j) (nI q)).2.2.2) := by
              rw [hop]
              first | rfl | (simp only [opI, hup_id]; rfl)
            rw [hW1] at hP hD
            exact hm_i hQ hx hb hr hlk rfl () (by rw [hop]) trivial hP hD hS (by decide) (by decide) dX4_weaves_183
          refine lv_iconst (v := 1) hx hb dX4_weaves_128 (by decide) ?_
          refine lv_goto (tgt := 133) hx hb dX4_weaves_129 (by decide) ?_
          refine lv_iconst (v := 1) hx hb dX4_weaves_133 (by decide) ?_
          refine lv_bipush (v := 20) hx hb dX4_weaves_134 (by decide) ?_
          refine mcV (As := [.int 1, .int 1, .int 20]) (rest := []) (wr := []) (mX4_isRefused1 l g E ho h0 a I F 1 20) kX4_isRefused q2400 hx hb hml hown hts hRf hRl ho.1 hE hS hP hD hA [0, 1, 2, 3, 4, 5, 6, 7, 8] [] rfl (by decide) rfl (by decide) (by decide) ⟨Nat.zero_le _, Nat.zero_le _⟩ (va_recv hK hP (ci := 0) (q0 := 0) rfl rfl) hl ⟨rfl, rfl⟩ rfl rfl (Nat.le_of_ble_eq_true rfl) dX4_weaves_136 (fun _ H locs _ hP hD hS _ _ => ?_)
          have hP : va_P (gD g) Cl (mW g h0 a (refI I 1 20) F) H := hP
          have hD : va_D A (mW g h0 a (refI I 1 20) F) := hD
          refine lv_if_eq (tgt := 144) hx hb dX4_weaves_139 (by decide) (fun c => absurd c (by decide)) (fun _ => ?_)
          refine lv_iconst (v := 0) hx hb dX4_weaves_142 (by decide) ?_
          have hop : opWeave (F 0) (nI j) (nI q) = (1, 20, 0, F 0) := by simp only [htw, htwc, ht, htc, hh, hhc, hb6, hbc, hk5, hkc, opWeave, opWeaveN, hjc, hqc, eq_true c_1, eq_true c_2, eq_true c_3, eq_false (Int32.not_lt.mpr c_3), eq_true c_4, eq_false (Int32.not_lt.mpr c_4), eq_true c_5, if_true, if_false, not_true_eq_false, not_false_eq_true, ite_true, ite_false, reduceIte, Nat.add_zero, Nat.add_sub_cancel]
          have hW1 : (mW g h0 a (refI I 1 20) F) = mW g h0 a (opI I (opWeave (F 0) (nI j) (nI q))) (va_up F 0 (opWeave (F 0) (nI j) (nI q)).2.2.2) := by
            rw [hop]
            first | rfl | (simp only [opI, hup_id]; rfl)
          rw [hW1] at hP hD
          exact hm_i hQ hx hb hr hlk rfl () (by rw [hop]) trivial hP hD hS (by decide) (by decide) dX4_weaves_143
        refine lv_iconst (v := 1) hx hb dX4_weaves_95 (by decide) ?_
        refine lv_goto (tgt := 100) hx hb dX4_weaves_96 (by decide) ?_
        refine lv_iconst (v := 5) hx hb dX4_weaves_100 (by decide) ?_
        refine lv_aload_n hx hb dX4_weaves_101 rfl (lv_at hl 1 rfl) ?_
        refine lv_iload_n hx hb dX4_weaves_102 rfl (lv_at hl 2 rfl) ?_
        refine lv_iconst (v := 2) hx hb dX4_weaves_103 (by decide) ?_
        refine rcV (As := [.int (nI j), .int 2]) (rest := [.int 5, .int 1, .ref h0]) (st1 := [.int (F 0 (73 + 4 * j + 2)), .int 5, .int 1, .ref h0]) (mX4_ofHank l g E ho h0 a I F j 2 (by omega)) kX4_ofHank q2453 hx hb hml hown hts hRf hRl ho.1 hE hS hP (va_recv hK hP (ci := 0) (q0 := 0) rfl rfl) ⟨Nat.zero_le _, Nat.zero_le _⟩ hl ⟨rfl, rfl⟩ rfl rfl (Nat.le_of_ble_eq_true rfl) rfl dX4_weaves_104 ?_
        refine mcV (As := [.int 1, .int 5, .int (F 0 (73 + 4 * j + 2))]) (rest := []) (wr := []) (mX4_isRefused1 l g E ho h0 a I F 5 (F 0 (73 + 4 * j + 2))) kX4_isRefused q2400 hx hb hml hown hts hRf hRl ho.1 hE hS hP hD hA [0, 1, 2, 3, 4, 5, 6, 7, 8] [] rfl (by decide) rfl (by decide) (by decide) ⟨Nat.zero_le _, Nat.zero_le _⟩ (va_recv hK hP (ci := 0) (q0 := 0) rfl rfl) hl ⟨rfl, rfl⟩ rfl rfl (Nat.le_of_ble_eq_true rfl) dX4_weaves_107 (fun _ H locs _ hP hD hS _ _ => ?_)
        have hP : va_P (gD g) Cl (mW g h0 a (refI I 5 (F 0 (73 + 4 * j + 2))) F) H := hP
        have hD : va_D A (mW g h0 a (refI I 5 (F 0 (73 + 4 * j + 2))) F) := hD
        refine lv_if_ne (tgt := 142) hx hb dX4_weaves_110 (by decide) (fun _ => ?_) (fun c => absurd c (by decide))
        refine lv_iconst (v := 0) hx hb dX4_weaves_142 (by decide) ?_
        have hop : opWeave (F 0) (nI j) (nI q) = (5, (F 0 (73 + 4 * j + 2)), 0, F 0) := by simp only [htw, htwc, ht, htc, hh, hhc, hb6, hbc, hk5, hkc, opWeave, opWeaveN, hjc, hqc, eq_true c_1, eq_true c_2, eq_true c_3, eq_false (Int32.not_lt.mpr c_3), eq_false c_4, eq_true (Int32.not_le.mp c_4), if_true, if_false, not_true_eq_false, not_false_eq_true, ite_true, ite_false, reduceIte, Nat.add_zero, Nat.add_sub_cancel]
        have hW1 : (mW g h0 a (refI I 5 (F 0 (73 + 4 * j + 2))) F) = mW g h0 a (opI I (opWeave (F 0) (nI j) (nI q))) (va_up F 0 (opWeave (F 0) (nI j) (nI q)).2.2.2) := by
          rw [hop]
          first | rfl | (simp only [opI, hup_id]; rfl)
        rw [hW1] at hP hD
        exact hm_i hQ hx hb hr hlk rfl () (by rw [hop]) trivial hP hD hS (by decide) (by decide) dX4_weaves_143
      refine lv_iconst (v := 1) hx hb dX4_weaves_62 (by decide) ?_
      refine lv_goto (tgt := 67) hx hb dX4_weaves_63 (by decide) ?_
      refine lv_bipush (v := 6) hx hb dX4_weaves_67 (by decide) ?_
      refine lv_bipush (v := 50) hx hb dX4_weaves_69 (by decide) ?_
      refine lv_aload_n hx hb dX4_weaves_71 rfl (lv_at hl 1 rfl) ?_
      refine lv_iload_n hx hb dX4_weaves_72 rfl (lv_at hl 2 rfl) ?_
      refine lv_iconst (v := 1) hx hb dX4_weaves_73 (by decide) ?_
      refine rcV (As := [.int (nI j), .int 1]) (rest := [.int 50, .int 6, .int 1, .ref h0]) (st1 := [.int (F 0 (73 + 4 * j + 1)), .int 50, .int 6, .int 1, .ref h0]) (mX4_ofHank l g E ho h0 a I F j 1 (by omega)) kX4_ofHank q2453 hx hb hml hown hts hRf hRl ho.1 hE hS hP (va_recv hK hP (ci := 0) (q0 := 0) rfl rfl) ⟨Nat.zero_le _, Nat.zero_le _⟩ hl ⟨rfl, rfl⟩ rfl rfl (Nat.le_of_ble_eq_true rfl) rfl dX4_weaves_74 ?_
      refine lv_isub hx hb dX4_weaves_77 ?_
      refine mcV (As := [.int 1, .int 6, .int (50 - (F 0 (73 + 4 * j + 1)))]) (rest := []) (wr := []) (mX4_isRefused1 l g E ho h0 a I F 6 (50 - (F 0 (73 + 4 * j + 1)))) kX4_isRefused q2400 hx hb hml hown hts hRf hRl ho.1 hE hS hP hD hA [0, 1, 2, 3, 4, 5, 6, 7, 8] [] rfl (by decide) rfl (by decide) (by decide) ⟨Nat.zero_le _, Nat.zero_le _⟩ (va_recv hK hP (ci := 0) (q0 := 0) rfl rfl) hl ⟨rfl, rfl⟩ rfl rfl (Nat.le_of_ble_eq_true rfl) dX4_weaves_78 (fun _ H locs _ hP hD hS _ _ => ?_)
      have hP : va_P (gD g) Cl (mW g h0 a (refI I 6 (50 - (F 0 (73 + 4 * j + 1)))) F) H := hP
      have hD : va_D A (mW g h0 a (refI I 6 (50 - (F 0 (73 + 4 * j + 1)))) F) := hD
      refine lv_if_ne (tgt := 142) hx hb dX4_weaves_81 (by decide) (fun _ => ?_) (fun c => absurd c (by decide))
      refine lv_iconst (v := 0) hx hb dX4_weaves_142 (by decide) ?_
      have hop : opWeave (F 0) (nI j) (nI q) = (6, (50 - (F 0 (73 + 4 * j + 1))), 0, F 0) := by simp only [htw, htwc, ht, htc, hh, hhc, hb6, hbc, hk5, hkc, opWeave, opWeaveN, hjc, hqc, eq_true c_1, eq_true c_2, eq_false c_3, eq_true (Int32.not_le.mp c_3), if_true, if_false, not_true_eq_false, not_false_eq_true, ite_true, ite_false, reduceIte, Nat.add_zero, Nat.add_sub_cancel]
      have hW1 : (mW g h0 a (refI I 6 (50 - (F 0 (73 + 4 * j + 1)))) F) = mW g h0 a (opI I (opWeave (F 0) (nI j) (nI q))) (va_up F 0 (opWeave (F 0) (nI j) (nI q)).2.2.2) := by
        rw [hop]
        first | rfl | (simp only [opI, hup_id]; rfl)
      rw [hW1] at hP hD
      exact hm_i hQ hx hb hr hlk rfl () (by rw [hop]) trivial hP hD hS (by decide) (by decide) dX4_weaves_143
    refine lv_iconst (v := 1) hx hb dX4_weaves_30 (by decide) ?_
    refine lv_goto (tgt := 35) hx hb dX4_weaves_31 (by decide) ?_
    refine lv_iconst (v := 3) hx hb dX4_weaves_35 (by decide) ?_
    refine lv_iload_n hx hb dX4_weaves_36 rfl (lv_at hl 2 rfl) ?_
    refine mcV (As := [.int 1, .int 3, .int p1]) (rest := []) (wr := []) (mX4_isRefused1 l g E ho h0 a I F 3 p1) kX4_isRefused q2400 hx hb hml hown hts hRf hRl ho.1 hE hS hP hD hA [0, 1, 2, 3, 4, 5, 6, 7, 8] [] rfl (by decide) rfl (by decide) (by decide) ⟨Nat.zero_le _, Nat.zero_le _⟩ (va_recv hK hP (ci := 0) (q0 := 0) rfl rfl) hl ⟨rfl, rfl⟩ rfl rfl (Nat.le_of_ble_eq_true rfl) dX4_weaves_37 (fun _ H locs _ hP hD hS _ _ => ?_)
    have hP : va_P (gD g) Cl (mW g h0 a (refI I 3 p1) F) H := hP
    have hD : va_D A (mW g h0 a (refI I 3 p1) F) := hD
    refine lv_if_eq (tgt := 45) hx hb dX4_weaves_40 (by decide) (fun c => absurd c (by decide)) (fun _ => ?_)
    refine lv_iconst (v := 0) hx hb dX4_weaves_43 (by decide) ?_
    have hop : opWeave (F 0) (nI j) p1 = (3, p1, 0, F 0) := by simp only [htw, htwc, ht, htc, hh, hhc, hb6, hbc, hk5, hkc, opWeave, opWeaveN, hjc, eq_true c_1, eq_false c_2, if_true, if_false, not_true_eq_false, not_false_eq_true, ite_true, ite_false, reduceIte, Nat.add_zero, Nat.add_sub_cancel]
    have hW1 : (mW g h0 a (refI I 3 p1) F) = mW g h0 a (opI I (opWeave (F 0) (nI j) p1)) (va_up F 0 (opWeave (F 0) (nI j) p1).2.2.2) := by
      rw [hop]
      first | rfl | (simp only [opI, hup_id]; rfl)
    rw [hW1] at hP hD
    exact hm_i hQ hx hb hr hlk rfl () (by rw [hop]) trivial hP hD hS (by decide) (by decide) dX4_weaves_44
  rw [hh] at c_1
  refine lv_iconst (v := 1) hx hb dX4_weaves_9 (by decide) ?_
  refine lv_goto (tgt := 14) hx hb dX4_weaves_10 (by decide) ?_
  refine lv_iconst (v := 2) hx hb dX4_weaves_14 (by decide) ?_
  refine lv_iload_n hx hb dX4_weaves_15 rfl (lv_at hl 1 rfl) ?_
  refine mcV (As := [.int 1, .int 2, .int p0]) (rest := []) (wr := []) (mX4_isRefused1 l g E ho h0 a I F 2 p0) kX4_isRefused q2400 hx hb hml hown hts hRf hRl ho.1 hE hS hP hD hA [0, 1, 2, 3, 4, 5, 6, 7, 8] [] rfl (by decide) rfl (by decide) (by decide) ⟨Nat.zero_le _, Nat.zero_le _⟩ (va_recv hK hP (ci := 0) (q0 := 0) rfl rfl) hl ⟨rfl, rfl⟩ rfl rfl (Nat.le_of_ble_eq_true rfl) dX4_weaves_16 (fun _ H locs _ hP hD hS _ _ => ?_)
  have hP : va_P (gD g) Cl (mW g h0 a (refI I 2 p0) F) H := hP
  have hD : va_D A (mW g h0 a (refI I 2 p0) F) := hD
  refine lv_if_ne (tgt := 43) hx hb dX4_weaves_19 (by decide) (fun _ => ?_) (fun c => absurd c (by decide))
  refine lv_iconst (v := 0) hx hb dX4_weaves_43 (by decide) ?_
  have hop : opWeave (F 0) p0 p1 = (2, p0, 0, F 0) := by simp only [htw, htwc, ht, htc, hh, hhc, hb6, hbc, hk5, hkc, opWeave, opWeaveN, eq_false c_1, if_true, if_false, not_true_eq_false, not_false_eq_true, ite_true, ite_false, reduceIte, Nat.add_zero, Nat.add_sub_cancel]
  have hW1 : (mW g h0 a (refI I 2 p0) F) = mW g h0 a (opI I (opWeave (F 0) p0 p1)) (va_up F 0 (opWeave (F 0) p0 p1).2.2.2) := by
    rw [hop]
    first | rfl | (simp only [opI, hup_id]; rfl)
  rw [hW1] at hP hD
  exact hm_i hQ hx hb hr hlk rfl () (by rw [hop]) trivial hP hD hS (by decide) (by decide) dX4_weaves_44
