/-! THE REFERENCE: the orders -/
set_option maxRecDepth 100000
theorem kX4_tail : hkV RX4 yX4_tail cX4_tail 5 (some .int) 3 := ⟨q2383, q2384, q78, q2385, rfl, by decide +kernel⟩
set_option maxHeartbeats 4000000 in
theorem mX4_tail (l : Launch) (g : hG) (E : hEnv) (ho : mOk g E) (h0 : Nat) (a : Nat → Nat) (I : Nat → Int32) (F : Nat → Nat → Int32) (p0 : Int32) (p1 : Int32) (p2 : Int32) (nt : Nat) (nh : Nat) (nb : Nat) (nc : Nat) (tw : Nat) (n : Nat) (hc : Cn (F 0) nt nh nb nc tw) (hn : I 0 = nI n) (hn8 : n ≤ 8) : MM l yX4_tail cX4_tail 5 (some .int) 3 66 0 0 [.ref h0, .int p0, .int p1, .int p2] g E (mW g h0 a I F) (S := Unit) (fun _ => (some (.int ((opTail (F 0) p0 p1 p2).2.2.1)))) (fun _ => True) (fun _ => mW g h0 a (pubI I n (opTail (F 0) p0 p1 p2)) (pubF F n (opTail (F 0) p0 p1 p2))) := by
  refine MM.mk (by decide) (Nat.le_of_ble_eq_true rfl) ?_
  intro p e R s m args below meth c Q A H locs ls hX hRc hRs hP hD hE hS hA hnm hl hQ
  obtain ⟨hx, hb, hr, hlk, hml, hown, hts, hRf, hRl⟩ := hX
  have hown : s.vm.findClass RX4 = some m.cls := hown
  have hK := ho.2 _ _ _ hE
  have hl : lv_has ls 5 [(0, .ref h0), (1, .int p0), (2, .int p1), (3, .int p2)] := hl
  have hc0 := hc
  obtain ⟨htw, htw6, ht, ht10, hh, hh20, hb6, hb6l, hk5, hk5l⟩ := hc
  have htc : (nI nt).toNatClampNeg = nt := nI_clamp (by omega)
  have hhc : (nI nh).toNatClampNeg = nh := nI_clamp (by omega)
  have hbc : (nI nb).toNatClampNeg = nb := nI_clamp (by omega)
  have hkc : (nI nc).toNatClampNeg = nc := nI_clamp (by omega)
  have htwc : (nI tw).toNatClampNeg = tw := nI_clamp (by omega)
  refine lv_aload_n hx hb dX4_tail_0 rfl (lv_at hl 0 rfl) ?_
  refine mcV (As := []) (rest := []) (wr := []) (mX4_begins l g E ho h0 a I F) kX4_begins q2386 hx hb hml hown hts hRf hRl ho.1 hE hS hP hD hA [0, 1, 2, 3, 4, 5, 6, 7, 8] [] rfl (by decide) rfl (by decide) (by decide) ⟨Nat.zero_le _, Nat.zero_le _⟩ (va_recv hK hP (ci := 0) (q0 := 0) rfl rfl) hl ⟨rfl, rfl⟩ rfl rfl (Nat.le_of_ble_eq_true rfl) dX4_tail_1 (fun _ H locs _ hP hD hS _ _ => ?_)
  have hP : va_P (gD g) Cl (mW g h0 a (upd (upd I 5 0) 1 0) (va_up F 1 (va_cpy (F 0) (F 1) 0 0 195))) H := hP
  have hD : va_D A (mW g h0 a (upd (upd I 5 0) 1 0) (va_up F 1 (va_cpy (F 0) (F 1) 0 0 195))) := hD
  refine lv_aload_n hx hb dX4_tail_4 rfl (lv_at hl 0 rfl) ?_
  refine lv_iload_n hx hb dX4_tail_5 rfl (lv_at hl 1 rfl) ?_
  refine lv_iconst (v := 0) hx hb dX4_tail_6 (by decide) ?_
  refine lv_iconst (v := 2) hx hb dX4_tail_7 (by decide) ?_
  refine rcS (As := [.int p0, .int 0, .int 2]) (rest := [.ref h0]) (st1 := [.int (if inR p0 0 2 then 1 else 0), .ref h0]) (mX4_isIn l g E ho p0 0 2) kX4_isIn q2397 hx hb hml hown hts hRf hRl ho.1 hE hS (hP.sub [] rfl) ⟨Nat.zero_le _, Nat.zero_le _⟩ hl ⟨rfl, rfl⟩ rfl rfl (Nat.le_of_ble_eq_true rfl) rfl dX4_tail_8 ?_
  refine h_ifne_b (tgt := 18) hx hb dX4_tail_11 (by decide) (fun c_1 => ?_) (fun c_1 => ?_)
  · refine lv_iconst (v := 0) hx hb dX4_tail_18 (by decide) ?_
    refine lv_iconst (v := 3) hx hb dX4_tail_19 (by decide) ?_
    refine lv_iload_n hx hb dX4_tail_20 rfl (lv_at hl 1 rfl) ?_
    refine rcV (As := [.int 0, .int 3, .int p0]) (rest := []) (st1 := [.int 0]) (mX4_isRefused0 l g E ho h0 a (upd (upd I 5 0) 1 0) (va_up F 1 (va_cpy (F 0) (F 1) 0 0 195)) 3 p0) kX4_isRefused q2400 hx hb hml hown hts hRf hRl ho.1 hE hS hP (va_recv hK hP (ci := 0) (q0 := 0) rfl rfl) ⟨Nat.zero_le _, Nat.zero_le _⟩ hl ⟨rfl, rfl⟩ rfl rfl (Nat.le_of_ble_eq_true rfl) rfl dX4_tail_21 ?_
    refine lv_if_ne (tgt := 128) hx hb dX4_tail_24 (by decide) (fun c => absurd c (by decide)) (fun _ => ?_)
    refine lv_aload_n hx hb dX4_tail_27 rfl (lv_at hl 0 rfl) ?_
    refine lv_iload_n hx hb dX4_tail_28 rfl (lv_at hl 2 rfl) ?_
    refine lv_bipush (v := 40) hx hb dX4_tail_29 (by decide) ?_
    refine lv_bipush (v := 100) hx hb dX4_tail_31 (by decide) ?_
    refine rcS (As := [.int p1, .int 40, .int 100]) (rest := [.ref h0]) (st1 := [.int (if inR p1 40 100 then 1 else 0), .ref h0]) (mX4_isIn l g E ho p1 40 100) kX4_isIn q2397 hx hb hml hown hts hRf hRl ho.1 hE hS (hP.sub [] rfl) ⟨Nat.zero_le _, Nat.zero_le _⟩ hl ⟨rfl, rfl⟩ rfl rfl (Nat.le_of_ble_eq_true rfl) rfl dX4_tail_33 ?_
    refine h_ifne_b (tgt := 43) hx hb dX4_tail_36 (by decide) (fun c_2 => ?_) (fun c_2 => ?_)
    · refine lv_iconst (v := 0) hx hb dX4_tail_43 (by decide) ?_
      refine lv_iconst (v := 3) hx hb dX4_tail_44 (by decide) ?_
      refine lv_iload_n hx hb dX4_tail_45 rfl (lv_at hl 2 rfl) ?_
      refine rcV (As := [.int 0, .int 3, .int p1]) (rest := []) (st1 := [.int 0]) (mX4_isRefused0 l g E ho h0 a (upd (upd I 5 0) 1 0) (va_up F 1 (va_cpy (F 0) (F 1) 0 0 195)) 3 p1) kX4_isRefused q2400 hx hb hml hown hts hRf hRl ho.1 hE hS hP (va_recv hK hP (ci := 0) (q0 := 0) rfl rfl) ⟨Nat.zero_le _, Nat.zero_le _⟩ hl ⟨rfl, rfl⟩ rfl rfl (Nat.le_of_ble_eq_true rfl) rfl dX4_tail_46 ?_
      refine lv_if_ne (tgt := 128) hx hb dX4_tail_49 (by decide) (fun c => absurd c (by decide)) (fun _ => ?_)
      refine lv_aload_n hx hb dX4_tail_52 rfl (lv_at hl 0 rfl) ?_
      refine lv_iload_n hx hb dX4_tail_53 rfl (lv_at hl 3 rfl) ?_
      refine lv_bipush (v := 50) hx hb dX4_tail_54 (by decide) ?_
      refine lv_sipush (v := 900) hx hb dX4_tail_56 (by decide) ?_
      refine rcS (As := [.int p2, .int 50, .int 900]) (rest := [.ref h0]) (st1 := [.int (if inR p2 50 900 then 1 else 0), .ref h0]) (mX4_isIn l g E ho p2 50 900) kX4_isIn q2397 hx hb hml hown hts hRf hRl ho.1 hE hS (hP.sub [] rfl) ⟨Nat.zero_le _, Nat.zero_le _⟩ hl ⟨rfl, rfl⟩ rfl rfl (Nat.le_of_ble_eq_true rfl) rfl dX4_tail_59 ?_
      refine h_ifne_b (tgt := 69) hx hb dX4_tail_62 (by decide) (fun c_3 => ?_) (fun c_3 => ?_)
      · refine lv_iconst (v := 0) hx hb dX4_tail_69 (by decide) ?_
        refine lv_iconst (v := 3) hx hb dX4_tail_70 (by decide) ?_
        refine lv_iload_n hx hb dX4_tail_71 rfl (lv_at hl 3 rfl) ?_
        refine rcV (As := [.int 0, .int 3, .int p2]) (rest := []) (st1 := [.int 0]) (mX4_isRefused0 l g E ho h0 a (upd (upd I 5 0) 1 0) (va_up F 1 (va_cpy (F 0) (F 1) 0 0 195)) 3 p2) kX4_isRefused q2400 hx hb hml hown hts hRf hRl ho.1 hE hS hP (va_recv hK hP (ci := 0) (q0 := 0) rfl rfl) ⟨Nat.zero_le _, Nat.zero_le _⟩ hl ⟨rfl, rfl⟩ rfl rfl (Nat.le_of_ble_eq_true rfl) rfl dX4_tail_72 ?_
        refine lv_if_ne (tgt := 128) hx hb dX4_tail_75 (by decide) (fun c => absurd c (by decide)) (fun _ => ?_)
        refine lv_aload_n hx hb dX4_tail_78 rfl (lv_at hl 0 rfl) ?_
        refine lv_aload_n hx hb dX4_tail_79 rfl (lv_at hl 0 rfl) ?_
        refine va_get (D := gD g) (ci := 0) (v := .ref (a 0)) (C := RX4) (T := TX4) (N := 21) hx hb hts in_X4 hown hK hP 0 rfl rfl 0 (by decide) (hts _ q2314) (fun _ h9 => h9) rfl dX4_tail_80 ?_
        refine lv_iconst (v := 3) hx hb dX4_tail_83 (by decide) ?_
        refine h_iald (f := (F 0)) hx hb hK hP 1 0 rfl rfl 3 rfl (by decide) (by decide) dX4_tail_84 ?_
        refine h_topi (v := nI nt) (ht) ?_
        refine lv_bipush (v := 10) hx hb dX4_tail_85 (by decide) ?_
        refine lv_icmp_ne (tgt := 94) hx hb dX4_tail_87 (by decide) (fun c_4 => ?_) (fun c_4 => ?_)
        · refine lv_iconst (v := 0) hx hb dX4_tail_94 (by decide) ?_
          refine lv_iconst (v := 1) hx hb dX4_tail_95 (by decide) ?_
          refine lv_bipush (v := 10) hx hb dX4_tail_96 (by decide) ?_
          refine rcV (As := [.int 0, .int 1, .int 10]) (rest := []) (st1 := [.int 0]) (mX4_isRefused0 l g E ho h0 a (upd (upd I 5 0) 1 0) (va_up F 1 (va_cpy (F 0) (F 1) 0 0 195)) 1 10) kX4_isRefused q2400 hx hb hml hown hts hRf hRl ho.1 hE hS hP (va_recv hK hP (ci := 0) (q0 := 0) rfl rfl) ⟨Nat.zero_le _, Nat.zero_le _⟩ hl ⟨rfl, rfl⟩ rfl rfl (Nat.le_of_ble_eq_true rfl) rfl dX4_tail_98 ?_
          refine lv_if_ne (tgt := 128) hx hb dX4_tail_101 (by decide) (fun c => absurd c (by decide)) (fun _ => ?_)
          refine lv_aload_n hx hb dX4_tail_104 rfl (lv_at hl 0 rfl) ?_
          refine lv_iload_n hx hb dX4_tail_105 rfl (lv_at hl 3 rfl) ?_
          refine lv_bipush (v := 99) hx hb dX4_tail_106 (by decide) ?_
          refine lv_iadd hx hb dX4_tail_108 ?_
          refine lv_bipush (v := 100) hx hb dX4_tail_109 (by decide) ?_
          refine lv_idiv hx hb dX4_tail_111 (by decide) ?_
          refine lv_iload_n hx hb dX4_tail_112 rfl (lv_at hl 1 rfl) ?_
          refine h_join (J := 121) (v := if p0 = 0 then 1 else 0) (rest := [.int ((p2 + 99) / 100), .ref h0]) ?_ ?_
          rotate_left
          · intro hJ
            refine lv_if_ne (tgt := 120) hx hb dX4_tail_113 (by decide) (fun c_5 => ?_) (fun c_5 => ?_)
            · refine lv_iconst (v := 0) hx hb dX4_tail_120 (by decide) ?_
              exact h_topi (if_neg c_5).symm hJ
            refine lv_iconst (v := 1) hx hb dX4_tail_116 (by decide) ?_
            refine lv_goto (tgt := 121) hx hb dX4_tail_117 (by decide) ?_
            exact h_topi (if_pos c_5).symm hJ
          refine lv_iadd hx hb dX4_tail_121 ?_
          by_cases c_6 : F 0 0 < priceT p0 p2
          · refine mcV (As := [.int (((p2 + 99) / 100) + (if p0 = 0 then 1 else 0))]) (rest := []) (wr := []) (mX4_cannotPay1 l g E ho h0 a (upd (upd I 5 0) 1 0) (va_up F 1 (va_cpy (F 0) (F 1) 0 0 195)) (((p2 + 99) / 100) + (if p0 = 0 then 1 else 0)) c_6) kX4_cannotPay q2404 hx hb hml hown hts hRf hRl ho.1 hE hS hP hD hA [0, 1, 2, 3, 4, 5, 6, 7, 8] [] rfl (by decide) rfl (by decide) (by decide) ⟨Nat.zero_le _, Nat.zero_le _⟩ (va_recv hK hP (ci := 0) (q0 := 0) rfl rfl) hl ⟨rfl, rfl⟩ rfl rfl (Nat.le_of_ble_eq_true rfl) dX4_tail_122 (fun _ H locs _ hP hD hS _ _ => ?_)
            have hP : va_P (gD g) Cl (mW g h0 a (refI (upd (upd I 5 0) 1 0) 4 ((((p2 + 99) / 100) + (if p0 = 0 then 1 else 0)) - F 0 0)) (va_up F 1 (va_cpy (F 0) (F 1) 0 0 195))) H := hP
            have hD : va_D A (mW g h0 a (refI (upd (upd I 5 0) 1 0) 4 ((((p2 + 99) / 100) + (if p0 = 0 then 1 else 0)) - F 0 0)) (va_up F 1 (va_cpy (F 0) (F 1) 0 0 195))) := hD
            refine lv_if_eq (tgt := 130) hx hb dX4_tail_125 (by decide) (fun c => absurd c (by decide)) (fun _ => ?_)
            refine lv_iconst (v := 0) hx hb dX4_tail_128 (by decide) ?_
            have hop : opTail (F 0) p0 p1 p2 = (4, ((((p2 + 99) / 100) + (if p0 = 0 then 1 else 0)) - (F 0 0)), 0, F 0) := by simp only [htw, htwc, ht, htc, hh, hhc, hb6, hbc, hk5, hkc, opTail, opTailN, eq_true c_1, eq_true c_2, eq_true c_3, eq_false c_4, eq_true c_6, eq_false (Int32.not_le.mpr c_6), if_true, if_false, not_true_eq_false, not_false_eq_true, ite_true, ite_false, reduceIte, Nat.add_zero, Nat.add_sub_cancel]
            have hW1 : (mW g h0 a (refI (upd (upd I 5 0) 1 0) 4 ((((p2 + 99) / 100) + (if p0 = 0 then 1 else 0)) - F 0 0)) (va_up F 1 (va_cpy (F 0) (F 1) 0 0 195))) = mW g h0 a (pubI I n (opTail (F 0) p0 p1 p2)) (pubF F n (opTail (F 0) p0 p1 p2)) := by
              rw [hop]
              rfl
            rw [hW1] at hP hD
            exact hm_i hQ hx hb hr hlk rfl () (by rw [hop]) trivial hP hD hS (by decide) (by decide) dX4_tail_129
          refine mcV (As := [.int (((p2 + 99) / 100) + (if p0 = 0 then 1 else 0))]) (rest := []) (wr := []) (mX4_cannotPay0 l g E ho h0 a (upd (upd I 5 0) 1 0) (va_up F 1 (va_cpy (F 0) (F 1) 0 0 195)) (((p2 + 99) / 100) + (if p0 = 0 then 1 else 0)) c_6) kX4_cannotPay q2404 hx hb hml hown hts hRf hRl ho.1 hE hS hP hD hA [0, 1, 2, 3, 4, 5, 6, 7, 8] [] rfl (by decide) rfl (by decide) (by decide) ⟨Nat.zero_le _, Nat.zero_le _⟩ (va_recv hK hP (ci := 0) (q0 := 0) rfl rfl) hl ⟨rfl, rfl⟩ rfl rfl (Nat.le_of_ble_eq_true rfl) dX4_tail_122 (fun _ H locs _ hP hD hS _ _ => ?_)
          have hP : va_P (gD g) Cl (mW g h0 a (upd (upd I 5 0) 1 0) (va_up (va_up F 0 (upd (F 0) 0 (F 0 0 - (((p2 + 99) / 100) + (if p0 = 0 then 1 else 0))))) 1 (va_cpy (F 0) (F 1) 0 0 195))) H := hP
          have hD : va_D A (mW g h0 a (upd (upd I 5 0) 1 0) (va_up (va_up F 0 (upd (F 0) 0 (F 0 0 - (((p2 + 99) / 100) + (if p0 = 0 then 1 else 0))))) 1 (va_cpy (F 0) (F 1) 0 0 195))) := hD
          refine lv_if_eq (tgt := 130) hx hb dX4_tail_125 (by decide) (fun _ => ?_) (fun c => absurd c (by decide))
          refine lv_aload_n hx hb dX4_tail_130 rfl (lv_at hl 0 rfl) ?_
          refine va_get (D := gD g) (ci := 0) (v := .ref (a 0)) (C := RX4) (T := TX4) (N := 21) hx hb hts in_X4 hown hK hP 0 rfl rfl 0 (by decide) (hts _ q2314) (fun _ h9 => h9) rfl dX4_tail_131 ?_
          refine lv_iconst (v := 3) hx hb dX4_tail_134 (by decide) ?_
          refine h_iald (f := (upd (F 0) 0 (F 0 0 - (((p2 + 99) / 100) + (if p0 = 0 then 1 else 0))))) hx hb hK hP 1 0 rfl rfl 3 rfl (by decide) (by decide) dX4_tail_135 ?_
          refine h_topi (v := F 0 3) (by rw [pk_un (by decide)]) ?_
          refine h_topi (v := nI nt) (ht) ?_
          refine lv_istore (lv' := [(4, .int (nI nt)), (0, .ref h0), (1, .int p0), (2, .int p1), (3, .int p2)]) hx hb dX4_tail_136 hl (by decide) rfl (fun ls hl => ?_)
          refine lv_aload_n hx hb dX4_tail_138 rfl (lv_at hl 1 rfl) ?_
          refine va_get (D := gD g) (ci := 0) (v := .ref (a 0)) (C := RX4) (T := TX4) (N := 21) hx hb hts in_X4 hown hK hP 0 rfl rfl 0 (by decide) (hts _ q2314) (fun _ h9 => h9) rfl dX4_tail_139 ?_
          refine lv_iload hx hb dX4_tail_142 (lv_at hl 0 rfl) ?_
          refine lv_iconst (v := 0) hx hb dX4_tail_144 (by decide) ?_
          refine rcS (As := [.int (nI nt), .int 0]) (rest := [.ref (a 0)]) (st1 := [.int (nI (33 + 4 * nt)), .ref (a 0)]) (mX4_tailAt l g E ho nt 0) kX4_tailAt q2408 hx hb hml hown hts hRf hRl ho.1 hE hS (hP.sub [] rfl) ⟨Nat.zero_le _, Nat.zero_le _⟩ hl ⟨rfl, rfl⟩ rfl rfl (Nat.le_of_ble_eq_true rfl) rfl dX4_tail_145 ?_
          refine lv_iload_n hx hb dX4_tail_148 rfl (lv_at hl 2 rfl) ?_
          refine h_iast (f := (upd (F 0) 0 (F 0 0 - (((p2 + 99) / 100) + (if p0 = 0 then 1 else 0))))) hx hb hK hP hD hS 1 0 rfl rfl (33 + 4 * nt) rfl (by omega) (by decide) dX4_tail_149 (fun H locs hP hD hS => ?_)
          have hP : va_P (gD g) Cl (mW g h0 a (upd (upd I 5 0) 1 0) (va_up (va_up F 0 (upd (upd (F 0) 0 (F 0 0 - (((p2 + 99) / 100) + (if p0 = 0 then 1 else 0)))) (33 + 4 * nt) p0)) 1 (va_cpy (F 0) (F 1) 0 0 195))) H := hP
          have hD : va_D A (mW g h0 a (upd (upd I 5 0) 1 0) (va_up (va_up F 0 (upd (upd (F 0) 0 (F 0 0 - (((p2 + 99) / 100) + (if p0 = 0 then 1 else 0)))) (33 + 4 * nt) p0)) 1 (va_cpy (F 0) (F 1) 0 0 195))) := hD
          refine lv_aload_n hx hb dX4_tail_150 rfl (lv_at hl 1 rfl) ?_
          refine va_get (D := gD g) (ci := 0) (v := .ref (a 0)) (C := RX4) (T := TX4) (N := 21) hx hb hts in_X4 hown hK hP 0 rfl rfl 0 (by decide) (hts _ q2314) (fun _ h9 => h9) rfl dX4_tail_151 ?_
          refine lv_iload hx hb dX4_tail_154 (lv_at hl 0 rfl) ?_
          refine lv_iconst (v := 1) hx hb dX4_tail_156 (by decide) ?_
          refine rcS (As := [.int (nI nt), .int 1]) (rest := [.ref (a 0)]) (st1 := [.int (nI (33 + 4 * nt + 1)), .ref (a 0)]) (mX4_tailAt l g E ho nt 1) kX4_tailAt q2408 hx hb hml hown hts hRf hRl ho.1 hE hS (hP.sub [] rfl) ⟨Nat.zero_le _, Nat.zero_le _⟩ hl ⟨rfl, rfl⟩ rfl rfl (Nat.le_of_ble_eq_true rfl) rfl dX4_tail_157 ?_
          refine lv_iload_n hx hb dX4_tail_160 rfl (lv_at hl 3 rfl) ?_
          refine h_iast (f := (upd (upd (F 0) 0 (F 0 0 - (((p2 + 99) / 100) + (if p0 = 0 then 1 else 0)))) (33 + 4 * nt) p0)) hx hb hK hP hD hS 1 0 rfl rfl (33 + 4 * nt + 1) rfl (by omega) (by decide) dX4_tail_161 (fun H locs hP hD hS => ?_)
          have hP : va_P (gD g) Cl (mW g h0 a (upd (upd I 5 0) 1 0) (va_up (va_up F 0 (upd (upd (upd (F 0) 0 (F 0 0 - (((p2 + 99) / 100) + (if p0 = 0 then 1 else 0)))) (33 + 4 * nt) p0) (33 + 4 * nt + 1) p1)) 1 (va_cpy (F 0) (F 1) 0 0 195))) H := hP
          have hD : va_D A (mW g h0 a (upd (upd I 5 0) 1 0) (va_up (va_up F 0 (upd (upd (upd (F 0) 0 (F 0 0 - (((p2 + 99) / 100) + (if p0 = 0 then 1 else 0)))) (33 + 4 * nt) p0) (33 + 4 * nt + 1) p1)) 1 (va_cpy (F 0) (F 1) 0 0 195))) := hD
          refine lv_aload_n hx hb dX4_tail_162 rfl (lv_at hl 1 rfl) ?_
          refine va_get (D := gD g) (ci := 0) (v := .ref (a 0)) (C := RX4) (T := TX4) (N := 21) hx hb hts in_X4 hown hK hP 0 rfl rfl 0 (by decide) (hts _ q2314) (fun _ h9 => h9) rfl dX4_tail_163 ?_
          refine lv_iload hx hb dX4_tail_166 (lv_at hl 0 rfl) ?_
          refine lv_iconst (v := 2) hx hb dX4_tail_168 (by decide) ?_
          refine rcS (As := [.int (nI nt), .int 2]) (rest := [.ref (a 0)]) (st1 := [.int (nI (33 + 4 * nt + 2)), .ref (a 0)]) (mX4_tailAt l g E ho nt 2) kX4_tailAt q2408 hx hb hml hown hts hRf hRl ho.1 hE hS (hP.sub [] rfl) ⟨Nat.zero_le _, Nat.zero_le _⟩ hl ⟨rfl, rfl⟩ rfl rfl (Nat.le_of_ble_eq_true rfl) rfl dX4_tail_169 ?_
          refine lv_iload_n hx hb dX4_tail_172 rfl (lv_at hl 4 rfl) ?_
          refine h_iast (f := (upd (upd (upd (F 0) 0 (F 0 0 - (((p2 + 99) / 100) + (if p0 = 0 then 1 else 0)))) (33 + 4 * nt) p0) (33 + 4 * nt + 1) p1)) hx hb hK hP hD hS 1 0 rfl rfl (33 + 4 * nt + 2) rfl (by omega) (by decide) dX4_tail_173 (fun H locs hP hD hS => ?_)
          have hP : va_P (gD g) Cl (mW g h0 a (upd (upd I 5 0) 1 0) (va_up (va_up F 0 (upd (upd (upd (upd (F 0) 0 (F 0 0 - (((p2 + 99) / 100) + (if p0 = 0 then 1 else 0)))) (33 + 4 * nt) p0) (33 + 4 * nt + 1) p1) (33 + 4 * nt + 2) p2)) 1 (va_cpy (F 0) (F 1) 0 0 195))) H := hP
          have hD : va_D A (mW g h0 a (upd (upd I 5 0) 1 0) (va_up (va_up F 0 (upd (upd (upd (upd (F 0) 0 (F 0 0 - (((p2 + 99) / 100) + (if p0 = 0 then 1 else 0)))) (33 + 4 * nt) p0) (33 + 4 * nt + 1) p1) (33 + 4 * nt + 2) p2)) 1 (va_cpy (F 0) (F 1) 0 0 195))) := hD
          refine lv_aload_n hx hb dX4_tail_174 rfl (lv_at hl 1 rfl) ?_
          refine va_get (D := gD g) (ci := 0) (v := .ref (a 0)) (C := RX4) (T := TX4) (N := 21) hx hb hts in_X4 hown hK hP 0 rfl rfl 0 (by decide) (hts _ q2314) (fun _ h9 => h9) rfl dX4_tail_175 ?_
          refine lv_iload hx hb dX4_tail_178 (lv_at hl 0 rfl) ?_
          refine lv_iconst (v := 3) hx hb dX4_tail_180 (by decide) ?_
          refine rcS (As := [.int (nI nt), .int 3]) (rest := [.ref (a 0)]) (st1 := [.int (nI (33 + 4 * nt + 3)), .ref (a 0)]) (mX4_tailAt l g E ho nt 3) kX4_tailAt q2408 hx hb hml hown hts hRf hRl ho.1 hE hS (hP.sub [] rfl) ⟨Nat.zero_le _, Nat.zero_le _⟩ hl ⟨rfl, rfl⟩ rfl rfl (Nat.le_of_ble_eq_true rfl) rfl dX4_tail_181 ?_
          refine lv_iconst (v := 0) hx hb dX4_tail_184 (by decide) ?_
          refine h_iast (f := (upd (upd (upd (upd (F 0) 0 (F 0 0 - (((p2 + 99) / 100) + (if p0 = 0 then 1 else 0)))) (33 + 4 * nt) p0) (33 + 4 * nt + 1) p1) (33 + 4 * nt + 2) p2)) hx hb hK hP hD hS 1 0 rfl rfl (33 + 4 * nt + 3) rfl (by omega) (by decide) dX4_tail_185 (fun H locs hP hD hS => ?_)
          have hP : va_P (gD g) Cl (mW g h0 a (upd (upd I 5 0) 1 0) (va_up (va_up F 0 (upd (upd (upd (upd (upd (F 0) 0 (F 0 0 - (((p2 + 99) / 100) + (if p0 = 0 then 1 else 0)))) (33 + 4 * nt) p0) (33 + 4 * nt + 1) p1) (33 + 4 * nt + 2) p2) (33 + 4 * nt + 3) 0)) 1 (va_cpy (F 0) (F 1) 0 0 195))) H := hP
          have hD : va_D A (mW g h0 a (upd (upd I 5 0) 1 0) (va_up (va_up F 0 (upd (upd (upd (upd (upd (F 0) 0 (F 0 0 - (((p2 + 99) / 100) + (if p0 = 0 then 1 else 0)))) (33 + 4 * nt) p0) (33 + 4 * nt + 1) p1) (33 + 4 * nt + 2) p2) (33 + 4 * nt + 3) 0)) 1 (va_cpy (F 0) (F 1) 0 0 195))) := hD
          refine lv_aload_n hx hb dX4_tail_186 rfl (lv_at hl 1 rfl) ?_
          refine va_get (D := gD g) (ci := 0) (v := .ref (a 0)) (C := RX4) (T := TX4) (N := 21) hx hb hts in_X4 hown hK hP 0 rfl rfl 0 (by decide) (hts _ q2314) (fun _ h9 => h9) rfl dX4_tail_187 ?_
          refine lv_iconst (v := 3) hx hb dX4_tail_190 (by decide) ?_
          refine lv_dup2_11 hx hb dX4_tail_191 rfl rfl ?_
          refine h_iald (f := (upd (upd (upd (upd (upd (F 0) 0 (F 0 0 - (((p2 + 99) / 100) + (if p0 = 0 then 1 else 0)))) (33 + 4 * nt) p0) (33 + 4 * nt + 1) p1) (33 + 4 * nt + 2) p2) (33 + 4 * nt + 3) 0)) hx hb hK hP 1 0 rfl rfl 3 rfl (by decide) (by decide) dX4_tail_192 ?_
          refine h_topi (v := F 0 3) (by rw [pk_un (by omega), pk_un (by omega), pk_un (by omega), pk_un (by omega), pk_un (by decide)]) ?_
          refine h_topi (v := nI nt) (ht) ?_
          refine lv_iconst (v := 1) hx hb dX4_tail_193 (by decide) ?_
          refine lv_iadd hx hb dX4_tail_194 ?_
          refine h_topi (v := nI (nt + 1)) (h_nadd (a := nt) (b := 1) (rfl) (rfl)) ?_
          refine h_iast (f := (upd (upd (upd (upd (upd (F 0) 0 (F 0 0 - (((p2 + 99) / 100) + (if p0 = 0 then 1 else 0)))) (33 + 4 * nt) p0) (33 + 4 * nt + 1) p1) (33 + 4 * nt + 2) p2) (33 + 4 * nt + 3) 0)) hx hb hK hP hD hS 1 0 rfl rfl 3 rfl (by decide) (by decide) dX4_tail_195 (fun H locs hP hD hS => ?_)
          have hP : va_P (gD g) Cl (mW g h0 a (upd (upd I 5 0) 1 0) (va_up (va_up F 0 (upd (upd (upd (upd (upd (upd (F 0) 0 (F 0 0 - (((p2 + 99) / 100) + (if p0 = 0 then 1 else 0)))) (33 + 4 * nt) p0) (33 + 4 * nt + 1) p1) (33 + 4 * nt + 2) p2) (33 + 4 * nt + 3) 0) 3 (nI (nt + 1)))) 1 (va_cpy (F 0) (F 1) 0 0 195))) H := hP
          have hD : va_D A (mW g h0 a (upd (upd I 5 0) 1 0) (va_up (va_up F 0 (upd (upd (upd (upd (upd (upd (F 0) 0 (F 0 0 - (((p2 + 99) / 100) + (if p0 = 0 then 1 else 0)))) (33 + 4 * nt) p0) (33 + 4 * nt + 1) p1) (33 + 4 * nt + 2) p2) (33 + 4 * nt + 3) 0) 3 (nI (nt + 1)))) 1 (va_cpy (F 0) (F 1) 0 0 195))) := hD
          refine lv_aload_n hx hb dX4_tail_196 rfl (lv_at hl 1 rfl) ?_
          refine va_get (D := gD g) (ci := 0) (v := .ref (a 0)) (C := RX4) (T := TX4) (N := 21) hx hb hts in_X4 hown hK hP 0 rfl rfl 0 (by decide) (hts _ q2314) (fun _ h9 => h9) rfl dX4_tail_197 ?_
          refine lv_bipush (v := 8) hx hb dX4_tail_200 (by decide) ?_
          refine lv_dup2_11 hx hb dX4_tail_202 rfl rfl ?_
          refine h_iald (f := (upd (upd (upd (upd (upd (upd (F 0) 0 (F 0 0 - (((p2 + 99) / 100) + (if p0 = 0 then 1 else 0)))) (33 + 4 * nt) p0) (33 + 4 * nt + 1) p1) (33 + 4 * nt + 2) p2) (33 + 4 * nt + 3) 0) 3 (nI (nt + 1)))) hx hb hK hP 1 0 rfl rfl 8 rfl (by decide) (by decide) dX4_tail_203 ?_
          refine h_topi (v := F 0 8) (by rw [pk_un (by decide), pk_un (by omega), pk_un (by omega), pk_un (by omega), pk_un (by omega), pk_un (by decide)]) ?_
          refine lv_iload_n hx hb dX4_tail_204 rfl (lv_at hl 4 rfl) ?_
          refine lv_iadd hx hb dX4_tail_205 ?_
          refine h_iast (f := (upd (upd (upd (upd (upd (upd (F 0) 0 (F 0 0 - (((p2 + 99) / 100) + (if p0 = 0 then 1 else 0)))) (33 + 4 * nt) p0) (33 + 4 * nt + 1) p1) (33 + 4 * nt + 2) p2) (33 + 4 * nt + 3) 0) 3 (nI (nt + 1)))) hx hb hK hP hD hS 1 0 rfl rfl 8 rfl (by decide) (by decide) dX4_tail_206 (fun H locs hP hD hS => ?_)
          have hP : va_P (gD g) Cl (mW g h0 a (upd (upd I 5 0) 1 0) (va_up (va_up F 0 (upd (upd (upd (upd (upd (upd (upd (F 0) 0 (F 0 0 - (((p2 + 99) / 100) + (if p0 = 0 then 1 else 0)))) (33 + 4 * nt) p0) (33 + 4 * nt + 1) p1) (33 + 4 * nt + 2) p2) (33 + 4 * nt + 3) 0) 3 (nI (nt + 1))) 8 ((F 0 8) + p2))) 1 (va_cpy (F 0) (F 1) 0 0 195))) H := hP
          have hD : va_D A (mW g h0 a (upd (upd I 5 0) 1 0) (va_up (va_up F 0 (upd (upd (upd (upd (upd (upd (upd (F 0) 0 (F 0 0 - (((p2 + 99) / 100) + (if p0 = 0 then 1 else 0)))) (33 + 4 * nt) p0) (33 + 4 * nt + 1) p1) (33 + 4 * nt + 2) p2) (33 + 4 * nt + 3) 0) 3 (nI (nt + 1))) 8 ((F 0 8) + p2))) 1 (va_cpy (F 0) (F 1) 0 0 195))) := hD
          refine lv_aload_n hx hb dX4_tail_207 rfl (lv_at hl 1 rfl) ?_
          refine lv_iload hx hb dX4_tail_208 (lv_at hl 0 rfl) ?_
          refine mcV (As := [.int (nI nt)]) (rest := []) (wr := []) (mX4_ends0 l g E ho h0 a (upd (upd I 5 0) 1 0) (va_up (va_up F 0 (upd (upd (upd (upd (upd (upd (upd (F 0) 0 (F 0 0 - (((p2 + 99) / 100) + (if p0 = 0 then 1 else 0)))) (33 + 4 * nt) p0) (33 + 4 * nt + 1) p1) (33 + 4 * nt + 2) p2) (33 + 4 * nt + 3) 0) 3 (nI (nt + 1))) 8 ((F 0 8) + p2))) 1 (va_cpy (F 0) (F 1) 0 0 195)) (nI nt) n rfl hn hn8) kX4_ends q2411 hx hb hml hown hts hRf hRl ho.1 hE hS hP hD hA [0, 1, 2, 3, 4, 5, 6, 7, 8] [] rfl (by decide) rfl (by decide) (by decide) ⟨Nat.zero_le _, Nat.zero_le _⟩ (va_recv hK hP (ci := 0) (q0 := 0) rfl rfl) hl ⟨rfl, rfl⟩ rfl rfl (Nat.le_of_ble_eq_true rfl) dX4_tail_210 (fun _ H locs _ hP hD hS _ _ => ?_)
          have hP : va_P (gD g) Cl (mW g h0 a (upd (upd (upd I 5 0) 1 0) 0 (nI (chN n))) (va_up (va_up (va_up F 0 (upd (upd (upd (upd (upd (upd (upd (F 0) 0 (F 0 0 - (((p2 + 99) / 100) + (if p0 = 0 then 1 else 0)))) (33 + 4 * nt) p0) (33 + 4 * nt + 1) p1) (33 + 4 * nt + 2) p2) (33 + 4 * nt + 3) 0) 3 (nI (nt + 1))) 8 ((F 0 8) + p2))) 1 (va_cpy (F 0) (F 1) 0 0 195)) 3 (chP (va_cpy (F 0) (F 1) 0 0 195) (F 3) n))) H := hP
          have hD : va_D A (mW g h0 a (upd (upd (upd I 5 0) 1 0) 0 (nI (chN n))) (va_up (va_up (va_up F 0 (upd (upd (upd (upd (upd (upd (upd (F 0) 0 (F 0 0 - (((p2 + 99) / 100) + (if p0 = 0 then 1 else 0)))) (33 + 4 * nt) p0) (33 + 4 * nt + 1) p1) (33 + 4 * nt + 2) p2) (33 + 4 * nt + 3) 0) 3 (nI (nt + 1))) 8 ((F 0 8) + p2))) 1 (va_cpy (F 0) (F 1) 0 0 195)) 3 (chP (va_cpy (F 0) (F 1) 0 0 195) (F 3) n))) := hD
          have hop : opTail (F 0) p0 p1 p2 = (0, 0, (nI nt), (upd (upd (upd (upd (upd (upd (upd (F 0) 0 (F 0 0 - (((p2 + 99) / 100) + (if p0 = 0 then 1 else 0)))) (33 + 4 * nt) p0) (33 + 4 * nt + 1) p1) (33 + 4 * nt + 2) p2) (33 + 4 * nt + 3) 0) 3 (nI (nt + 1))) 8 ((F 0 8) + p2))) := by simp only [htw, htwc, ht, htc, hh, hhc, hb6, hbc, hk5, hkc, opTail, opTailN, eq_true c_1, eq_true c_2, eq_true c_3, eq_false c_4, eq_false c_6, eq_true (Int32.not_lt.mp c_6), if_true, if_false, not_true_eq_false, not_false_eq_true, ite_true, ite_false, reduceIte, Nat.add_zero, Nat.add_sub_cancel]
          have hW1 : (mW g h0 a (upd (upd (upd I 5 0) 1 0) 0 (nI (chN n))) (va_up (va_up (va_up F 0 (upd (upd (upd (upd (upd (upd (upd (F 0) 0 (F 0 0 - (((p2 + 99) / 100) + (if p0 = 0 then 1 else 0)))) (33 + 4 * nt) p0) (33 + 4 * nt + 1) p1) (33 + 4 * nt + 2) p2) (33 + 4 * nt + 3) 0) 3 (nI (nt + 1))) 8 ((F 0 8) + p2))) 1 (va_cpy (F 0) (F 1) 0 0 195)) 3 (chP (va_cpy (F 0) (F 1) 0 0 195) (F 3) n))) = mW g h0 a (pubI I n (opTail (F 0) p0 p1 p2)) (pubF F n (opTail (F 0) p0 p1 p2)) := by
            rw [hop]
            rfl
          rw [hW1] at hP hD
          exact hm_i hQ hx hb hr hlk rfl () (by rw [hop]) trivial hP hD hS (by decide) (by decide) dX4_tail_213
        refine lv_iconst (v := 1) hx hb dX4_tail_90 (by decide) ?_
        refine lv_goto (tgt := 95) hx hb dX4_tail_91 (by decide) ?_
        refine lv_iconst (v := 1) hx hb dX4_tail_95 (by decide) ?_
        refine lv_bipush (v := 10) hx hb dX4_tail_96 (by decide) ?_
        refine mcV (As := [.int 1, .int 1, .int 10]) (rest := []) (wr := []) (mX4_isRefused1 l g E ho h0 a (upd (upd I 5 0) 1 0) (va_up F 1 (va_cpy (F 0) (F 1) 0 0 195)) 1 10) kX4_isRefused q2400 hx hb hml hown hts hRf hRl ho.1 hE hS hP hD hA [0, 1, 2, 3, 4, 5, 6, 7, 8] [] rfl (by decide) rfl (by decide) (by decide) ⟨Nat.zero_le _, Nat.zero_le _⟩ (va_recv hK hP (ci := 0) (q0 := 0) rfl rfl) hl ⟨rfl, rfl⟩ rfl rfl (Nat.le_of_ble_eq_true rfl) dX4_tail_98 (fun _ H locs _ hP hD hS _ _ => ?_)
        have hP : va_P (gD g) Cl (mW g h0 a (refI (upd (upd I 5 0) 1 0) 1 10) (va_up F 1 (va_cpy (F 0) (F 1) 0 0 195))) H := hP
        have hD : va_D A (mW g h0 a (refI (upd (upd I 5 0) 1 0) 1 10) (va_up F 1 (va_cpy (F 0) (F 1) 0 0 195))) := hD
        refine lv_if_ne (tgt := 128) hx hb dX4_tail_101 (by decide) (fun _ => ?_) (fun c => absurd c (by decide))
        refine lv_iconst (v := 0) hx hb dX4_tail_128 (by decide) ?_
        have hop : opTail (F 0) p0 p1 p2 = (1, 10, 0, F 0) := by simp only [htw, htwc, ht, htc, hh, hhc, hb6, hbc, hk5, hkc, opTail, opTailN, eq_true c_1, eq_true c_2, eq_true c_3, eq_true c_4, if_true, if_false, not_true_eq_false, not_false_eq_true, ite_true, ite_false, reduceIte, Nat.add_zero, Nat.add_sub_cancel]
        have hW1 : (mW g h0 a (refI (upd (upd I 5 0) 1 0) 1 10) (va_up F 1 (va_cpy (F 0) (F 1) 0 0 195))) = mW g h0 a (pubI I n (opTail (F 0) p0 p1 p2)) (pubF F n (opTail (F 0) p0 p1 p2)) := by
          rw [hop]
          rfl
        rw [hW1] at hP hD
        exact hm_i hQ hx hb hr hlk rfl () (by rw [hop]) trivial hP hD hS (by decide) (by decide) dX4_tail_129
      refine lv_iconst (v := 1) hx hb dX4_tail_65 (by decide) ?_
      refine lv_goto (tgt := 70) hx hb dX4_tail_66 (by decide) ?_
      refine lv_iconst (v := 3) hx hb dX4_tail_70 (by decide) ?_
      refine lv_iload_n hx hb dX4_tail_71 rfl (lv_at hl 3 rfl) ?_
      refine mcV (As := [.int 1, .int 3, .int p2]) (rest := []) (wr := []) (mX4_isRefused1 l g E ho h0 a (upd (upd I 5 0) 1 0) (va_up F 1 (va_cpy (F 0) (F 1) 0 0 195)) 3 p2) kX4_isRefused q2400 hx hb hml hown hts hRf hRl ho.1 hE hS hP hD hA [0, 1, 2, 3, 4, 5, 6, 7, 8] [] rfl (by decide) rfl (by decide) (by decide) ⟨Nat.zero_le _, Nat.zero_le _⟩ (va_recv hK hP (ci := 0) (q0 := 0) rfl rfl) hl ⟨rfl, rfl⟩ rfl rfl (Nat.le_of_ble_eq_true rfl) dX4_tail_72 (fun _ H locs _ hP hD hS _ _ => ?_)
      have hP : va_P (gD g) Cl (mW g h0 a (refI (upd (upd I 5 0) 1 0) 3 p2) (va_up F 1 (va_cpy (F 0) (F 1) 0 0 195))) H := hP
      have hD : va_D A (mW g h0 a (refI (upd (upd I 5 0) 1 0) 3 p2) (va_up F 1 (va_cpy (F 0) (F 1) 0 0 195))) := hD
      refine lv_if_ne (tgt := 128) hx hb dX4_tail_75 (by decide) (fun _ => ?_) (fun c => absurd c (by decide))
      refine lv_iconst (v := 0) hx hb dX4_tail_128 (by decide) ?_
      have hop : opTail (F 0) p0 p1 p2 = (3, p2, 0, F 0) := by simp only [htw, htwc, ht, htc, hh, hhc, hb6, hbc, hk5, hkc, opTail, opTailN, eq_true c_1, eq_true c_2, eq_false c_3, if_true, if_false, not_true_eq_false, not_false_eq_true, ite_true, ite_false, reduceIte, Nat.add_zero, Nat.add_sub_cancel]
      have hW1 : (mW g h0 a (refI (upd (upd I 5 0) 1 0) 3 p2) (va_up F 1 (va_cpy (F 0) (F 1) 0 0 195))) = mW g h0 a (pubI I n (opTail (F 0) p0 p1 p2)) (pubF F n (opTail (F 0) p0 p1 p2)) := by
        rw [hop]
        rfl
      rw [hW1] at hP hD
      exact hm_i hQ hx hb hr hlk rfl () (by rw [hop]) trivial hP hD hS (by decide) (by decide) dX4_tail_129
    refine lv_iconst (v := 1) hx hb dX4_tail_39 (by decide) ?_
    refine lv_goto (tgt := 44) hx hb dX4_tail_40 (by decide) ?_
    refine lv_iconst (v := 3) hx hb dX4_tail_44 (by decide) ?_
    refine lv_iload_n hx hb dX4_tail_45 rfl (lv_at hl 2 rfl) ?_
    refine mcV (As := [.int 1, .int 3, .int p1]) (rest := []) (wr := []) (mX4_isRefused1 l g E ho h0 a (upd (upd I 5 0) 1 0) (va_up F 1 (va_cpy (F 0) (F 1) 0 0 195)) 3 p1) kX4_isRefused q2400 hx hb hml hown hts hRf hRl ho.1 hE hS hP hD hA [0, 1, 2, 3, 4, 5, 6, 7, 8] [] rfl (by decide) rfl (by decide) (by decide) ⟨Nat.zero_le _, Nat.zero_le _⟩ (va_recv hK hP (ci := 0) (q0 := 0) rfl rfl) hl ⟨rfl, rfl⟩ rfl rfl (Nat.le_of_ble_eq_true rfl) dX4_tail_46 (fun _ H locs _ hP hD hS _ _ => ?_)
    have hP : va_P (gD g) Cl (mW g h0 a (refI (upd (upd I 5 0) 1 0) 3 p1) (va_up F 1 (va_cpy (F 0) (F 1) 0 0 195))) H := hP
    have hD : va_D A (mW g h0 a (refI (upd (upd I 5 0) 1 0) 3 p1) (va_up F 1 (va_cpy (F 0) (F 1) 0 0 195))) := hD
    refine lv_if_ne (tgt := 128) hx hb dX4_tail_49 (by decide) (fun _ => ?_) (fun c => absurd c (by decide))
    refine lv_iconst (v := 0) hx hb dX4_tail_128 (by decide) ?_
    have hop : opTail (F 0) p0 p1 p2 = (3, p1, 0, F 0) := by simp only [htw, htwc, ht, htc, hh, hhc, hb6, hbc, hk5, hkc, opTail, opTailN, eq_true c_1, eq_false c_2, if_true, if_false, not_true_eq_false, not_false_eq_true, ite_true, ite_false, reduceIte, Nat.add_zero, Nat.add_sub_cancel]
    have hW1 : (mW g h0 a (refI (upd (upd I 5 0) 1 0) 3 p1) (va_up F 1 (va_cpy (F 0) (F 1) 0 0 195))) = mW g h0 a (pubI I n (opTail (F 0) p0 p1 p2)) (pubF F n (opTail (F 0) p0 p1 p2)) := by
      rw [hop]
      rfl
    rw [hW1] at hP hD
    exact hm_i hQ hx hb hr hlk rfl () (by rw [hop]) trivial hP hD hS (by decide) (by decide) dX4_tail_129
  refine lv_iconst (v := 1) hx hb dX4_tail_14 (by decide) ?_
  refine lv_goto (tgt := 19) hx hb dX4_tail_15 (by decide) ?_
  refine lv_iconst (v := 3) hx hb dX4_tail_19 (by decide) ?_
  refine lv_iload_n hx hb dX4_tail_20 rfl (lv_at hl 1 rfl) ?_
  refine mcV (As := [.int 1, .int 3, .int p0]) (rest := []) (wr := []) (mX4_isRefused1 l g E ho h0 a (upd (upd I 5 0) 1 0) (va_up F 1 (va_cpy (F 0) (F 1) 0 0 195)) 3 p0) kX4_isRefused q2400 hx hb hml hown hts hRf hRl ho.1 hE hS hP hD hA [0, 1, 2, 3, 4, 5, 6, 7, 8] [] rfl (by decide) rfl (by decide) (by decide) ⟨Nat.zero_le _, Nat.zero_le _⟩ (va_recv hK hP (ci := 0) (q0 := 0) rfl rfl) hl ⟨rfl, rfl⟩ rfl rfl (Nat.le_of_ble_eq_true rfl) dX4_tail_21 (fun _ H locs _ hP hD hS _ _ => ?_)
  have hP : va_P (gD g) Cl (mW g h0 a (refI (upd (upd I 5 0) 1 0) 3 p0) (va_up F 1 (va_cpy (F 0) (F 1) 0 0 195))) H := hP
  have hD : va_D A (mW g h0 a (refI (upd (upd I 5 0) 1 0) 3 p0) (va_up F 1 (va_cpy (F 0) (F 1) 0 0 195))) := hD
  refine lv_if_ne (tgt := 128) hx hb dX4_tail_24 (by decide) (fun _ => ?_) (fun c => absurd c (by decide))
  refine lv_iconst (v := 0) hx hb dX4_tail_128 (by decide) ?_
  have hop : opTail (F 0) p0 p1 p2 = (3, p0, 0, F 0) := by simp only [htw, htwc, ht, htc, hh, hhc, hb6, hbc, hk5, hkc, opTail, opTailN, eq_false c_1, if_true, if_false, not_true_eq_false, not_false_eq_true, ite_true, ite_false, reduceIte, Nat.add_zero, Nat.add_sub_cancel]
  have hW1 : (mW g h0 a (refI (upd (upd I 5 0) 1 0) 3 p0) (va_up F 1 (va_cpy (F 0) (F 1) 0 0 195))) = mW g h0 a (pubI I n (opTail (F 0) p0 p1 p2)) (pubF F n (opTail (F 0) p0 p1 p2)) := by
    rw [hop]
    rfl
  rw [hW1] at hP hD
  exact hm_i hQ hx hb hr hlk rfl () (by rw [hop]) trivial hP hD hS (by decide) (by decide) dX4_tail_129
theorem kX4_combs : hkV RX4 yX4_combs cX4_combs 4 (some .int) 2 := ⟨q2425, qs29, q78, q2426, rfl, by decide +kernel⟩
set_option maxHeartbeats 4000000 in
theorem mX4_combs (l : Launch) (g : hG) (E : hEnv) (ho : mOk g E) (h0 : Nat) (a : Nat → Nat) (I : Nat → Int32) (F : Nat → Nat → Int32) (p0 : Int32) (p1 : Int32) (nt : Nat) (nh : Nat) (nb : Nat) (nc : Nat) (tw : Nat) (hc : Cn (F 0) nt nh nb nc tw) : MM l yX4_combs cX4_combs 4 (some .int) 2 43 0 0 [.ref h0, .int p0, .int p1] g E (mW g h0 a I F) (S := Unit) (fun _ => (some (.int ((opComb (F 0) p0 p1).2.2.1)))) (fun _ => True) (fun _ => mW g h0 a (opI I (opComb (F 0) p0 p1)) (va_up F 0 (opComb (F 0) p0 p1).2.2.2)) := by
  refine MM.mk (by decide) (Nat.le_of_ble_eq_true rfl) ?_
  intro p e R s m args below meth c Q A H locs ls hX hRc hRs hP hD hE hS hA hnm hl hQ
  obtain ⟨hx, hb, hr, hlk, hml, hown, hts, hRf, hRl⟩ := hX
  have hown : s.vm.findClass RX4 = some m.cls := hown
  have hK := ho.2 _ _ _ hE
  have hl : lv_has ls 4 [(0, .ref h0), (1, .int p0), (2, .int p1)] := hl
  have hc0 := hc
  obtain ⟨htw, htw6, ht, ht10, hh, hh20, hb6, hb6l, hk5, hk5l⟩ := hc
  have htc : (nI nt).toNatClampNeg = nt := nI_clamp (by omega)
  have hhc : (nI nh).toNatClampNeg = nh := nI_clamp (by omega)
  have hbc : (nI nb).toNatClampNeg = nb := nI_clamp (by omega)
  have hkc : (nI nc).toNatClampNeg = nc := nI_clamp (by omega)
  have htwc : (nI tw).toNatClampNeg = tw := nI_clamp (by omega)
  refine lv_aload_n hx hb dX4_combs_0 rfl (lv_at hl 0 rfl) ?_
  refine lv_aload_n hx hb dX4_combs_1 rfl (lv_at hl 0 rfl) ?_
  refine lv_iload_n hx hb dX4_combs_2 rfl (lv_at hl 1 rfl) ?_
  refine rcV (As := [.int p0]) (rest := [.ref h0]) (st1 := [.int (if inR p0 0 (F 0 3 - 1) then 1 else 0), .ref h0]) (mX4_isTail l g E ho h0 a I F p0) kX4_isTail q2427 hx hb hml hown hts hRf hRl ho.1 hE hS hP (va_recv hK hP (ci := 0) (q0 := 0) rfl rfl) ⟨Nat.zero_le _, Nat.zero_le _⟩ hl ⟨rfl, rfl⟩ rfl rfl (Nat.le_of_ble_eq_true rfl) rfl dX4_combs_3 ?_
  refine h_ifne_b (tgt := 13) hx hb dX4_combs_6 (by decide) (fun c_1 => ?_) (fun c_1 => ?_)
  · rw [ht] at c_1
    refine lv_iconst (v := 0) hx hb dX4_combs_13 (by decide) ?_
    refine lv_iconst (v := 2) hx hb dX4_combs_14 (by decide) ?_
    refine lv_iload_n hx hb dX4_combs_15 rfl (lv_at hl 1 rfl) ?_
    refine rcV (As := [.int 0, .int 2, .int p0]) (rest := []) (st1 := [.int 0]) (mX4_isRefused0 l g E ho h0 a I F 2 p0) kX4_isRefused q2400 hx hb hml hown hts hRf hRl ho.1 hE hS hP (va_recv hK hP (ci := 0) (q0 := 0) rfl rfl) ⟨Nat.zero_le _, Nat.zero_le _⟩ hl ⟨rfl, rfl⟩ rfl rfl (Nat.le_of_ble_eq_true rfl) rfl dX4_combs_16 ?_
    refine lv_if_ne (tgt := 122) hx hb dX4_combs_19 (by decide) (fun c => absurd c (by decide)) (fun _ => ?_)
    have hrj := c_1
    obtain ⟨j, hj, rfl⟩ := inR_ix hrj rfl (by omega)
    have hjc : (nI j).toNatClampNeg = j := nI_clamp (by omega)
    refine lv_aload_n hx hb dX4_combs_22 rfl (lv_at hl 0 rfl) ?_
    refine lv_iload_n hx hb dX4_combs_23 rfl (lv_at hl 2 rfl) ?_
    refine lv_iconst (v := 1) hx hb dX4_combs_24 (by decide) ?_
    refine lv_sipush (v := 600) hx hb dX4_combs_25 (by decide) ?_
    refine rcS (As := [.int p1, .int 1, .int 600]) (rest := [.ref h0]) (st1 := [.int (if inR p1 1 600 then 1 else 0), .ref h0]) (mX4_isIn l g E ho p1 1 600) kX4_isIn q2397 hx hb hml hown hts hRf hRl ho.1 hE hS (hP.sub [] rfl) ⟨Nat.zero_le _, Nat.zero_le _⟩ hl ⟨rfl, rfl⟩ rfl rfl (Nat.le_of_ble_eq_true rfl) rfl dX4_combs_28 ?_
    refine h_ifne_b (tgt := 38) hx hb dX4_combs_31 (by decide) (fun c_2 => ?_) (fun c_2 => ?_)
    · refine lv_iconst (v := 0) hx hb dX4_combs_38 (by decide) ?_
      refine lv_iconst (v := 3) hx hb dX4_combs_39 (by decide) ?_
      refine lv_iload_n hx hb dX4_combs_40 rfl (lv_at hl 2 rfl) ?_
      refine rcV (As := [.int 0, .int 3, .int p1]) (rest := []) (st1 := [.int 0]) (mX4_isRefused0 l g E ho h0 a I F 3 p1) kX4_isRefused q2400 hx hb hml hown hts hRf hRl ho.1 hE hS hP (va_recv hK hP (ci := 0) (q0 := 0) rfl rfl) ⟨Nat.zero_le _, Nat.zero_le _⟩ hl ⟨rfl, rfl⟩ rfl rfl (Nat.le_of_ble_eq_true rfl) rfl dX4_combs_41 ?_
      refine lv_if_ne (tgt := 122) hx hb dX4_combs_44 (by decide) (fun c => absurd c (by decide)) (fun _ => ?_)
      refine lv_aload_n hx hb dX4_combs_47 rfl (lv_at hl 0 rfl) ?_
      refine lv_aload_n hx hb dX4_combs_48 rfl (lv_at hl 0 rfl) ?_
      refine va_get (D := gD g) (ci := 0) (v := .ref (a 0)) (C := RX4) (T := TX4) (N := 21) hx hb hts in_X4 hown hK hP 0 rfl rfl 0 (by decide) (hts _ q2314) (fun _ h9 => h9) rfl dX4_combs_49 ?_
      refine lv_iload_n hx hb dX4_combs_52 rfl (lv_at hl 1 rfl) ?_
      refine lv_iconst (v := 2) hx hb dX4_combs_53 (by decide) ?_
      refine rcS (As := [.int (nI j), .int 2]) (rest := [.ref (a 0), .ref h0]) (st1 := [.int (nI (33 + 4 * j + 2)), .ref (a 0), .ref h0]) (mX4_tailAt l g E ho j 2) kX4_tailAt q2408 hx hb hml hown hts hRf hRl ho.1 hE hS (hP.sub [] rfl) ⟨Nat.zero_le _, Nat.zero_le _⟩ hl ⟨rfl, rfl⟩ rfl rfl (Nat.le_of_ble_eq_true rfl) rfl dX4_combs_54 ?_
      refine h_iald (f := (F 0)) hx hb hK hP 1 0 rfl rfl (33 + 4 * j + 2) rfl (by omega) (by decide) dX4_combs_57 ?_
      refine lv_iload_n hx hb dX4_combs_58 rfl (lv_at hl 2 rfl) ?_
      refine lv_icmp_ge (tgt := 66) hx hb dX4_combs_59 (by decide) (fun c_3 => ?_) (fun c_3 => ?_)
      · refine lv_iconst (v := 0) hx hb dX4_combs_66 (by decide) ?_
        refine lv_iconst (v := 5) hx hb dX4_combs_67 (by decide) ?_
        refine lv_aload_n hx hb dX4_combs_68 rfl (lv_at hl 0 rfl) ?_
        refine lv_iload_n hx hb dX4_combs_69 rfl (lv_at hl 1 rfl) ?_
        refine rcV (As := [.int (nI j)]) (rest := [.int 5, .int 0, .ref h0]) (st1 := [.int (if inR (nI j) 0 (F 0 3 - 1) then 1 else 0), .int 5, .int 0, .ref h0]) (mX4_isTail l g E ho h0 a I F (nI j)) kX4_isTail q2427 hx hb hml hown hts hRf hRl ho.1 hE hS hP (va_recv hK hP (ci := 0) (q0 := 0) rfl rfl) ⟨Nat.zero_le _, Nat.zero_le _⟩ hl ⟨rfl, rfl⟩ rfl rfl (Nat.le_of_ble_eq_true rfl) rfl dX4_combs_70 ?_
        refine h_ifeq_b (tgt := 89) hx hb dX4_combs_73 (by decide) (fun c => absurd (by rw [ht]; exact c_1) c) (fun _ => ?_)
        refine lv_aload_n hx hb dX4_combs_76 rfl (lv_at hl 0 rfl) ?_
        refine va_get (D := gD g) (ci := 0) (v := .ref (a 0)) (C := RX4) (T := TX4) (N := 21) hx hb hts in_X4 hown hK hP 0 rfl rfl 0 (by decide) (hts _ q2314) (fun _ h9 => h9) rfl dX4_combs_77 ?_
        refine lv_iload_n hx hb dX4_combs_80 rfl (lv_at hl 1 rfl) ?_
        refine lv_iconst (v := 2) hx hb dX4_combs_81 (by decide) ?_
        refine rcS (As := [.int (nI j), .int 2]) (rest := [.ref (a 0), .int 5, .int 0, .ref h0]) (st1 := [.int (nI (33 + 4 * j + 2)), .ref (a 0), .int 5, .int 0, .ref h0]) (mX4_tailAt l g E ho j 2) kX4_tailAt q2408 hx hb hml hown hts hRf hRl ho.1 hE hS (hP.sub [] rfl) ⟨Nat.zero_le _, Nat.zero_le _⟩ hl ⟨rfl, rfl⟩ rfl rfl (Nat.le_of_ble_eq_true rfl) rfl dX4_combs_82 ?_
        refine h_iald (f := (F 0)) hx hb hK hP 1 0 rfl rfl (33 + 4 * j + 2) rfl (by omega) (by decide) dX4_combs_85 ?_
        refine lv_goto (tgt := 90) hx hb dX4_combs_86 (by decide) ?_
        refine rcV (As := [.int 0, .int 5, .int (F 0 (33 + 4 * j + 2))]) (rest := []) (st1 := [.int 0]) (mX4_isRefused0 l g E ho h0 a I F 5 (F 0 (33 + 4 * j + 2))) kX4_isRefused q2400 hx hb hml hown hts hRf hRl ho.1 hE hS hP (va_recv hK hP (ci := 0) (q0 := 0) rfl rfl) ⟨Nat.zero_le _, Nat.zero_le _⟩ hl ⟨rfl, rfl⟩ rfl rfl (Nat.le_of_ble_eq_true rfl) rfl dX4_combs_90 ?_
        refine lv_if_ne (tgt := 122) hx hb dX4_combs_93 (by decide) (fun c => absurd c (by decide)) (fun _ => ?_)
        refine lv_aload_n hx hb dX4_combs_96 rfl (lv_at hl 0 rfl) ?_
        refine lv_aload_n hx hb dX4_combs_97 rfl (lv_at hl 0 rfl) ?_
        refine va_get (D := gD g) (ci := 0) (v := .ref (a 0)) (C := RX4) (T := TX4) (N := 21) hx hb hts in_X4 hown hK hP 0 rfl rfl 0 (by decide) (hts _ q2314) (fun _ h9 => h9) rfl dX4_combs_98 ?_
        refine lv_iconst (v := 4) hx hb dX4_combs_101 (by decide) ?_
        refine h_iald (f := (F 0)) hx hb hK hP 1 0 rfl rfl 4 rfl (by decide) (by decide) dX4_combs_102 ?_
        refine h_topi (v := nI nh) (hh) ?_
        refine lv_bipush (v := 20) hx hb dX4_combs_103 (by decide) ?_
        refine lv_icmp_ne (tgt := 112) hx hb dX4_combs_105 (by decide) (fun c_4 => ?_) (fun c_4 => ?_)
        · refine lv_iconst (v := 0) hx hb dX4_combs_112 (by decide) ?_
          refine lv_iconst (v := 1) hx hb dX4_combs_113 (by decide) ?_
          refine lv_bipush (v := 20) hx hb dX4_combs_114 (by decide) ?_
          refine rcV (As := [.int 0, .int 1, .int 20]) (rest := []) (st1 := [.int 0]) (mX4_isRefused0 l g E ho h0 a I F 1 20) kX4_isRefused q2400 hx hb hml hown hts hRf hRl ho.1 hE hS hP (va_recv hK hP (ci := 0) (q0 := 0) rfl rfl) ⟨Nat.zero_le _, Nat.zero_le _⟩ hl ⟨rfl, rfl⟩ rfl rfl (Nat.le_of_ble_eq_true rfl) rfl dX4_combs_116 ?_
          refine lv_if_eq (tgt := 124) hx hb dX4_combs_119 (by decide) (fun _ => ?_) (fun c => absurd c (by decide))
          refine lv_aload_n hx hb dX4_combs_124 rfl (lv_at hl 0 rfl) ?_
          refine va_get (D := gD g) (ci := 0) (v := .ref (a 0)) (C := RX4) (T := TX4) (N := 21) hx hb hts in_X4 hown hK hP 0 rfl rfl 0 (by decide) (hts _ q2314) (fun _ h9 => h9) rfl dX4_combs_125 ?_
          refine lv_iconst (v := 4) hx hb dX4_combs_128 (by decide) ?_
          refine h_iald (f := (F 0)) hx hb hK hP 1 0 rfl rfl 4 rfl (by decide) (by decide) dX4_combs_129 ?_
          refine h_topi (v := nI nh) (hh) ?_
          refine lv_istore_n (lv' := [(3, .int (nI nh)), (0, .ref h0), (1, .int (nI j)), (2, .int p1)]) hx hb dX4_combs_130 rfl hl (by decide) rfl (fun ls hl => ?_)
          refine lv_aload_n hx hb dX4_combs_131 rfl (lv_at hl 1 rfl) ?_
          refine va_get (D := gD g) (ci := 0) (v := .ref (a 0)) (C := RX4) (T := TX4) (N := 21) hx hb hts in_X4 hown hK hP 0 rfl rfl 0 (by decide) (hts _ q2314) (fun _ h9 => h9) rfl dX4_combs_132 ?_
          refine lv_iload_n hx hb dX4_combs_135 rfl (lv_at hl 0 rfl) ?_
          refine lv_iconst (v := 0) hx hb dX4_combs_136 (by decide) ?_
          refine rcS (As := [.int (nI nh), .int 0]) (rest := [.ref (a 0)]) (st1 := [.int (nI (73 + 4 * nh)), .ref (a 0)]) (mX4_hankAt l g E ho nh 0) kX4_hankAt q2431 hx hb hml hown hts hRf hRl ho.1 hE hS (hP.sub [] rfl) ⟨Nat.zero_le _, Nat.zero_le _⟩ hl ⟨rfl, rfl⟩ rfl rfl (Nat.le_of_ble_eq_true rfl) rfl dX4_combs_137 ?_
          refine lv_aload_n hx hb dX4_combs_140 rfl (lv_at hl 1 rfl) ?_
          refine va_get (D := gD g) (ci := 0) (v := .ref (a 0)) (C := RX4) (T := TX4) (N := 21) hx hb hts in_X4 hown hK hP 0 rfl rfl 0 (by decide) (hts _ q2314) (fun _ h9 => h9) rfl dX4_combs_141 ?_
          refine lv_iload_n hx hb dX4_combs_144 rfl (lv_at hl 2 rfl) ?_
          refine lv_iconst (v := 0) hx hb dX4_combs_145 (by decide) ?_
          refine rcS (As := [.int (nI j), .int 0]) (rest := [.ref (a 0), .int (nI (73 + 4 * nh)), .ref (a 0)]) (st1 := [.int (nI (33 + 4 * j)), .ref (a 0), .int (nI (73 + 4 * nh)), .ref (a 0)]) (mX4_tailAt l g E ho j 0) kX4_tailAt q2408 hx hb hml hown hts hRf hRl ho.1 hE hS (hP.sub [] rfl) ⟨Nat.zero_le _, Nat.zero_le _⟩ hl ⟨rfl, rfl⟩ rfl rfl (Nat.le_of_ble_eq_true rfl) rfl dX4_combs_146 ?_
          refine h_iald (f := (F 0)) hx hb hK hP 1 0 rfl rfl (33 + 4 * j) rfl (by omega) (by decide) dX4_combs_149 ?_
          refine h_iast (f := (F 0)) hx hb hK hP hD hS 1 0 rfl rfl (73 + 4 * nh) rfl (by omega) (by decide) dX4_combs_150 (fun H locs hP hD hS => ?_)
          have hP : va_P (gD g) Cl (mW g h0 a I (va_up F 0 (upd (F 0) (73 + 4 * nh) (F 0 (33 + 4 * j))))) H := hP
          have hD : va_D A (mW g h0 a I (va_up F 0 (upd (F 0) (73 + 4 * nh) (F 0 (33 + 4 * j))))) := hD
          refine lv_aload_n hx hb dX4_combs_151 rfl (lv_at hl 1 rfl) ?_
          refine va_get (D := gD g) (ci := 0) (v := .ref (a 0)) (C := RX4) (T := TX4) (N := 21) hx hb hts in_X4 hown hK hP 0 rfl rfl 0 (by decide) (hts _ q2314) (fun _ h9 => h9) rfl dX4_combs_152 ?_
          refine lv_iload_n hx hb dX4_combs_155 rfl (lv_at hl 0 rfl) ?_
          refine lv_iconst (v := 1) hx hb dX4_combs_156 (by decide) ?_
          refine rcS (As := [.int (nI nh), .int 1]) (rest := [.ref (a 0)]) (st1 := [.int (nI (73 + 4 * nh + 1)), .ref (a 0)]) (mX4_hankAt l g E ho nh 1) kX4_hankAt q2431 hx hb hml hown hts hRf hRl ho.1 hE hS (hP.sub [] rfl) ⟨Nat.zero_le _, Nat.zero_le _⟩ hl ⟨rfl, rfl⟩ rfl rfl (Nat.le_of_ble_eq_true rfl) rfl dX4_combs_157 ?_
          refine lv_aload_n hx hb dX4_combs_160 rfl (lv_at hl 1 rfl) ?_
          refine lv_iload_n hx hb dX4_combs_161 rfl (lv_at hl 2 rfl) ?_
          refine rcV (As := [.int (nI j)]) (rest := [.int (nI (73 + 4 * nh + 1)), .ref (a 0)]) (st1 := [.int (nextL (upd (F 0) (73 + 4 * nh) (F 0 (33 + 4 * j))) j), .int (nI (73 + 4 * nh + 1)), .ref (a 0)]) (mX4_nextLength l g E ho h0 a I (va_up F 0 (upd (F 0) (73 + 4 * nh) (F 0 (33 + 4 * j)))) j (by omega)) kX4_nextLength q2434 hx hb hml hown hts hRf hRl ho.1 hE hS hP (va_recv hK hP (ci := 0) (q0 := 0) rfl rfl) ⟨Nat.zero_le _, Nat.zero_le _⟩ hl ⟨rfl, rfl⟩ rfl rfl (Nat.le_of_ble_eq_true rfl) rfl dX4_combs_162 ?_
          refine h_topi (v := nextL (F 0) j) (by rw [nextL_un (by omega) (by omega)]) ?_
          refine h_iast (f := (upd (F 0) (73 + 4 * nh) (F 0 (33 + 4 * j)))) hx hb hK hP hD hS 1 0 rfl rfl (73 + 4 * nh + 1) rfl (by omega) (by decide) dX4_combs_165 (fun H locs hP hD hS => ?_)
          have hP : va_P (gD g) Cl (mW g h0 a I (va_up F 0 (upd (upd (F 0) (73 + 4 * nh) (F 0 (33 + 4 * j))) (73 + 4 * nh + 1) (nextL (F 0) j)))) H := hP
          have hD : va_D A (mW g h0 a I (va_up F 0 (upd (upd (F 0) (73 + 4 * nh) (F 0 (33 + 4 * j))) (73 + 4 * nh + 1) (nextL (F 0) j)))) := hD
          refine lv_aload_n hx hb dX4_combs_166 rfl (lv_at hl 1 rfl) ?_
          refine va_get (D := gD g) (ci := 0) (v := .ref (a 0)) (C := RX4) (T := TX4) (N := 21) hx hb hts in_X4 hown hK hP 0 rfl rfl 0 (by decide) (hts _ q2314) (fun _ h9 => h9) rfl dX4_combs_167 ?_
          refine lv_iload_n hx hb dX4_combs_170 rfl (lv_at hl 0 rfl) ?_
          refine lv_iconst (v := 2) hx hb dX4_combs_171 (by decide) ?_
          refine rcS (As := [.int (nI nh), .int 2]) (rest := [.ref (a 0)]) (st1 := [.int (nI (73 + 4 * nh + 2)), .ref (a 0)]) (mX4_hankAt l g E ho nh 2) kX4_hankAt q2431 hx hb hml hown hts hRf hRl ho.1 hE hS (hP.sub [] rfl) ⟨Nat.zero_le _, Nat.zero_le _⟩ hl ⟨rfl, rfl⟩ rfl rfl (Nat.le_of_ble_eq_true rfl) rfl dX4_combs_172 ?_
          refine lv_iload_n hx hb dX4_combs_175 rfl (lv_at hl 3 rfl) ?_
          refine h_iast (f := (upd (upd (F 0) (73 + 4 * nh) (F 0 (33 + 4 * j))) (73 + 4 * nh + 1) (nextL (F 0) j))) hx hb hK hP hD hS 1 0 rfl rfl (73 + 4 * nh + 2) rfl (by omega) (by decide) dX4_combs_176 (fun H locs hP hD hS => ?_)
          have hP : va_P (gD g) Cl (mW g h0 a I (va_up F 0 (upd (upd (upd (F 0) (73 + 4 * nh) (F 0 (33 + 4 * j))) (73 + 4 * nh + 1) (nextL (F 0) j)) (73 + 4 * nh + 2) p1))) H := hP
          have hD : va_D A (mW g h0 a I (va_up F 0 (upd (upd (upd (F 0) (73 + 4 * nh) (F 0 (33 + 4 * j))) (73 + 4 * nh + 1) (nextL (F 0) j)) (73 + 4 * nh + 2) p1))) := hD
          refine lv_aload_n hx hb dX4_combs_177 rfl (lv_at hl 1 rfl) ?_
          refine va_get (D := gD g) (ci := 0) (v := .ref (a 0)) (C := RX4) (T := TX4) (N := 21) hx hb hts in_X4 hown hK hP 0 rfl rfl 0 (by decide) (hts _ q2314) (fun _ h9 => h9) rfl dX4_combs_178 ?_
          refine lv_iload_n hx hb dX4_combs_181 rfl (lv_at hl 0 rfl) ?_
          refine lv_iconst (v := 3) hx hb dX4_combs_182 (by decide) ?_
          refine rcS (As := [.int (nI nh), .int 3]) (rest := [.ref (a 0)]) (st1 := [.int (nI (73 + 4 * nh + 3)), .ref (a 0)]) (mX4_hankAt l g E ho nh 3) kX4_hankAt q2431 hx hb hml hown hts hRf hRl ho.1 hE hS (hP.sub [] rfl) ⟨Nat.zero_le _, Nat.zero_le _⟩ hl ⟨rfl, rfl⟩ rfl rfl (Nat.le_of_ble_eq_true rfl) rfl dX4_combs_183 ?_
          refine lv_iload_n hx hb dX4_combs_186 rfl (lv_at hl 2 rfl) ?_
          refine h_iast (f := (upd (upd (upd (F 0) (73 + 4 * nh) (F 0 (33 + 4 * j))) (73 + 4 * nh + 1) (nextL (F 0) j)) (73 + 4 * nh + 2) p1)) hx hb hK hP hD hS 1 0 rfl rfl (73 + 4 * nh + 3) rfl (by omega) (by decide) dX4_combs_187 (fun H locs hP hD hS => ?_)
          have hP : va_P (gD g) Cl (mW g h0 a I (va_up F 0 (upd (upd (upd (upd (F 0) (73 + 4 * nh) (F 0 (33 + 4 * j))) (73 + 4 * nh + 1) (nextL (F 0) j)) (73 + 4 * nh + 2) p1) (73 + 4 * nh + 3) (nI j)))) H := hP
          have hD : va_D A (mW g h0 a I (va_up F 0 (upd (upd (upd (upd (F 0) (73 + 4 * nh) (F 0 (33 + 4 * j))) (73 + 4 * nh + 1) (nextL (F 0) j)) (73 + 4 * nh + 2) p1) (73 + 4 * nh + 3) (nI j)))) := hD
          refine lv_aload_n hx hb dX4_combs_188 rfl (lv_at hl 1 rfl) ?_
          refine va_get (D := gD g) (ci := 0) (v := .ref (a 0)) (C := RX4) (T := TX4) (N := 21) hx hb hts in_X4 hown hK hP 0 rfl rfl 0 (by decide) (hts _ q2314) (fun _ h9 => h9) rfl dX4_combs_189 ?_
          refine lv_iconst (v := 4) hx hb dX4_combs_192 (by decide) ?_
          refine lv_dup2_11 hx hb dX4_combs_193 rfl rfl ?_
          refine h_iald (f := (upd (upd (upd (upd (F 0) (73 + 4 * nh) (F 0 (33 + 4 * j))) (73 + 4 * nh + 1) (nextL (F 0) j)) (73 + 4 * nh + 2) p1) (73 + 4 * nh + 3) (nI j))) hx hb hK hP 1 0 rfl rfl 4 rfl (by decide) (by decide) dX4_combs_194 ?_
          refine h_topi (v := F 0 4) (by rw [pk_un (by omega), pk_un (by omega), pk_un (by omega), pk_un (by omega)]) ?_
          refine h_topi (v := nI nh) (hh) ?_
          refine lv_iconst (v := 1) hx hb dX4_combs_195 (by decide) ?_
          refine lv_iadd hx hb dX4_combs_196 ?_
          refine h_topi (v := nI (nh + 1)) (h_nadd (a := nh) (b := 1) (rfl) (rfl)) ?_
          refine h_iast (f := (upd (upd (upd (upd (F 0) (73 + 4 * nh) (F 0 (33 + 4 * j))) (73 + 4 * nh + 1) (nextL (F 0) j)) (73 + 4 * nh + 2) p1) (73 + 4 * nh + 3) (nI j))) hx hb hK hP hD hS 1 0 rfl rfl 4 rfl (by decide) (by decide) dX4_combs_197 (fun H locs hP hD hS => ?_)
          have hP : va_P (gD g) Cl (mW g h0 a I (va_up F 0 (upd (upd (upd (upd (upd (F 0) (73 + 4 * nh) (F 0 (33 + 4 * j))) (73 + 4 * nh + 1) (nextL (F 0) j)) (73 + 4 * nh + 2) p1) (73 + 4 * nh + 3) (nI j)) 4 (nI (nh + 1))))) H := hP
          have hD : va_D A (mW g h0 a I (va_up F 0 (upd (upd (upd (upd (upd (F 0) (73 + 4 * nh) (F 0 (33 + 4 * j))) (73 + 4 * nh + 1) (nextL (F 0) j)) (73 + 4 * nh + 2) p1) (73 + 4 * nh + 3) (nI j)) 4 (nI (nh + 1))))) := hD
          refine lv_aload_n hx hb dX4_combs_198 rfl (lv_at hl 1 rfl) ?_
          refine va_get (D := gD g) (ci := 0) (v := .ref (a 0)) (C := RX4) (T := TX4) (N := 21) hx hb hts in_X4 hown hK hP 0 rfl rfl 0 (by decide) (hts _ q2314) (fun _ h9 => h9) rfl dX4_combs_199 ?_
          refine lv_iload_n hx hb dX4_combs_202 rfl (lv_at hl 2 rfl) ?_
          refine lv_iconst (v := 2) hx hb dX4_combs_203 (by decide) ?_
          refine rcS (As := [.int (nI j), .int 2]) (rest := [.ref (a 0)]) (st1 := [.int (nI (33 + 4 * j + 2)), .ref (a 0)]) (mX4_tailAt l g E ho j 2) kX4_tailAt q2408 hx hb hml hown hts hRf hRl ho.1 hE hS (hP.sub [] rfl) ⟨Nat.zero_le _, Nat.zero_le _⟩ hl ⟨rfl, rfl⟩ rfl rfl (Nat.le_of_ble_eq_true rfl) rfl dX4_combs_204 ?_
          refine lv_dup2_11 hx hb dX4_combs_207 rfl rfl ?_
          refine h_iald (f := (upd (upd (upd (upd (upd (F 0) (73 + 4 * nh) (F 0 (33 + 4 * j))) (73 + 4 * nh + 1) (nextL (F 0) j)) (73 + 4 * nh + 2) p1) (73 + 4 * nh + 3) (nI j)) 4 (nI (nh + 1)))) hx hb hK hP 1 0 rfl rfl (33 + 4 * j + 2) rfl (by omega) (by decide) dX4_combs_208 ?_
          refine h_topi (v := F 0 (33 + 4 * j + 2)) (by rw [pk_un (by omega), pk_un (by omega), pk_un (by omega), pk_un (by omega), pk_un (by omega)]) ?_
          refine lv_iload_n hx hb dX4_combs_209 rfl (lv_at hl 3 rfl) ?_
          refine lv_isub hx hb dX4_combs_210 ?_
          refine h_iast (f := (upd (upd (upd (upd (upd (F 0) (73 + 4 * nh) (F 0 (33 + 4 * j))) (73 + 4 * nh + 1) (nextL (F 0) j)) (73 + 4 * nh + 2) p1) (73 + 4 * nh + 3) (nI j)) 4 (nI (nh + 1)))) hx hb hK hP hD hS 1 0 rfl rfl (33 + 4 * j + 2) rfl (by omega) (by decide) dX4_combs_211 (fun H locs hP hD hS => ?_)
          have hP : va_P (gD g) Cl (mW g h0 a I (va_up F 0 (upd (upd (upd (upd (upd (upd (F 0) (73 + 4 * nh) (F 0 (33 + 4 * j))) (73 + 4 * nh + 1) (nextL (F 0) j)) (73 + 4 * nh + 2) p1) (73 + 4 * nh + 3) (nI j)) 4 (nI (nh + 1))) (33 + 4 * j + 2) ((F 0 (33 + 4 * j + 2)) - p1)))) H := hP
          have hD : va_D A (mW g h0 a I (va_up F 0 (upd (upd (upd (upd (upd (upd (F 0) (73 + 4 * nh) (F 0 (33 + 4 * j))) (73 + 4 * nh + 1) (nextL (F 0) j)) (73 + 4 * nh + 2) p1) (73 + 4 * nh + 3) (nI j)) 4 (nI (nh + 1))) (33 + 4 * j + 2) ((F 0 (33 + 4 * j + 2)) - p1)))) := hD
          refine lv_aload_n hx hb dX4_combs_212 rfl (lv_at hl 1 rfl) ?_
          refine va_get (D := gD g) (ci := 0) (v := .ref (a 0)) (C := RX4) (T := TX4) (N := 21) hx hb hts in_X4 hown hK hP 0 rfl rfl 0 (by decide) (hts _ q2314) (fun _ h9 => h9) rfl dX4_combs_213 ?_
          refine lv_iload_n hx hb dX4_combs_216 rfl (lv_at hl 2 rfl) ?_
          refine lv_iconst (v := 3) hx hb dX4_combs_217 (by decide) ?_
          refine rcS (As := [.int (nI j), .int 3]) (rest := [.ref (a 0)]) (st1 := [.int (nI (33 + 4 * j + 3)), .ref (a 0)]) (mX4_tailAt l g E ho j 3) kX4_tailAt q2408 hx hb hml hown hts hRf hRl ho.1 hE hS (hP.sub [] rfl) ⟨Nat.zero_le _, Nat.zero_le _⟩ hl ⟨rfl, rfl⟩ rfl rfl (Nat.le_of_ble_eq_true rfl) rfl dX4_combs_218 ?_
          refine lv_dup2_11 hx hb dX4_combs_221 rfl rfl ?_
          refine h_iald (f := (upd (upd (upd (upd (upd (upd (F 0) (73 + 4 * nh) (F 0 (33 + 4 * j))) (73 + 4 * nh + 1) (nextL (F 0) j)) (73 + 4 * nh + 2) p1) (73 + 4 * nh + 3) (nI j)) 4 (nI (nh + 1))) (33 + 4 * j + 2) ((F 0 (33 + 4 * j + 2)) - p1))) hx hb hK hP 1 0 rfl rfl (33 + 4 * j + 3) rfl (by omega) (by decide) dX4_combs_222 ?_
          refine h_topi (v := F 0 (33 + 4 * j + 3)) (by rw [pk_un (by omega), pk_un (by omega), pk_un (by omega), pk_un (by omega), pk_un (by omega), pk_un (by omega)]) ?_
          refine lv_iconst (v := 1) hx hb dX4_combs_223 (by decide) ?_
          refine lv_iadd hx hb dX4_combs_224 ?_
          refine h_iast (f := (upd (upd (upd (upd (upd (upd (F 0) (73 + 4 * nh) (F 0 (33 + 4 * j))) (73 + 4 * nh + 1) (nextL (F 0) j)) (73 + 4 * nh + 2) p1) (73 + 4 * nh + 3) (nI j)) 4 (nI (nh + 1))) (33 + 4 * j + 2) ((F 0 (33 + 4 * j + 2)) - p1))) hx hb hK hP hD hS 1 0 rfl rfl (33 + 4 * j + 3) rfl (by omega) (by decide) dX4_combs_225 (fun H locs hP hD hS => ?_)
          have hP : va_P (gD g) Cl (mW g h0 a I (va_up F 0 (upd (upd (upd (upd (upd (upd (upd (F 0) (73 + 4 * nh) (F 0 (33 + 4 * j))) (73 + 4 * nh + 1) (nextL (F 0) j)) (73 + 4 * nh + 2) p1) (73 + 4 * nh + 3) (nI j)) 4 (nI (nh + 1))) (33 + 4 * j + 2) ((F 0 (33 + 4 * j + 2)) - p1)) (33 + 4 * j + 3) ((F 0 (33 + 4 * j + 3)) + 1)))) H := hP
          have hD : va_D A (mW g h0 a I (va_up F 0 (upd (upd (upd (upd (upd (upd (upd (F 0) (73 + 4 * nh) (F 0 (33 + 4 * j))) (73 + 4 * nh + 1) (nextL (F 0) j)) (73 + 4 * nh + 2) p1) (73 + 4 * nh + 3) (nI j)) 4 (nI (nh + 1))) (33 + 4 * j + 2) ((F 0 (33 + 4 * j + 2)) - p1)) (33 + 4 * j + 3) ((F 0 (33 + 4 * j + 3)) + 1)))) := hD
          refine lv_iload_n hx hb dX4_combs_226 rfl (lv_at hl 0 rfl) ?_
          have hop : opComb (F 0) (nI j) p1 = (0, 0, nI nh, (upd (upd (upd (upd (upd (upd (upd (F 0) (73 + 4 * nh) (F 0 (33 + 4 * j))) (73 + 4 * nh + 1) (nextL (F 0) j)) (73 + 4 * nh + 2) p1) (73 + 4 * nh + 3) (nI j)) 4 (nI (nh + 1))) (33 + 4 * j + 2) ((F 0 (33 + 4 * j + 2)) - p1)) (33 + 4 * j + 3) ((F 0 (33 + 4 * j + 3)) + 1))) := by simp only [htw, htwc, ht, htc, hh, hhc, hb6, hbc, hk5, hkc, opComb, opCombN, hjc, eq_true c_1, eq_true c_2, eq_true c_3, eq_false (Int32.not_lt.mpr c_3), eq_false c_4, if_true, if_false, not_true_eq_false, not_false_eq_true, ite_true, ite_false, reduceIte, Nat.add_zero, Nat.add_sub_cancel]
          have hW1 : (mW g h0 a I (va_up F 0 (upd (upd (upd (upd (upd (upd (upd (F 0) (73 + 4 * nh) (F 0 (33 + 4 * j))) (73 + 4 * nh + 1) (nextL (F 0) j)) (73 + 4 * nh + 2) p1) (73 + 4 * nh + 3) (nI j)) 4 (nI (nh + 1))) (33 + 4 * j + 2) ((F 0 (33 + 4 * j + 2)) - p1)) (33 + 4 * j + 3) ((F 0 (33 + 4 * j + 3)) + 1)))) = mW g h0 a (opI I (opComb (F 0) (nI j) p1)) (va_up F 0 (opComb (F 0) (nI j) p1).2.2.2) := by
            rw [hop]
            first | rfl | (simp only [opI, hup_id]; rfl)
          rw [hW1] at hP hD
          exact hm_i hQ hx hb hr hlk rfl () (by rw [hop]) trivial hP hD hS (by decide) (by decide) dX4_combs_227
        refine lv_iconst (v := 1) hx hb dX4_combs_108 (by decide) ?_
        refine lv_goto (tgt := 113) hx hb dX4_combs_109 (by decide) ?_
        refine lv_iconst (v := 1) hx hb dX4_combs_113 (by decide) ?_
        refine lv_bipush (v := 20) hx hb dX4_combs_114 (by decide) ?_
        refine mcV (As := [.int 1, .int 1, .int 20]) (rest := []) (wr := []) (mX4_isRefused1 l g E ho h0 a I F 1 20) kX4_isRefused q2400 hx hb hml hown hts hRf hRl ho.1 hE hS hP hD hA [0, 1, 2, 3, 4, 5, 6, 7, 8] [] rfl (by decide) rfl (by decide) (by decide) ⟨Nat.zero_le _, Nat.zero_le _⟩ (va_recv hK hP (ci := 0) (q0 := 0) rfl rfl) hl ⟨rfl, rfl⟩ rfl rfl (Nat.le_of_ble_eq_true rfl) dX4_combs_116 (fun _ H locs _ hP hD hS _ _ => ?_)
        have hP : va_P (gD g) Cl (mW g h0 a (refI I 1 20) F) H := hP
        have hD : va_D A (mW g h0 a (refI I 1 20) F) := hD
        refine lv_if_eq (tgt := 124) hx hb dX4_combs_119 (by decide) (fun c => absurd c (by decide)) (fun _ => ?_)
        refine lv_iconst (v := 0) hx hb dX4_combs_122 (by decide) ?_
        have hop : opComb (F 0) (nI j) p1 = (1, 20, 0, F 0) := by simp only [htw, htwc, ht, htc, hh, hhc, hb6, hbc, hk5, hkc, opComb, opCombN, hjc, eq_true c_1, eq_true c_2, eq_true c_3, eq_false (Int32.not_lt.mpr c_3), eq_true c_4, if_true, if_false, not_true_eq_false, not_false_eq_true, ite_true, ite_false, reduceIte, Nat.add_zero, Nat.add_sub_cancel]
        have hW1 : (mW g h0 a (refI I 1 20) F) = mW g h0 a (opI I (opComb (F 0) (nI j) p1)) (va_up F 0 (opComb (F 0) (nI j) p1).2.2.2) := by
          rw [hop]
          first | rfl | (simp only [opI, hup_id]; rfl)
        rw [hW1] at hP hD
        exact hm_i hQ hx hb hr hlk rfl () (by rw [hop]) trivial hP hD hS (by decide) (by decide) dX4_combs_123
      refine lv_iconst (v := 1) hx hb dX4_combs_62 (by decide) ?_
      refine lv_goto (tgt := 67) hx hb dX4_combs_63 (by decide) ?_
      refine lv_iconst (v := 5) hx hb dX4_combs_67 (by decide) ?_
      refine lv_aload_n hx hb dX4_combs_68 rfl (lv_at hl 0 rfl) ?_
      refine lv_iload_n hx hb dX4_combs_69 rfl (lv_at hl 1 rfl) ?_
      refine rcV (As := [.int (nI j)]) (rest := [.int 5, .int 1, .ref h0]) (st1 := [.int (if inR (nI j) 0 (F 0 3 - 1) then 1 else 0), .int 5, .int 1, .ref h0]) (mX4_isTail l g E ho h0 a I F (nI j)) kX4_isTail q2427 hx hb hml hown hts hRf hRl ho.1 hE hS hP (va_recv hK hP (ci := 0) (q0 := 0) rfl rfl) ⟨Nat.zero_le _, Nat.zero_le _⟩ hl ⟨rfl, rfl⟩ rfl rfl (Nat.le_of_ble_eq_true rfl) rfl dX4_combs_70 ?_
      refine h_ifeq_b (tgt := 89) hx hb dX4_combs_73 (by decide) (fun c => absurd (by rw [ht]; exact c_1) c) (fun _ => ?_)
      refine lv_aload_n hx hb dX4_combs_76 rfl (lv_at hl 0 rfl) ?_
      refine va_get (D := gD g) (ci := 0) (v := .ref (a 0)) (C := RX4) (T := TX4) (N := 21) hx hb hts in_X4 hown hK hP 0 rfl rfl 0 (by decide) (hts _ q2314) (fun _ h9 => h9) rfl dX4_combs_77 ?_
      refine lv_iload_n hx hb dX4_combs_80 rfl (lv_at hl 1 rfl) ?_
      refine lv_iconst (v := 2) hx hb dX4_combs_81 (by decide) ?_
      refine rcS (As := [.int (nI j), .int 2]) (rest := [.ref (a 0), .int 5, .int 1, .ref h0]) (st1 := [.int (nI (33 + 4 * j + 2)), .ref (a 0), .int 5, .int 1, .ref h0]) (mX4_tailAt l g E ho j 2) kX4_tailAt q2408 hx hb hml hown hts hRf hRl ho.1 hE hS (hP.sub [] rfl) ⟨Nat.zero_le _, Nat.zero_le _⟩ hl ⟨rfl, rfl⟩ rfl rfl (Nat.le_of_ble_eq_true rfl) rfl dX4_combs_82 ?_
      refine h_iald (f := (F 0)) hx hb hK hP 1 0 rfl rfl (33 + 4 * j + 2) rfl (by omega) (by decide) dX4_combs_85 ?_
      refine lv_goto (tgt := 90) hx hb dX4_combs_86 (by decide) ?_
      refine mcV (As := [.int 1, .int 5, .int (F 0 (33 + 4 * j + 2))]) (rest := []) (wr := []) (mX4_isRefused1 l g E ho h0 a I F 5 (F 0 (33 + 4 * j + 2))) kX4_isRefused q2400 hx hb hml hown hts hRf hRl ho.1 hE hS hP hD hA [0, 1, 2, 3, 4, 5, 6, 7, 8] [] rfl (by decide) rfl (by decide) (by decide) ⟨Nat.zero_le _, Nat.zero_le _⟩ (va_recv hK hP (ci := 0) (q0 := 0) rfl rfl) hl ⟨rfl, rfl⟩ rfl rfl (Nat.le_of_ble_eq_true rfl) dX4_combs_90 (fun _ H locs _ hP hD hS _ _ => ?_)
      have hP : va_P (gD g) Cl (mW g h0 a (refI I 5 (F 0 (33 + 4 * j + 2))) F) H := hP
      have hD : va_D A (mW g h0 a (refI I 5 (F 0 (33 + 4 * j + 2))) F) := hD
      refine lv_if_ne (tgt := 122) hx hb dX4_combs_93 (by decide) (fun _ => ?_) (fun c => absurd c (by decide))
      refine lv_iconst (v := 0) hx hb dX4_combs_122 (by decide) ?_
      have hop : opComb (F 0) (nI j) p1 = (5, (F 0 (33 + 4 * j + 2)), 0, F 0) := by simp only [htw, htwc, ht, htc, hh, hhc, hb6, hbc, hk5, hkc, opComb, opCombN, hjc, eq_true c_1, eq_true c_2, eq_false c_3, eq_true (Int32.not_le.mp c_3), if_true, if_false, not_true_eq_false, not_false_eq_true, ite_true, ite_false, reduceIte, Nat.add_zero, Nat.add_sub_cancel]
      have hW1 : (mW g h0 a (refI I 5 (F 0 (33 + 4 * j + 2))) F) = mW g h0 a (opI I (opComb (F 0) (nI j) p1)) (va_up F 0 (opComb (F 0) (nI j) p1).2.2.2) := by
        rw [hop]
        first | rfl | (simp only [opI, hup_id]; rfl)
      rw [hW1] at hP hD
      exact hm_i hQ hx hb hr hlk rfl () (by rw [hop]) trivial hP hD hS (by decide) (by decide) dX4_combs_123
    refine lv_iconst (v := 1) hx hb dX4_combs_34 (by decide) ?_
    refine lv_goto (tgt := 39) hx hb dX4_combs_35 (by decide) ?_
    refine lv_iconst (v := 3) hx hb dX4_combs_39 (by decide) ?_
    refine lv_iload_n hx hb dX4_combs_40 rfl (lv_at hl 2 rfl) ?_
    refine mcV (As := [.int 1, .int 3, .int p1]) (rest := []) (wr := []) (mX4_isRefused1 l g E ho h0 a I F 3 p1) kX4_isRefused q2400 hx hb hml hown hts hRf hRl ho.1 hE hS hP hD hA [0, 1, 2, 3, 4, 5, 6, 7, 8] [] rfl (by decide) rfl (by decide) (by decide) ⟨Nat.zero_le _, Nat.zero_le _⟩ (va_recv hK hP (ci := 0) (q0 := 0) rfl rfl) hl ⟨rfl, rfl⟩ rfl rfl (Nat.le_of_ble_eq_true rfl) dX4_combs_41 (fun _ H locs _ hP hD hS _ _ => ?_)
    have hP : va_P (gD g) Cl (mW g h0 a (refI I 3 p1) F) H := hP
    have hD : va_D A (mW g h0 a (refI I 3 p1) F) := hD
    refine lv_if_ne (tgt := 122) hx hb dX4_combs_44 (by decide) (fun _ => ?_) (fun c => absurd c (by decide))
    refine lv_iconst (v := 0) hx hb dX4_combs_122 (by decide) ?_
    have hop : opComb (F 0) (nI j) p1 = (3, p1, 0, F 0) := by simp only [htw, htwc, ht, htc, hh, hhc, hb6, hbc, hk5, hkc, opComb, opCombN, hjc, eq_true c_1, eq_false c_2, if_true, if_false, not_true_eq_false, not_false_eq_true, ite_true, ite_false, reduceIte, Nat.add_zero, Nat.add_sub_cancel]
    have hW1 : (mW g h0 a (refI I 3 p1) F) = mW g h0 a (opI I (opComb (F 0) (nI j) p1)) (va_up F 0 (opComb (F 0) (nI j) p1).2.2.2) := by
      rw [hop]
      first | rfl | (simp only [opI, hup_id]; rfl)
    rw [hW1] at hP hD
    exact hm_i hQ hx hb hr hlk rfl () (by rw [hop]) trivial hP hD hS (by decide) (by decide) dX4_combs_123
  rw [ht] at c_1
  refine lv_iconst (v := 1) hx hb dX4_combs_9 (by decide) ?_
  refine lv_goto (tgt := 14) hx hb dX4_combs_10 (by decide) ?_
  refine lv_iconst (v := 2) hx hb dX4_combs_14 (by decide) ?_
  refine lv_iload_n hx hb dX4_combs_15 rfl (lv_at hl 1 rfl) ?_
  refine mcV (As := [.int 1, .int 2, .int p0]) (rest := []) (wr := []) (mX4_isRefused1 l g E ho h0 a I F 2 p0) kX4_isRefused q2400 hx hb hml hown hts hRf hRl ho.1 hE hS hP hD hA [0, 1, 2, 3, 4, 5, 6, 7, 8] [] rfl (by decide) rfl (by decide) (by decide) ⟨Nat.zero_le _, Nat.zero_le _⟩ (va_recv hK hP (ci := 0) (q0 := 0) rfl rfl) hl ⟨rfl, rfl⟩ rfl rfl (Nat.le_of_ble_eq_true rfl) dX4_combs_16 (fun _ H locs _ hP hD hS _ _ => ?_)
  have hP : va_P (gD g) Cl (mW g h0 a (refI I 2 p0) F) H := hP
  have hD : va_D A (mW g h0 a (refI I 2 p0) F) := hD
  refine lv_if_ne (tgt := 122) hx hb dX4_combs_19 (by decide) (fun _ => ?_) (fun c => absurd c (by decide))
  refine lv_iconst (v := 0) hx hb dX4_combs_122 (by decide) ?_
  have hop : opComb (F 0) p0 p1 = (2, p0, 0, F 0) := by simp only [htw, htwc, ht, htc, hh, hhc, hb6, hbc, hk5, hkc, opComb, opCombN, eq_false c_1, if_true, if_false, not_true_eq_false, not_false_eq_true, ite_true, ite_false, reduceIte, Nat.add_zero, Nat.add_sub_cancel]
  have hW1 : (mW g h0 a (refI I 2 p0) F) = mW g h0 a (opI I (opComb (F 0) p0 p1)) (va_up F 0 (opComb (F 0) p0 p1).2.2.2) := by
    rw [hop]
    first | rfl | (simp only [opI, hup_id]; rfl)
  rw [hW1] at hP hD
  exact hm_i hQ hx hb hr hlk rfl () (by rw [hop]) trivial hP hD hS (by decide) (by decide) dX4_combs_123
theorem kX4_goes : hkV RX4 yX4_goes cX4_goes 3 none 1 := ⟨q2462, qs35, q78, q2463, rfl, by decide +kernel⟩
set_option maxHeartbeats 4000000 in
theorem mX4_goes (l : Launch) (g : hG) (E : hEnv) (ho : mOk g E) (h0 : Nat) (a : Nat → Nat) (I : Nat → Int32) (F : Nat → Nat → Int32) (j : Nat) (nt : Nat) (nh : Nat) (nb : Nat) (nc : Nat) (tw : Nat) (hc : Cn (F 0) nt nh nb nc tw) (hj : j < nh) : MM l yX4_goes cX4_goes 3 none 1 21 0 0 [.ref h0, .int (nI j)] g E (mW g h0 a I F) (S := Unit) (fun _ => none) (fun _ => True) (fun _ => mW g h0 a I (va_up F 0 (goS (F 0) j nh))) := by
  refine MM.mk (by decide) (Nat.le_of_ble_eq_true rfl) ?_
  intro p e R s m args below meth c Q A H locs ls hX hRc hRs hP hD hE hS hA hnm hl hQ
  obtain ⟨hx, hb, hr, hlk, hml, hown, hts, hRf, hRl⟩ := hX
  have hown : s.vm.findClass RX4 = some m.cls := hown
  have hK := ho.2 _ _ _ hE
  have hl : lv_has ls 3 [(0, .ref h0), (1, .int (nI j))] := hl
  have hc0 := hc
  obtain ⟨htw, htw6, ht, ht10, hh, hh20, hb6, hb6l, hk5, hk5l⟩ := hc
  have htc : (nI nt).toNatClampNeg = nt := nI_clamp (by omega)
  have hhc : (nI nh).toNatClampNeg = nh := nI_clamp (by omega)
  have hbc : (nI nb).toNatClampNeg = nb := nI_clamp (by omega)
  have hkc : (nI nc).toNatClampNeg = nc := nI_clamp (by omega)
  have htwc : (nI tw).toNatClampNeg = tw := nI_clamp (by omega)
  refine lv_iload_n hx hb dX4_goes_0 rfl (lv_at hl 1 rfl) ?_
  refine lv_iconst (v := 0) hx hb dX4_goes_1 (by decide) ?_
  refine rcS (As := [.int (nI j), .int 0]) (rest := []) (st1 := [.int (nI (73 + 4 * j))]) (mX4_hankAt l g E ho j 0) kX4_hankAt q2431 hx hb hml hown hts hRf hRl ho.1 hE hS (hP.sub [] rfl) ⟨Nat.zero_le _, Nat.zero_le _⟩ hl ⟨rfl, rfl⟩ rfl rfl (Nat.le_of_ble_eq_true rfl) rfl dX4_goes_2 ?_
  refine lv_istore_n (lv' := [(2, .int (nI (73 + 4 * j))), (0, .ref h0), (1, .int (nI j))]) hx hb dX4_goes_5 rfl hl (by decide) rfl (fun ls hl => ?_)
  have loop_6 : ∀ (k : Nat) (i : Nat), (4 * (nh - 1 - j) < i + k ∧ i ≤ 4 * (nh - 1 - j)) → ∀ (H : Heap) (locs : List Loc), va_P (gD g) Cl (mW g h0 a I (va_up F 0 (goH (F 0) (73 + 4 * j) i))) H → va_D A (mW g h0 a I (va_up F 0 (goH (F 0) (73 + 4 * j) i))) → va_S A s.heap H locs → ∀ (ls : Array Slot), lv_has ls 3 [(2, .int (nI (73 + 4 * j + i))), (0, .ref h0), (1, .int (nI j))] → W p l e R s m args below meth c H locs 0 0 Q (F0 m 6 ls []) := by
    intro k
    induction k with
    | zero =>
      intro i hi H locs hP hD hS ls hl
      exact absurd hi (by omega)
    | succ k ih_6 =>
      intro i hi H locs hP hD hS ls hl
      refine lv_iload_n hx hb dX4_goes_6 rfl (lv_at hl 0 rfl) ?_
      refine lv_aload_n hx hb dX4_goes_7 rfl (lv_at hl 1 rfl) ?_
      refine va_get (D := gD g) (ci := 0) (v := .ref (a 0)) (C := RX4) (T := TX4) (N := 21) hx hb hts in_X4 hown hK hP 0 rfl rfl 0 (by decide) (hts _ q2314) (fun _ h9 => h9) rfl dX4_goes_8 ?_
      refine lv_iconst (v := 4) hx hb dX4_goes_11 (by decide) ?_
      refine h_iald (f := (goH (F 0) (73 + 4 * j) i)) hx hb hK hP 1 0 rfl rfl 4 rfl (by decide) (by decide) dX4_goes_12 ?_
      refine h_topi (v := nI nh) ((goH_lo (F 0) (73 + 4 * j) i 4 (by omega)).trans hh) ?_
      refine lv_iconst (v := 1) hx hb dX4_goes_13 (by decide) ?_
      refine lv_isub hx hb dX4_goes_14 ?_
      refine h_topi (v := nI (nh - 1)) (h_nsub (a := nh) (b := 1) (rfl) (rfl) (by omega)) ?_
      refine lv_iconst (v := 0) hx hb dX4_goes_15 (by decide) ?_
      refine rcS (As := [.int (nI (nh - 1)), .int 0]) (rest := [.int (nI (73 + 4 * j + i))]) (st1 := [.int (nI (73 + 4 * (nh - 1))), .int (nI (73 + 4 * j + i))]) (mX4_hankAt l g E ho (nh - 1) 0) kX4_hankAt q2431 hx hb hml hown hts hRf hRl ho.1 hE hS (hP.sub [] rfl) ⟨Nat.zero_le _, Nat.zero_le _⟩ hl ⟨rfl, rfl⟩ rfl rfl (Nat.le_of_ble_eq_true rfl) rfl dX4_goes_16 ?_
      refine lv_icmp_ge (tgt := 42) hx hb dX4_goes_19 (by decide) (fun c_1 => ?_) (fun c_1 => ?_)
      · have hge : i = 4 * (nh - 1 - j) := by
          rcases Nat.lt_or_ge i (4 * (nh - 1 - j)) with q | q
          · exact absurd c_1 (nI_ge (a := 73 + 4 * j + i) (b := 73 + 4 * (nh - 1)) (by omega) (by omega))
          · omega
        subst hge
        refine lv_aload_n hx hb dX4_goes_42 rfl (lv_at hl 1 rfl) ?_
        refine va_get (D := gD g) (ci := 0) (v := .ref (a 0)) (C := RX4) (T := TX4) (N := 21) hx hb hts in_X4 hown hK hP 0 rfl rfl 0 (by decide) (hts _ q2314) (fun _ h9 => h9) rfl dX4_goes_43 ?_
        refine lv_iconst (v := 4) hx hb dX4_goes_46 (by decide) ?_
        refine lv_dup2_11 hx hb dX4_goes_47 rfl rfl ?_
        refine h_iald (f := (goH (F 0) (73 + 4 * j) (4 * (nh - 1 - j)))) hx hb hK hP 1 0 rfl rfl 4 rfl (by decide) (by decide) dX4_goes_48 ?_
        refine h_topi (v := nI nh) ((goH_lo (F 0) (73 + 4 * j) (4 * (nh - 1 - j)) 4 (by omega)).trans hh) ?_
        refine lv_iconst (v := 1) hx hb dX4_goes_49 (by decide) ?_
        refine lv_isub hx hb dX4_goes_50 ?_
        refine h_topi (v := nI (nh - 1)) (h_nsub (a := nh) (b := 1) (rfl) (rfl) (by omega)) ?_
        refine h_iast (f := (goH (F 0) (73 + 4 * j) (4 * (nh - 1 - j)))) hx hb hK hP hD hS 1 0 rfl rfl 4 rfl (by decide) (by decide) dX4_goes_51 (fun H locs hP hD hS => ?_)
        have hP : va_P (gD g) Cl (mW g h0 a I (va_up F 0 (upd (goH (F 0) (73 + 4 * j) (4 * (nh - 1 - j))) 4 (nI (nh - 1))))) H := hP
        have hD : va_D A (mW g h0 a I (va_up F 0 (upd (goH (F 0) (73 + 4 * j) (4 * (nh - 1 - j))) 4 (nI (nh - 1))))) := hD
        have hW1 : (mW g h0 a I (va_up F 0 (upd (goH (F 0) (73 + 4 * j) (4 * (nh - 1 - j))) 4 (nI (nh - 1))))) = mW g h0 a I (va_up F 0 (goS (F 0) j nh)) := rfl
        rw [hW1] at hP hD
        exact hm_v hQ hx hb hr hlk () rfl trivial hP hD hS (by decide) (by decide) dX4_goes_52
      have hlt : i < 4 * (nh - 1 - j) := by
        rcases Nat.lt_or_ge i (4 * (nh - 1 - j)) with q | q
        · exact q
        · exact absurd (nI_le (a := 73 + 4 * (nh - 1)) (b := 73 + 4 * j + i) (by omega) (by omega)) c_1
      refine lv_aload_n hx hb dX4_goes_22 rfl (lv_at hl 1 rfl) ?_
      refine va_get (D := gD g) (ci := 0) (v := .ref (a 0)) (C := RX4) (T := TX4) (N := 21) hx hb hts in_X4 hown hK hP 0 rfl rfl 0 (by decide) (hts _ q2314) (fun _ h9 => h9) rfl dX4_goes_23 ?_
      refine lv_iload_n hx hb dX4_goes_26 rfl (lv_at hl 0 rfl) ?_
      refine lv_aload_n hx hb dX4_goes_27 rfl (lv_at hl 1 rfl) ?_
      refine va_get (D := gD g) (ci := 0) (v := .ref (a 0)) (C := RX4) (T := TX4) (N := 21) hx hb hts in_X4 hown hK hP 0 rfl rfl 0 (by decide) (hts _ q2314) (fun _ h9 => h9) rfl dX4_goes_28 ?_
      refine lv_iload_n hx hb dX4_goes_31 rfl (lv_at hl 0 rfl) ?_
      refine lv_iconst (v := 4) hx hb dX4_goes_32 (by decide) ?_
      refine lv_iadd hx hb dX4_goes_33 ?_
      refine h_topi (v := nI (73 + 4 * j + i + 4)) (h_nadd (a := 73 + 4 * j + i) (b := 4) (rfl) (rfl)) ?_
      refine h_iald (f := (goH (F 0) (73 + 4 * j) i)) hx hb hK hP 1 0 rfl rfl (73 + 4 * j + i + 4) rfl (by omega) (by decide) dX4_goes_34 ?_
      refine h_iast (f := (goH (F 0) (73 + 4 * j) i)) hx hb hK hP hD hS 1 0 rfl rfl (73 + 4 * j + i) rfl (by omega) (by decide) dX4_goes_35 (fun H locs hP hD hS => ?_)
      have hP : va_P (gD g) Cl (mW g h0 a I (va_up F 0 (upd (goH (F 0) (73 + 4 * j) i) (73 + 4 * j + i) ((goH (F 0) (73 + 4 * j) i) (73 + 4 * j + i + 4))))) H := hP
      have hD : va_D A (mW g h0 a I (va_up F 0 (upd (goH (F 0) (73 + 4 * j) i) (73 + 4 * j + i) ((goH (F 0) (73 + 4 * j) i) (73 + 4 * j + i + 4))))) := hD
      refine lv_iinc (v := nI (73 + 4 * j + i + 1)) (lv' := [(2, .int (nI (73 + 4 * j + i + 1))), (0, .ref h0), (1, .int (nI j))]) hx hb dX4_goes_36 hl (k := 0) rfl (h_ninc (a := 73 + 4 * j + i) (k := 1) (rfl)) (by decide) rfl (fun ls hl => ?_)
      refine lv_goto (tgt := 6) hx hb dX4_goes_39 (by decide) ?_
      rw [goH_s] at hP hD
      exact ih_6 (i + 1) (by omega) H locs hP hD hS ls (lv_sub hl [0, 1, 2] rfl)
  have hg0 : F = va_up F 0 (goH (F 0) (73 + 4 * j) 0) := by rw [goH_0, hup_id]
  rw [hg0] at hP hD
  exact loop_6 (4 * (nh - 1 - j) + 1) 0 (by omega) H locs hP hD hS ls (lv_sub hl [0, 1, 2] rfl)
theorem kX4_loses : hkV RX4 yX4_loses cX4_loses 3 none 2 := ⟨q2477, qs37, q78, q2478, rfl, by decide +kernel⟩
set_option maxHeartbeats 4000000 in
theorem mX4_loses (l : Launch) (g : hG) (E : hEnv) (ho : mOk g E) (h0 : Nat) (a : Nat → Nat) (I : Nat → Int32) (F : Nat → Nat → Int32) (j : Nat) (v : Int32) (nt : Nat) (nh : Nat) (nb : Nat) (nc : Nat) (tw : Nat) (hc : Cn (F 0) nt nh nb nc tw) (hj : j < nh) : MM l yX4_loses cX4_loses 3 none 2 43 0 0 [.ref h0, .int (nI j), .int v] g E (mW g h0 a I F) (S := Unit) (fun _ => none) (fun _ => True) (fun _ => mW g h0 a I (va_up F 0 (loseS (F 0) j nh v))) := by
  refine MM.mk (by decide) (Nat.le_of_ble_eq_true rfl) ?_
  intro p e R s m args below meth c Q A H locs ls hX hRc hRs hP hD hE hS hA hnm hl hQ
  obtain ⟨hx, hb, hr, hlk, hml, hown, hts, hRf, hRl⟩ := hX
  have hown : s.vm.findClass RX4 = some m.cls := hown
  have hK := ho.2 _ _ _ hE
  have hl : lv_has ls 3 [(0, .ref h0), (1, .int (nI j)), (2, .int v)] := hl
  have hc0 := hc
  obtain ⟨htw, htw6, ht, ht10, hh, hh20, hb6, hb6l, hk5, hk5l⟩ := hc
  have htc : (nI nt).toNatClampNeg = nt := nI_clamp (by omega)
  have hhc : (nI nh).toNatClampNeg = nh := nI_clamp (by omega)
  have hbc : (nI nb).toNatClampNeg = nb := nI_clamp (by omega)
  have hkc : (nI nc).toNatClampNeg = nc := nI_clamp (by omega)
  have htwc : (nI tw).toNatClampNeg = tw := nI_clamp (by omega)
  refine lv_aload_n hx hb dX4_loses_0 rfl (lv_at hl 0 rfl) ?_
  refine va_get (D := gD g) (ci := 0) (v := .ref (a 0)) (C := RX4) (T := TX4) (N := 21) hx hb hts in_X4 hown hK hP 0 rfl rfl 0 (by decide) (hts _ q2314) (fun _ h9 => h9) rfl dX4_loses_1 ?_
  refine lv_iload_n hx hb dX4_loses_4 rfl (lv_at hl 1 rfl) ?_
  refine lv_iconst (v := 2) hx hb dX4_loses_5 (by decide) ?_
  refine rcS (As := [.int (nI j), .int 2]) (rest := [.ref (a 0)]) (st1 := [.int (nI (73 + 4 * j + 2)), .ref (a 0)]) (mX4_hankAt l g E ho j 2) kX4_hankAt q2431 hx hb hml hown hts hRf hRl ho.1 hE hS (hP.sub [] rfl) ⟨Nat.zero_le _, Nat.zero_le _⟩ hl ⟨rfl, rfl⟩ rfl rfl (Nat.le_of_ble_eq_true rfl) rfl dX4_loses_6 ?_
  refine lv_dup2_11 hx hb dX4_loses_9 rfl rfl ?_
  refine h_iald (f := (F 0)) hx hb hK hP 1 0 rfl rfl (73 + 4 * j + 2) rfl (by omega) (by decide) dX4_loses_10 ?_
  refine lv_iload_n hx hb dX4_loses_11 rfl (lv_at hl 2 rfl) ?_
  refine lv_isub hx hb dX4_loses_12 ?_
  refine h_iast (f := (F 0)) hx hb hK hP hD hS 1 0 rfl rfl (73 + 4 * j + 2) rfl (by omega) (by decide) dX4_loses_13 (fun H locs hP hD hS => ?_)
  have hP : va_P (gD g) Cl (mW g h0 a I (va_up F 0 (upd (F 0) (73 + 4 * j + 2) ((F 0 (73 + 4 * j + 2)) - v)))) H := hP
  have hD : va_D A (mW g h0 a I (va_up F 0 (upd (F 0) (73 + 4 * j + 2) ((F 0 (73 + 4 * j + 2)) - v)))) := hD
  refine lv_aload_n hx hb dX4_loses_14 rfl (lv_at hl 0 rfl) ?_
  refine lv_iload_n hx hb dX4_loses_15 rfl (lv_at hl 1 rfl) ?_
  refine lv_iconst (v := 2) hx hb dX4_loses_16 (by decide) ?_
  refine rcV (As := [.int (nI j), .int 2]) (rest := []) (st1 := [.int ((upd (F 0) (73 + 4 * j + 2) ((F 0 (73 + 4 * j + 2)) - v)) (73 + 4 * j + 2))]) (mX4_ofHank l g E ho h0 a I (va_up F 0 (upd (F 0) (73 + 4 * j + 2) ((F 0 (73 + 4 * j + 2)) - v))) j 2 (by omega)) kX4_ofHank q2453 hx hb hml hown hts hRf hRl ho.1 hE hS hP (va_recv hK hP (ci := 0) (q0 := 0) rfl rfl) ⟨Nat.zero_le _, Nat.zero_le _⟩ hl ⟨rfl, rfl⟩ rfl rfl (Nat.le_of_ble_eq_true rfl) rfl dX4_loses_17 ?_
  refine h_topi (v := (F 0 (73 + 4 * j + 2)) - v) (by rw [pk_us]) ?_
  refine lv_if_ne (tgt := 28) hx hb dX4_loses_20 (by decide) (fun c_1 => ?_) (fun c_1 => ?_)
  · have hW1 : (mW g h0 a I (va_up F 0 (upd (F 0) (73 + 4 * j + 2) ((F 0 (73 + 4 * j + 2)) - v)))) = mW g h0 a I (va_up F 0 (loseS (F 0) j nh v)) := by
        unfold loseS
        rw [if_neg c_1]
    rw [hW1] at hP hD
    exact hm_v hQ hx hb hr hlk () rfl trivial hP hD hS (by decide) (by decide) dX4_loses_28
  refine lv_aload_n hx hb dX4_loses_23 rfl (lv_at hl 0 rfl) ?_
  refine lv_iload_n hx hb dX4_loses_24 rfl (lv_at hl 1 rfl) ?_
  refine mcV (As := [.int (nI j)]) (rest := []) (wr := []) (mX4_goes l g E ho h0 a I (va_up F 0 (upd (F 0) (73 + 4 * j + 2) ((F 0 (73 + 4 * j + 2)) - v))) j nt nh nb nc tw (⟨by show (upd (F 0) (73 + 4 * j + 2) ((F 0 (73 + 4 * j + 2)) - v)) 2 = _; rw [pk_un (by omega)]; exact htw, htw6, by show (upd (F 0) (73 + 4 * j + 2) ((F 0 (73 + 4 * j + 2)) - v)) 3 = _; rw [pk_un (by omega)]; exact ht, ht10, by show (upd (F 0) (73 + 4 * j + 2) ((F 0 (73 + 4 * j + 2)) - v)) 4 = _; rw [pk_un (by omega)]; exact hh, hh20, by show (upd (F 0) (73 + 4 * j + 2) ((F 0 (73 + 4 * j + 2)) - v)) 5 = _; rw [pk_un (by omega)]; exact hb6, hb6l, by show (upd (F 0) (73 + 4 * j + 2) ((F 0 (73 + 4 * j + 2)) - v)) 6 = _; rw [pk_un (by omega)]; exact hk5, hk5l⟩) hj) kX4_goes q2460 hx hb hml hown hts hRf hRl ho.1 hE hS hP hD hA [0, 1, 2, 3, 4, 5, 6, 7, 8] [] rfl (by decide) rfl (by decide) (by decide) ⟨Nat.zero_le _, Nat.zero_le _⟩ (va_recv hK hP (ci := 0) (q0 := 0) rfl rfl) hl ⟨rfl, rfl⟩ rfl rfl (Nat.le_of_ble_eq_true rfl) dX4_loses_25 (fun _ H locs _ hP hD hS _ _ => ?_)
  have hP : va_P (gD g) Cl (mW g h0 a I (va_up F 0 (goS (upd (F 0) (73 + 4 * j + 2) ((F 0 (73 + 4 * j + 2)) - v)) j nh))) H := hP
  have hD : va_D A (mW g h0 a I (va_up F 0 (goS (upd (F 0) (73 + 4 * j + 2) ((F 0 (73 + 4 * j + 2)) - v)) j nh))) := hD
  have hW1 : (mW g h0 a I (va_up F 0 (goS (upd (F 0) (73 + 4 * j + 2) ((F 0 (73 + 4 * j + 2)) - v)) j nh))) = mW g h0 a I (va_up F 0 (loseS (F 0) j nh v)) := by
      unfold loseS
      rw [if_pos c_1]
  rw [hW1] at hP hD
  exact hm_v hQ hx hb hr hlk () rfl trivial hP hD hS (by decide) (by decide) dX4_loses_28
theorem kX4_comb : hkV RX4 yX4_comb cX4_comb 3 (some .int) 2 := ⟨q2420, q2421, q78, q2422, rfl, by decide +kernel⟩
set_option maxHeartbeats 4000000 in
theorem mX4_comb (l : Launch) (g : hG) (E : hEnv) (ho : mOk g E) (h0 : Nat) (a : Nat → Nat) (I : Nat → Int32) (F : Nat → Nat → Int32) (p0 : Int32) (p1 : Int32) (nt : Nat) (nh : Nat) (nb : Nat) (nc : Nat) (tw : Nat) (n : Nat) (hc : Cn (F 0) nt nh nb nc tw) (hn : I 0 = nI n) (hn8 : n ≤ 8) : MM l yX4_comb cX4_comb 3 (some .int) 3 66 0 0 [.ref h0, .int p0, .int p1] g E (mW g h0 a I F) (S := Unit) (fun _ => (some (.int ((opComb (F 0) p0 p1).2.2.1)))) (fun _ => True) (fun _ => mW g h0 a (pubI I n (opComb (F 0) p0 p1)) (pubF F n (opComb (F 0) p0 p1))) := by
  refine MM.mk (by decide) (Nat.le_of_ble_eq_true rfl) ?_
  intro p e R s m args below meth c Q A H locs ls hX hRc hRs hP hD hE hS hA hnm hl hQ
  obtain ⟨hx, hb, hr, hlk, hml, hown, hts, hRf, hRl⟩ := hX
  have hown : s.vm.findClass RX4 = some m.cls := hown
  have hK := ho.2 _ _ _ hE
  have hl : lv_has ls 3 [(0, .ref h0), (1, .int p0), (2, .int p1)] := hl
  have hc0 := hc
  obtain ⟨htw, htw6, ht, ht10, hh, hh20, hb6, hb6l, hk5, hk5l⟩ := hc
  have htc : (nI nt).toNatClampNeg = nt := nI_clamp (by omega)
  have hhc : (nI nh).toNatClampNeg = nh := nI_clamp (by omega)
  have hbc : (nI nb).toNatClampNeg = nb := nI_clamp (by omega)
  have hkc : (nI nc).toNatClampNeg = nc := nI_clamp (by omega)
  have htwc : (nI tw).toNatClampNeg = tw := nI_clamp (by omega)
  refine lv_aload_n hx hb dX4_comb_0 rfl (lv_at hl 0 rfl) ?_
  refine mcV (As := []) (rest := []) (wr := []) (mX4_begins l g E ho h0 a I F) kX4_begins q2386 hx hb hml hown hts hRf hRl ho.1 hE hS hP hD hA [0, 1, 2, 3, 4, 5, 6, 7, 8] [] rfl (by decide) rfl (by decide) (by decide) ⟨Nat.zero_le _, Nat.zero_le _⟩ (va_recv hK hP (ci := 0) (q0 := 0) rfl rfl) hl ⟨rfl, rfl⟩ rfl rfl (Nat.le_of_ble_eq_true rfl) dX4_comb_1 (fun _ H locs _ hP hD hS _ _ => ?_)
  have hP : va_P (gD g) Cl (mW g h0 a (upd (upd I 5 0) 1 0) (va_up F 1 (va_cpy (F 0) (F 1) 0 0 195))) H := hP
  have hD : va_D A (mW g h0 a (upd (upd I 5 0) 1 0) (va_up F 1 (va_cpy (F 0) (F 1) 0 0 195))) := hD
  refine lv_aload_n hx hb dX4_comb_4 rfl (lv_at hl 0 rfl) ?_
  refine lv_aload_n hx hb dX4_comb_5 rfl (lv_at hl 0 rfl) ?_
  refine lv_iload_n hx hb dX4_comb_6 rfl (lv_at hl 1 rfl) ?_
  refine lv_iload_n hx hb dX4_comb_7 rfl (lv_at hl 2 rfl) ?_
  refine mcV (As := [.int p0, .int p1]) (rest := [.ref h0]) (wr := []) (mX4_combs l g E ho h0 a (upd (upd I 5 0) 1 0) (va_up F 1 (va_cpy (F 0) (F 1) 0 0 195)) p0 p1 nt nh nb nc tw hc0) kX4_combs q2423 hx hb hml hown hts hRf hRl ho.1 hE hS hP hD hA [0, 1, 2, 3, 4, 5, 6, 7, 8] [] rfl (by decide) rfl (by decide) (by decide) ⟨Nat.zero_le _, Nat.zero_le _⟩ (va_recv hK hP (ci := 0) (q0 := 0) rfl rfl) hl ⟨rfl, rfl⟩ rfl rfl (Nat.le_of_ble_eq_true rfl) dX4_comb_8 (fun _ H locs _ hP hD hS _ _ => ?_)
  have hP : va_P (gD g) Cl (mW g h0 a (opI (upd (upd I 5 0) 1 0) (opComb (F 0) p0 p1)) (va_up (va_up F 0 ((opComb (F 0) p0 p1).2.2.2)) 1 (va_cpy (F 0) (F 1) 0 0 195))) H := hP
  have hD : va_D A (mW g h0 a (opI (upd (upd I 5 0) 1 0) (opComb (F 0) p0 p1)) (va_up (va_up F 0 ((opComb (F 0) p0 p1).2.2.2)) 1 (va_cpy (F 0) (F 1) 0 0 195))) := hD
  by_cases hz : (opComb (F 0) p0 p1).1 = 0
  · have hI : opI (upd (upd I 5 0) 1 0) (opComb (F 0) p0 p1) = (upd (upd I 5 0) 1 0) := if_pos hz
    rw [hI] at hP hD
    refine mcV (As := [.int ((opComb (F 0) p0 p1).2.2.1)]) (rest := []) (wr := []) (mX4_ends0 l g E ho h0 a (upd (upd I 5 0) 1 0) (va_up (va_up F 0 ((opComb (F 0) p0 p1).2.2.2)) 1 (va_cpy (F 0) (F 1) 0 0 195)) ((opComb (F 0) p0 p1).2.2.1) n rfl hn hn8) kX4_ends q2411 hx hb hml hown hts hRf hRl ho.1 hE hS hP hD hA [0, 1, 2, 3, 4, 5, 6, 7, 8] [] rfl (by decide) rfl (by decide) (by decide) ⟨Nat.zero_le _, Nat.zero_le _⟩ (va_recv hK hP (ci := 0) (q0 := 0) rfl rfl) hl ⟨rfl, rfl⟩ rfl rfl (Nat.le_of_ble_eq_true rfl) dX4_comb_11 (fun _ H locs _ hP hD hS _ _ => ?_)
    have hP : va_P (gD g) Cl (mW g h0 a (upd (upd (upd I 5 0) 1 0) 0 (nI (chN n))) (va_up (va_up (va_up F 0 ((opComb (F 0) p0 p1).2.2.2)) 1 (va_cpy (F 0) (F 1) 0 0 195)) 3 (chP (va_cpy (F 0) (F 1) 0 0 195) (F 3) n))) H := hP
    have hD : va_D A (mW g h0 a (upd (upd (upd I 5 0) 1 0) 0 (nI (chN n))) (va_up (va_up (va_up F 0 ((opComb (F 0) p0 p1).2.2.2)) 1 (va_cpy (F 0) (F 1) 0 0 195)) 3 (chP (va_cpy (F 0) (F 1) 0 0 195) (F 3) n))) := hD
    have hW1 : (mW g h0 a (upd (upd (upd I 5 0) 1 0) 0 (nI (chN n))) (va_up (va_up (va_up F 0 ((opComb (F 0) p0 p1).2.2.2)) 1 (va_cpy (F 0) (F 1) 0 0 195)) 3 (chP (va_cpy (F 0) (F 1) 0 0 195) (F 3) n))) = mW g h0 a (pubI I n (opComb (F 0) p0 p1)) (pubF F n (opComb (F 0) p0 p1)) := by
      rw [show pubI I n (opComb (F 0) p0 p1) = chI (upd (upd I 5 0) 1 0) n from if_pos hz, show pubF F n (opComb (F 0) p0 p1) = chF (va_up (kpF F) 0 (opComb (F 0) p0 p1).2.2.2) n from if_pos hz]
      rfl
    rw [hW1] at hP hD
    exact hm_i hQ hx hb hr hlk rfl () rfl trivial hP hD hS (by decide) (by decide) dX4_comb_14
  obtain ⟨hv0, hs0⟩ := opComb_ref (F 0) p0 p1 hz
  have hI : opI (upd (upd I 5 0) 1 0) (opComb (F 0) p0 p1) = (refI (upd (upd I 5 0) 1 0) (opComb (F 0) p0 p1).1 (opComb (F 0) p0 p1).2.1) := if_neg hz
  rw [hI] at hP hD
  refine rcV (As := [.int ((opComb (F 0) p0 p1).2.2.1)]) (rest := []) (st1 := [.int 0]) (mX4_ends1 l g E ho h0 a (refI (upd (upd I 5 0) 1 0) (opComb (F 0) p0 p1).1 (opComb (F 0) p0 p1).2.1) (va_up (va_up F 0 ((opComb (F 0) p0 p1).2.2.2)) 1 (va_cpy (F 0) (F 1) 0 0 195)) ((opComb (F 0) p0 p1).2.2.1) (by show ¬ (1 : Int32) = 0; decide)) kX4_ends q2411 hx hb hml hown hts hRf hRl ho.1 hE hS hP (va_recv hK hP (ci := 0) (q0 := 0) rfl rfl) ⟨Nat.zero_le _, Nat.zero_le _⟩ hl ⟨rfl, rfl⟩ rfl rfl (Nat.le_of_ble_eq_true rfl) rfl dX4_comb_11 ?_
  have hW1 : (mW g h0 a (refI (upd (upd I 5 0) 1 0) (opComb (F 0) p0 p1).1 (opComb (F 0) p0 p1).2.1) (va_up (va_up F 0 ((opComb (F 0) p0 p1).2.2.2)) 1 (va_cpy (F 0) (F 1) 0 0 195))) = mW g h0 a (pubI I n (opComb (F 0) p0 p1)) (pubF F n (opComb (F 0) p0 p1)) := by
    rw [show pubI I n (opComb (F 0) p0 p1) = refI (upd (upd I 5 0) 1 0) (opComb (F 0) p0 p1).1 (opComb (F 0) p0 p1).2.1 from if_neg hz, show pubF F n (opComb (F 0) p0 p1) = kpF F from if_neg hz, hs0]
    rfl
  rw [hW1] at hP hD
  exact hm_i hQ hx hb hr hlk rfl () (by rw [hv0]) trivial hP hD hS (by decide) (by decide) dX4_comb_14
