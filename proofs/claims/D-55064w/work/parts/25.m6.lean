/-! THE REFERENCE: playing, walking -/
set_option maxRecDepth 100000
theorem kX4_plays : hkV RX4 yX4_plays cX4_plays 5 (some .int) 2 := ⟨q2534, qs44, q78, q2535, rfl, by decide +kernel⟩
set_option maxHeartbeats 4000000 in
theorem mX4_plays (l : Launch) (g : hG) (E : hEnv) (ho : mOk g E) (h0 : Nat) (a : Nat → Nat) (I : Nat → Int32) (F : Nat → Nat → Int32) (p0 : Int32) (p1 : Int32) (nt : Nat) (nh : Nat) (nb : Nat) (nc : Nat) (tw : Nat) (hc : Cn (F 0) nt nh nb nc tw) : MM l yX4_plays cX4_plays 5 (some .int) 2 43 0 0 [.ref h0, .int p0, .int p1] g E (mW g h0 a I F) (S := Unit) (fun _ => (some (.int ((opPlay (F 0) p0 p1).2.2.1)))) (fun _ => True) (fun _ => mW g h0 a (opI I (opPlay (F 0) p0 p1)) (va_up F 0 (opPlay (F 0) p0 p1).2.2.2)) := by
  refine MM.mk (by decide) (Nat.le_of_ble_eq_true rfl) ?_
  intro p e R s m args below meth c Q A H locs ls hX hRc hRs hP hD hE hS hA hnm hl hQ
  obtain ⟨hx, hb, hr, hlk, hml, hown, hts, hRf, hRl⟩ := hX
  have hown : s.vm.findClass RX4 = some m.cls := hown
  have hK := ho.2 _ _ _ hE
  have hl : lv_has ls 5 [(0, .ref h0), (1, .int p0), (2, .int p1)] := hl
  have hc0 := hc
  obtain ⟨htw, htw6, ht, ht10, hh, hh20, hb6, hb6l, hk5, hk5l⟩ := hc
  have htc : (nI nt).toNatClampNeg = nt := nI_clamp (by omega)
  have hhc : (nI nh).toNatClampNeg = nh := nI_clamp (by omega)
  have hbc : (nI nb).toNatClampNeg = nb := nI_clamp (by omega)
  have hkc : (nI nc).toNatClampNeg = nc := nI_clamp (by omega)
  have htwc : (nI tw).toNatClampNeg = tw := nI_clamp (by omega)
  refine lv_aload_n hx hb dX4_plays_0 rfl (lv_at hl 0 rfl) ?_
  refine lv_aload_n hx hb dX4_plays_1 rfl (lv_at hl 0 rfl) ?_
  refine lv_iload_n hx hb dX4_plays_2 rfl (lv_at hl 1 rfl) ?_
  refine rcV (As := [.int p0]) (rest := [.ref h0]) (st1 := [.int (if inR p0 0 (F 0 5 - 1) then 1 else 0), .ref h0]) (mX4_isBow l g E ho h0 a I F p0) kX4_isBow q2494 hx hb hml hown hts hRf hRl ho.1 hE hS hP (va_recv hK hP (ci := 0) (q0 := 0) rfl rfl) ⟨Nat.zero_le _, Nat.zero_le _⟩ hl ⟨rfl, rfl⟩ rfl rfl (Nat.le_of_ble_eq_true rfl) rfl dX4_plays_3 ?_
  refine h_ifne_b (tgt := 13) hx hb dX4_plays_6 (by decide) (fun c_1 => ?_) (fun c_1 => ?_)
  · rw [hb6] at c_1
    refine lv_iconst (v := 0) hx hb dX4_plays_13 (by decide) ?_
    refine lv_iconst (v := 2) hx hb dX4_plays_14 (by decide) ?_
    refine lv_iload_n hx hb dX4_plays_15 rfl (lv_at hl 1 rfl) ?_
    refine rcV (As := [.int 0, .int 2, .int p0]) (rest := []) (st1 := [.int 0]) (mX4_isRefused0 l g E ho h0 a I F 2 p0) kX4_isRefused q2400 hx hb hml hown hts hRf hRl ho.1 hE hS hP (va_recv hK hP (ci := 0) (q0 := 0) rfl rfl) ⟨Nat.zero_le _, Nat.zero_le _⟩ hl ⟨rfl, rfl⟩ rfl rfl (Nat.le_of_ble_eq_true rfl) rfl dX4_plays_16 ?_
    refine lv_if_ne (tgt := 85) hx hb dX4_plays_19 (by decide) (fun c => absurd c (by decide)) (fun _ => ?_)
    have hrj := c_1
    obtain ⟨j, hj, rfl⟩ := inR_ix hrj rfl (by omega)
    have hjc : (nI j).toNatClampNeg = j := nI_clamp (by omega)
    refine lv_aload_n hx hb dX4_plays_22 rfl (lv_at hl 0 rfl) ?_
    refine lv_iload_n hx hb dX4_plays_23 rfl (lv_at hl 2 rfl) ?_
    refine lv_iconst (v := 1) hx hb dX4_plays_24 (by decide) ?_
    refine lv_sipush (v := 200) hx hb dX4_plays_25 (by decide) ?_
    refine rcS (As := [.int p1, .int 1, .int 200]) (rest := [.ref h0]) (st1 := [.int (if inR p1 1 200 then 1 else 0), .ref h0]) (mX4_isIn l g E ho p1 1 200) kX4_isIn q2397 hx hb hml hown hts hRf hRl ho.1 hE hS (hP.sub [] rfl) ⟨Nat.zero_le _, Nat.zero_le _⟩ hl ⟨rfl, rfl⟩ rfl rfl (Nat.le_of_ble_eq_true rfl) rfl dX4_plays_28 ?_
    refine h_ifne_b (tgt := 38) hx hb dX4_plays_31 (by decide) (fun c_2 => ?_) (fun c_2 => ?_)
    · refine lv_iconst (v := 0) hx hb dX4_plays_38 (by decide) ?_
      refine lv_iconst (v := 3) hx hb dX4_plays_39 (by decide) ?_
      refine lv_iload_n hx hb dX4_plays_40 rfl (lv_at hl 2 rfl) ?_
      refine rcV (As := [.int 0, .int 3, .int p1]) (rest := []) (st1 := [.int 0]) (mX4_isRefused0 l g E ho h0 a I F 3 p1) kX4_isRefused q2400 hx hb hml hown hts hRf hRl ho.1 hE hS hP (va_recv hK hP (ci := 0) (q0 := 0) rfl rfl) ⟨Nat.zero_le _, Nat.zero_le _⟩ hl ⟨rfl, rfl⟩ rfl rfl (Nat.le_of_ble_eq_true rfl) rfl dX4_plays_41 ?_
      refine lv_if_ne (tgt := 85) hx hb dX4_plays_44 (by decide) (fun c => absurd c (by decide)) (fun _ => ?_)
      have hrq := c_2
      obtain ⟨q, hq1, hq2, rfl⟩ := inR_lit (a := 1) (b := 200) hrq rfl rfl (by decide) (by decide)
      have hqc : (nI q).toNatClampNeg = q := nI_clamp (by omega)
      refine lv_aload_n hx hb dX4_plays_47 rfl (lv_at hl 0 rfl) ?_
      refine lv_aload_n hx hb dX4_plays_48 rfl (lv_at hl 0 rfl) ?_
      refine lv_iload_n hx hb dX4_plays_49 rfl (lv_at hl 1 rfl) ?_
      refine lv_iconst (v := 2) hx hb dX4_plays_50 (by decide) ?_
      refine rcV (As := [.int (nI j), .int 2]) (rest := [.ref h0]) (st1 := [.int (F 0 (153 + 7 * j + 2)), .ref h0]) (mX4_ofBow l g E ho h0 a I F j 2 (by omega)) kX4_ofBow q2498 hx hb hml hown hts hRf hRl ho.1 hE hS hP (va_recv hK hP (ci := 0) (q0 := 0) rfl rfl) ⟨Nat.zero_le _, Nat.zero_le _⟩ hl ⟨rfl, rfl⟩ rfl rfl (Nat.le_of_ble_eq_true rfl) rfl dX4_plays_51 ?_
      refine lv_aload_n hx hb dX4_plays_54 rfl (lv_at hl 0 rfl) ?_
      refine lv_iload_n hx hb dX4_plays_55 rfl (lv_at hl 1 rfl) ?_
      refine lv_iconst (v := 0) hx hb dX4_plays_56 (by decide) ?_
      refine rcV (As := [.int (nI j), .int 0]) (rest := [.int (F 0 (153 + 7 * j + 2)), .ref h0]) (st1 := [.int (F 0 (153 + 7 * j)), .int (F 0 (153 + 7 * j + 2)), .ref h0]) (mX4_ofBow l g E ho h0 a I F j 0 (by omega)) kX4_ofBow q2498 hx hb hml hown hts hRf hRl ho.1 hE hS hP (va_recv hK hP (ci := 0) (q0 := 0) rfl rfl) ⟨Nat.zero_le _, Nat.zero_le _⟩ hl ⟨rfl, rfl⟩ rfl rfl (Nat.le_of_ble_eq_true rfl) rfl dX4_plays_57 ?_
      refine rcS (As := [.int (F 0 (153 + 7 * j + 2)), .int (F 0 (153 + 7 * j))]) (rest := [.ref h0]) (st1 := [.int (if ¬ 2 * (F 0 (153 + 7 * j + 2)) < needsK (F 0 (153 + 7 * j)) then 1 else 0), .ref h0]) (mX4_canBePlayed l g E ho (F 0 (153 + 7 * j + 2)) (F 0 (153 + 7 * j))) kX4_canBePlayed q2536 hx hb hml hown hts hRf hRl ho.1 hE hS (hP.sub [] rfl) ⟨Nat.zero_le _, Nat.zero_le _⟩ hl ⟨rfl, rfl⟩ rfl rfl (Nat.le_of_ble_eq_true rfl) rfl dX4_plays_60 ?_
      refine h_ifne_b (tgt := 70) hx hb dX4_plays_63 (by decide) (fun c_3 => ?_) (fun c_3 => ?_)
      · refine lv_iconst (v := 0) hx hb dX4_plays_70 (by decide) ?_
        refine lv_bipush (v := 10) hx hb dX4_plays_71 (by decide) ?_
        refine lv_aload_n hx hb dX4_plays_73 rfl (lv_at hl 0 rfl) ?_
        refine lv_iload_n hx hb dX4_plays_74 rfl (lv_at hl 1 rfl) ?_
        refine lv_iconst (v := 2) hx hb dX4_plays_75 (by decide) ?_
        refine rcV (As := [.int (nI j), .int 2]) (rest := [.int 10, .int 0, .ref h0]) (st1 := [.int (F 0 (153 + 7 * j + 2)), .int 10, .int 0, .ref h0]) (mX4_ofBow l g E ho h0 a I F j 2 (by omega)) kX4_ofBow q2498 hx hb hml hown hts hRf hRl ho.1 hE hS hP (va_recv hK hP (ci := 0) (q0 := 0) rfl rfl) ⟨Nat.zero_le _, Nat.zero_le _⟩ hl ⟨rfl, rfl⟩ rfl rfl (Nat.le_of_ble_eq_true rfl) rfl dX4_plays_76 ?_
        refine rcV (As := [.int 0, .int 10, .int (F 0 (153 + 7 * j + 2))]) (rest := []) (st1 := [.int 0]) (mX4_isRefused0 l g E ho h0 a I F 10 (F 0 (153 + 7 * j + 2))) kX4_isRefused q2400 hx hb hml hown hts hRf hRl ho.1 hE hS hP (va_recv hK hP (ci := 0) (q0 := 0) rfl rfl) ⟨Nat.zero_le _, Nat.zero_le _⟩ hl ⟨rfl, rfl⟩ rfl rfl (Nat.le_of_ble_eq_true rfl) rfl dX4_plays_79 ?_
        refine lv_if_eq (tgt := 87) hx hb dX4_plays_82 (by decide) (fun _ => ?_) (fun c => absurd c (by decide))
        refine lv_iconst (v := 0) hx hb dX4_plays_87 (by decide) ?_
        refine lv_istore_n (lv' := [(3, .int 0), (0, .ref h0), (1, .int (nI j)), (2, .int (nI q))]) hx hb dX4_plays_88 rfl hl (by decide) rfl (fun ls hl => ?_)
        have loop_89 : ∀ (k : Nat) (sr : Nat → Int32) (i : Nat), (q < i + k ∧ i ≤ q ∧ playE (153 + 7 * j) q (F 0) = playE (153 + 7 * j) (q - i) sr ∧ playC (153 + 7 * j) q (F 0) = playC (153 + 7 * j) (q - i) sr + i ∧ True) → ∀ (H : Heap) (locs : List Loc), va_P (gD g) Cl (mW g h0 a I (va_up F 0 sr)) H → va_D A (mW g h0 a I (va_up F 0 sr)) → va_S A s.heap H locs → ∀ (ls : Array Slot), lv_has ls 5 [(3, .int (nI i)), (0, .ref h0), (1, .int (nI j)), (2, .int (nI q))] → W p l e R s m args below meth c H locs 0 0 Q (F0 m 89 ls []) := by
          intro k
          induction k with
          | zero =>
            intro sr i hi H locs hP hD hS ls hl
            exact absurd hi.1 (by omega)
          | succ k ih_89 =>
            intro sr i hi H locs hP hD hS ls hl
            obtain ⟨hi1, hi2, hi3, hi4, hi5⟩ := hi
            refine lv_iload_n hx hb dX4_plays_89 rfl (lv_at hl 0 rfl) ?_
            refine lv_iload_n hx hb dX4_plays_90 rfl (lv_at hl 3 rfl) ?_
            refine lv_icmp_ge (tgt := 193) hx hb dX4_plays_91 (by decide) (fun c_4 => ?_) (fun c_4 => ?_)
            · have hiq : i = q := by
                rcases Nat.lt_or_ge i q with z | z
                · exact absurd c_4 (nI_ge z (by omega))
                · omega
              have hE9 : playE (153 + 7 * j) q (F 0) = sr := by rw [hi3, hiq, Nat.sub_self]; rfl
              have hC9 : playC (153 + 7 * j) q (F 0) = i := by rw [hi4, hiq, Nat.sub_self]; exact Nat.zero_add _
              refine lv_aload_n hx hb dX4_plays_193 rfl (lv_at hl 1 rfl) ?_
              refine va_get (D := gD g) (ci := 0) (v := .ref (a 0)) (C := RX4) (T := TX4) (N := 21) hx hb hts in_X4 hown hK hP 0 rfl rfl 0 (by decide) (hts _ q2314) (fun _ h9 => h9) rfl dX4_plays_194 ?_
              refine lv_iload_n hx hb dX4_plays_197 rfl (lv_at hl 2 rfl) ?_
              refine lv_iconst (v := 5) hx hb dX4_plays_198 (by decide) ?_
              refine rcS (As := [.int (nI j), .int 5]) (rest := [.ref (a 0)]) (st1 := [.int (nI (153 + 7 * j + 5)), .ref (a 0)]) (mX4_bowAt l g E ho j 5) kX4_bowAt q2483 hx hb hml hown hts hRf hRl ho.1 hE hS (hP.sub [] rfl) ⟨Nat.zero_le _, Nat.zero_le _⟩ hl ⟨rfl, rfl⟩ rfl rfl (Nat.le_of_ble_eq_true rfl) rfl dX4_plays_199 ?_
              refine lv_dup2_11 hx hb dX4_plays_202 rfl rfl ?_
              refine h_iald (f := sr) hx hb hK hP 1 0 rfl rfl (153 + 7 * j + 5) rfl (by omega) (by decide) dX4_plays_203 ?_
              refine lv_iload_n hx hb dX4_plays_204 rfl (lv_at hl 0 rfl) ?_
              refine lv_iadd hx hb dX4_plays_205 ?_
              refine h_iast (f := sr) hx hb hK hP hD hS 1 0 rfl rfl (153 + 7 * j + 5) rfl (by omega) (by decide) dX4_plays_206 (fun H locs hP hD hS => ?_)
              have hP : va_P (gD g) Cl (mW g h0 a I (va_up F 0 (upd sr (153 + 7 * j + 5) ((sr (153 + 7 * j + 5)) + (nI i))))) H := hP
              have hD : va_D A (mW g h0 a I (va_up F 0 (upd sr (153 + 7 * j + 5) ((sr (153 + 7 * j + 5)) + (nI i))))) := hD
              refine lv_iload_n hx hb dX4_plays_207 rfl (lv_at hl 0 rfl) ?_
              have hop : opPlay (F 0) (nI j) (nI q) = (0, 0, nI i, (upd sr (153 + 7 * j + 5) ((sr (153 + 7 * j + 5)) + (nI i)))) := by simp only [htw, htwc, ht, htc, hh, hhc, hb6, hbc, hk5, hkc, opPlay, hjc, hqc, eq_true c_1, eq_true c_2, eq_true c_3, hE9, hC9, if_true, if_false, not_true_eq_false, not_false_eq_true, ite_true, ite_false, reduceIte, Nat.add_zero, Nat.add_sub_cancel]
              have hW1 : (mW g h0 a I (va_up F 0 (upd sr (153 + 7 * j + 5) ((sr (153 + 7 * j + 5)) + (nI i))))) = mW g h0 a (opI I (opPlay (F 0) (nI j) (nI q))) (va_up F 0 (opPlay (F 0) (nI j) (nI q)).2.2.2) := by
                rw [hop]
                first | rfl | (simp only [opI, hup_id]; rfl)
              rw [hW1] at hP hD
              exact hm_i hQ hx hb hr hlk rfl () (by rw [hop]) trivial hP hD hS (by decide) (by decide) dX4_plays_208
            have hlt : i < q := by
              rcases Nat.lt_or_ge i q with z | z
              · exact z
              · exact absurd (nI_le z (by omega)) c_4
            refine lv_aload_n hx hb dX4_plays_94 rfl (lv_at hl 1 rfl) ?_
            refine lv_iload_n hx hb dX4_plays_95 rfl (lv_at hl 2 rfl) ?_
            refine lv_iconst (v := 2) hx hb dX4_plays_96 (by decide) ?_
            refine rcV (As := [.int (nI j), .int 2]) (rest := []) (st1 := [.int (sr (153 + 7 * j + 2))]) (mX4_ofBow l g E ho h0 a I (va_up F 0 sr) j 2 (by omega)) kX4_ofBow q2498 hx hb hml hown hts hRf hRl ho.1 hE hS hP (va_recv hK hP (ci := 0) (q0 := 0) rfl rfl) ⟨Nat.zero_le _, Nat.zero_le _⟩ hl ⟨rfl, rfl⟩ rfl rfl (Nat.le_of_ble_eq_true rfl) rfl dX4_plays_97 ?_
            refine lv_aload_n hx hb dX4_plays_100 rfl (lv_at hl 1 rfl) ?_
            refine lv_iload_n hx hb dX4_plays_101 rfl (lv_at hl 2 rfl) ?_
            refine lv_iconst (v := 0) hx hb dX4_plays_102 (by decide) ?_
            refine rcV (As := [.int (nI j), .int 0]) (rest := [.int (sr (153 + 7 * j + 2))]) (st1 := [.int (sr (153 + 7 * j)), .int (sr (153 + 7 * j + 2))]) (mX4_ofBow l g E ho h0 a I (va_up F 0 sr) j 0 (by omega)) kX4_ofBow q2498 hx hb hml hown hts hRf hRl ho.1 hE hS hP (va_recv hK hP (ci := 0) (q0 := 0) rfl rfl) ⟨Nat.zero_le _, Nat.zero_le _⟩ hl ⟨rfl, rfl⟩ rfl rfl (Nat.le_of_ble_eq_true rfl) rfl dX4_plays_103 ?_
            refine rcS (As := [.int (sr (153 + 7 * j + 2)), .int (sr (153 + 7 * j))]) (rest := []) (st1 := [.int (if ¬ 2 * (sr (153 + 7 * j + 2)) < needsK (sr (153 + 7 * j)) then 1 else 0)]) (mX4_canBePlayed l g E ho (sr (153 + 7 * j + 2)) (sr (153 + 7 * j))) kX4_canBePlayed q2536 hx hb hml hown hts hRf hRl ho.1 hE hS (hP.sub [] rfl) ⟨Nat.zero_le _, Nat.zero_le _⟩ hl ⟨rfl, rfl⟩ rfl rfl (Nat.le_of_ble_eq_true rfl) rfl dX4_plays_106 ?_
            refine h_ifeq_b (tgt := 193) hx hb dX4_plays_109 (by decide) (fun c_5 => ?_) (fun c_5 => ?_)
            · obtain ⟨d, hd⟩ : ∃ d, q - i = d + 1 := ⟨q - i - 1, by omega⟩
              have hE9 : playE (153 + 7 * j) q (F 0) = sr := by rw [hi3, hd]; exact if_neg c_5
              have hC9 : playC (153 + 7 * j) q (F 0) = i := by rw [hi4, hd]; show (if canP sr (153 + 7 * j) then playC (153 + 7 * j) d (hourS sr (153 + 7 * j)) + 1 else 0) + i = _; rw [if_neg c_5, Nat.zero_add]
              refine lv_aload_n hx hb dX4_plays_193 rfl (lv_at hl 1 rfl) ?_
              refine va_get (D := gD g) (ci := 0) (v := .ref (a 0)) (C := RX4) (T := TX4) (N := 21) hx hb hts in_X4 hown hK hP 0 rfl rfl 0 (by decide) (hts _ q2314) (fun _ h9 => h9) rfl dX4_plays_194 ?_
              refine lv_iload_n hx hb dX4_plays_197 rfl (lv_at hl 2 rfl) ?_
              refine lv_iconst (v := 5) hx hb dX4_plays_198 (by decide) ?_
              refine rcS (As := [.int (nI j), .int 5]) (rest := [.ref (a 0)]) (st1 := [.int (nI (153 + 7 * j + 5)), .ref (a 0)]) (mX4_bowAt l g E ho j 5) kX4_bowAt q2483 hx hb hml hown hts hRf hRl ho.1 hE hS (hP.sub [] rfl) ⟨Nat.zero_le _, Nat.zero_le _⟩ hl ⟨rfl, rfl⟩ rfl rfl (Nat.le_of_ble_eq_true rfl) rfl dX4_plays_199 ?_
              refine lv_dup2_11 hx hb dX4_plays_202 rfl rfl ?_
              refine h_iald (f := sr) hx hb hK hP 1 0 rfl rfl (153 + 7 * j + 5) rfl (by omega) (by decide) dX4_plays_203 ?_
              refine lv_iload_n hx hb dX4_plays_204 rfl (lv_at hl 0 rfl) ?_
              refine lv_iadd hx hb dX4_plays_205 ?_
              refine h_iast (f := sr) hx hb hK hP hD hS 1 0 rfl rfl (153 + 7 * j + 5) rfl (by omega) (by decide) dX4_plays_206 (fun H locs hP hD hS => ?_)
              have hP : va_P (gD g) Cl (mW g h0 a I (va_up F 0 (upd sr (153 + 7 * j + 5) ((sr (153 + 7 * j + 5)) + (nI i))))) H := hP
              have hD : va_D A (mW g h0 a I (va_up F 0 (upd sr (153 + 7 * j + 5) ((sr (153 + 7 * j + 5)) + (nI i))))) := hD
              refine lv_iload_n hx hb dX4_plays_207 rfl (lv_at hl 0 rfl) ?_
              have hop : opPlay (F 0) (nI j) (nI q) = (0, 0, nI i, (upd sr (153 + 7 * j + 5) ((sr (153 + 7 * j + 5)) + (nI i)))) := by simp only [htw, htwc, ht, htc, hh, hhc, hb6, hbc, hk5, hkc, opPlay, hjc, hqc, eq_true c_1, eq_true c_2, eq_true c_3, hE9, hC9, if_true, if_false, not_true_eq_false, not_false_eq_true, ite_true, ite_false, reduceIte, Nat.add_zero, Nat.add_sub_cancel]
              have hW1 : (mW g h0 a I (va_up F 0 (upd sr (153 + 7 * j + 5) ((sr (153 + 7 * j + 5)) + (nI i))))) = mW g h0 a (opI I (opPlay (F 0) (nI j) (nI q))) (va_up F 0 (opPlay (F 0) (nI j) (nI q)).2.2.2) := by
                rw [hop]
                first | rfl | (simp only [opI, hup_id]; rfl)
              rw [hW1] at hP hD
              exact hm_i hQ hx hb hr hlk rfl () (by rw [hop]) trivial hP hD hS (by decide) (by decide) dX4_plays_208
            refine lv_aload_n hx hb dX4_plays_112 rfl (lv_at hl 1 rfl) ?_
            refine lv_iload_n hx hb dX4_plays_113 rfl (lv_at hl 2 rfl) ?_
            refine lv_iconst (v := 2) hx hb dX4_plays_114 (by decide) ?_
            refine rcV (As := [.int (nI j), .int 2]) (rest := []) (st1 := [.int (sr (153 + 7 * j + 2))]) (mX4_ofBow l g E ho h0 a I (va_up F 0 sr) j 2 (by omega)) kX4_ofBow q2498 hx hb hml hown hts hRf hRl ho.1 hE hS hP (va_recv hK hP (ci := 0) (q0 := 0) rfl rfl) ⟨Nat.zero_le _, Nat.zero_le _⟩ hl ⟨rfl, rfl⟩ rfl rfl (Nat.le_of_ble_eq_true rfl) rfl dX4_plays_115 ?_
            refine lv_aload_n hx hb dX4_plays_118 rfl (lv_at hl 1 rfl) ?_
            refine lv_iload_n hx hb dX4_plays_119 rfl (lv_at hl 2 rfl) ?_
            refine lv_iconst (v := 1) hx hb dX4_plays_120 (by decide) ?_
            refine rcV (As := [.int (nI j), .int 1]) (rest := [.int (sr (153 + 7 * j + 2))]) (st1 := [.int (sr (153 + 7 * j + 1)), .int (sr (153 + 7 * j + 2))]) (mX4_ofBow l g E ho h0 a I (va_up F 0 sr) j 1 (by omega)) kX4_ofBow q2498 hx hb hml hown hts hRf hRl ho.1 hE hS hP (va_recv hK hP (ci := 0) (q0 := 0) rfl rfl) ⟨Nat.zero_le _, Nat.zero_le _⟩ hl ⟨rfl, rfl⟩ rfl rfl (Nat.le_of_ble_eq_true rfl) rfl dX4_plays_121 ?_
            refine h_join (J := 133) (v := if (sr (153 + 7 * j + 1)) ≤ 0 then 7 else 2) (rest := [.int (sr (153 + 7 * j + 2))]) ?_ ?_
            rotate_left
            · intro hJ
              refine lv_if_le (tgt := 131) hx hb dX4_plays_124 (by decide) (fun c_6 => ?_) (fun c_6 => ?_)
              · refine lv_bipush (v := 7) hx hb dX4_plays_131 (by decide) ?_
                exact h_topi (if_pos c_6).symm hJ
              refine lv_iconst (v := 2) hx hb dX4_plays_127 (by decide) ?_
              refine lv_goto (tgt := 133) hx hb dX4_plays_128 (by decide) ?_
              exact h_topi (if_neg c_6).symm hJ
            refine rcS (As := [.int (sr (153 + 7 * j + 2)), .int (if (sr (153 + 7 * j + 1)) ≤ 0 then 7 else 2)]) (rest := []) (st1 := [.int (minI (sr (153 + 7 * j + 2)) (if (sr (153 + 7 * j + 1)) ≤ 0 then 7 else 2))]) (mX4_lesser l g E ho (sr (153 + 7 * j + 2)) (if (sr (153 + 7 * j + 1)) ≤ 0 then 7 else 2)) kX4_lesser q2457 hx hb hml hown hts hRf hRl ho.1 hE hS (hP.sub [] rfl) ⟨Nat.zero_le _, Nat.zero_le _⟩ hl ⟨rfl, rfl⟩ rfl rfl (Nat.le_of_ble_eq_true rfl) rfl dX4_plays_133 ?_
            refine lv_istore (lv' := [(4, .int (minI (sr (153 + 7 * j + 2)) (if (sr (153 + 7 * j + 1)) ≤ 0 then 7 else 2))), (3, .int (nI i)), (0, .ref h0), (1, .int (nI j)), (2, .int (nI q))]) hx hb dX4_plays_136 hl (by decide) rfl (fun ls hl => ?_)
            refine lv_aload_n hx hb dX4_plays_138 rfl (lv_at hl 2 rfl) ?_
            refine va_get (D := gD g) (ci := 0) (v := .ref (a 0)) (C := RX4) (T := TX4) (N := 21) hx hb hts in_X4 hown hK hP 0 rfl rfl 0 (by decide) (hts _ q2314) (fun _ h9 => h9) rfl dX4_plays_139 ?_
            refine lv_iload_n hx hb dX4_plays_142 rfl (lv_at hl 3 rfl) ?_
            refine lv_iconst (v := 2) hx hb dX4_plays_143 (by decide) ?_
            refine rcS (As := [.int (nI j), .int 2]) (rest := [.ref (a 0)]) (st1 := [.int (nI (153 + 7 * j + 2)), .ref (a 0)]) (mX4_bowAt l g E ho j 2) kX4_bowAt q2483 hx hb hml hown hts hRf hRl ho.1 hE hS (hP.sub [] rfl) ⟨Nat.zero_le _, Nat.zero_le _⟩ hl ⟨rfl, rfl⟩ rfl rfl (Nat.le_of_ble_eq_true rfl) rfl dX4_plays_144 ?_
            refine lv_dup2_11 hx hb dX4_plays_147 rfl rfl ?_
            refine h_iald (f := sr) hx hb hK hP 1 0 rfl rfl (153 + 7 * j + 2) rfl (by omega) (by decide) dX4_plays_148 ?_
            refine lv_iload hx hb dX4_plays_149 (lv_at hl 0 rfl) ?_
            refine lv_isub hx hb dX4_plays_151 ?_
            refine h_iast (f := sr) hx hb hK hP hD hS 1 0 rfl rfl (153 + 7 * j + 2) rfl (by omega) (by decide) dX4_plays_152 (fun H locs hP hD hS => ?_)
            have hP : va_P (gD g) Cl (mW g h0 a I (va_up F 0 (upd sr (153 + 7 * j + 2) ((sr (153 + 7 * j + 2)) - (minI (sr (153 + 7 * j + 2)) (if (sr (153 + 7 * j + 1)) ≤ 0 then 7 else 2)))))) H := hP
            have hD : va_D A (mW g h0 a I (va_up F 0 (upd sr (153 + 7 * j + 2) ((sr (153 + 7 * j + 2)) - (minI (sr (153 + 7 * j + 2)) (if (sr (153 + 7 * j + 1)) ≤ 0 then 7 else 2)))))) := hD
            refine lv_aload_n hx hb dX4_plays_153 rfl (lv_at hl 2 rfl) ?_
            refine va_get (D := gD g) (ci := 0) (v := .ref (a 0)) (C := RX4) (T := TX4) (N := 21) hx hb hts in_X4 hown hK hP 0 rfl rfl 0 (by decide) (hts _ q2314) (fun _ h9 => h9) rfl dX4_plays_154 ?_
            refine lv_bipush (v := 10) hx hb dX4_plays_157 (by decide) ?_
            refine lv_dup2_11 hx hb dX4_plays_159 rfl rfl ?_
            refine h_iald (f := (upd sr (153 + 7 * j + 2) ((sr (153 + 7 * j + 2)) - (minI (sr (153 + 7 * j + 2)) (if (sr (153 + 7 * j + 1)) ≤ 0 then 7 else 2))))) hx hb hK hP 1 0 rfl rfl 10 rfl (by decide) (by decide) dX4_plays_160 ?_
            refine h_topi (v := sr 10) (by rw [pk_un (by omega)]) ?_
            refine lv_iload hx hb dX4_plays_161 (lv_at hl 0 rfl) ?_
            refine lv_iadd hx hb dX4_plays_163 ?_
            refine h_iast (f := (upd sr (153 + 7 * j + 2) ((sr (153 + 7 * j + 2)) - (minI (sr (153 + 7 * j + 2)) (if (sr (153 + 7 * j + 1)) ≤ 0 then 7 else 2))))) hx hb hK hP hD hS 1 0 rfl rfl 10 rfl (by decide) (by decide) dX4_plays_164 (fun H locs hP hD hS => ?_)
            have hP : va_P (gD g) Cl (mW g h0 a I (va_up F 0 (upd (upd sr (153 + 7 * j + 2) ((sr (153 + 7 * j + 2)) - (minI (sr (153 + 7 * j + 2)) (if (sr (153 + 7 * j + 1)) ≤ 0 then 7 else 2)))) 10 ((sr 10) + (minI (sr (153 + 7 * j + 2)) (if (sr (153 + 7 * j + 1)) ≤ 0 then 7 else 2)))))) H := hP
            have hD : va_D A (mW g h0 a I (va_up F 0 (upd (upd sr (153 + 7 * j + 2) ((sr (153 + 7 * j + 2)) - (minI (sr (153 + 7 * j + 2)) (if (sr (153 + 7 * j + 1)) ≤ 0 then 7 else 2)))) 10 ((sr 10) + (minI (sr (153 + 7 * j + 2)) (if (sr (153 + 7 * j + 1)) ≤ 0 then 7 else 2)))))) := hD
            refine lv_aload_n hx hb dX4_plays_165 rfl (lv_at hl 2 rfl) ?_
            refine va_get (D := gD g) (ci := 0) (v := .ref (a 0)) (C := RX4) (T := TX4) (N := 21) hx hb hts in_X4 hown hK hP 0 rfl rfl 0 (by decide) (hts _ q2314) (fun _ h9 => h9) rfl dX4_plays_166 ?_
            refine lv_iload_n hx hb dX4_plays_169 rfl (lv_at hl 3 rfl) ?_
            refine lv_iconst (v := 1) hx hb dX4_plays_170 (by decide) ?_
            refine rcS (As := [.int (nI j), .int 1]) (rest := [.ref (a 0)]) (st1 := [.int (nI (153 + 7 * j + 1)), .ref (a 0)]) (mX4_bowAt l g E ho j 1) kX4_bowAt q2483 hx hb hml hown hts hRf hRl ho.1 hE hS (hP.sub [] rfl) ⟨Nat.zero_le _, Nat.zero_le _⟩ hl ⟨rfl, rfl⟩ rfl rfl (Nat.le_of_ble_eq_true rfl) rfl dX4_plays_171 ?_
            refine lv_iconst (v := 0) hx hb dX4_plays_174 (by decide) ?_
            refine lv_aload_n hx hb dX4_plays_175 rfl (lv_at hl 2 rfl) ?_
            refine lv_iload_n hx hb dX4_plays_176 rfl (lv_at hl 3 rfl) ?_
            refine lv_iconst (v := 1) hx hb dX4_plays_177 (by decide) ?_
            refine rcV (As := [.int (nI j), .int 1]) (rest := [.int 0, .int (nI (153 + 7 * j + 1)), .ref (a 0)]) (st1 := [.int ((upd (upd sr (153 + 7 * j + 2) ((sr (153 + 7 * j + 2)) - (minI (sr (153 + 7 * j + 2)) (if (sr (153 + 7 * j + 1)) ≤ 0 then 7 else 2)))) 10 ((sr 10) + (minI (sr (153 + 7 * j + 2)) (if (sr (153 + 7 * j + 1)) ≤ 0 then 7 else 2)))) (153 + 7 * j + 1)), .int 0, .int (nI (153 + 7 * j + 1)), .ref (a 0)]) (mX4_ofBow l g E ho h0 a I (va_up F 0 (upd (upd sr (153 + 7 * j + 2) ((sr (153 + 7 * j + 2)) - (minI (sr (153 + 7 * j + 2)) (if (sr (153 + 7 * j + 1)) ≤ 0 then 7 else 2)))) 10 ((sr 10) + (minI (sr (153 + 7 * j + 2)) (if (sr (153 + 7 * j + 1)) ≤ 0 then 7 else 2))))) j 1 (by omega)) kX4_ofBow q2498 hx hb hml hown hts hRf hRl ho.1 hE hS hP (va_recv hK hP (ci := 0) (q0 := 0) rfl rfl) ⟨Nat.zero_le _, Nat.zero_le _⟩ hl ⟨rfl, rfl⟩ rfl rfl (Nat.le_of_ble_eq_true rfl) rfl dX4_plays_178 ?_
            refine h_topi (v := sr (153 + 7 * j + 1)) (by rw [pk_un (by omega), pk_un (by omega)]) ?_
            refine lv_iconst (v := 1) hx hb dX4_plays_181 (by decide) ?_
            refine lv_isub hx hb dX4_plays_182 ?_
            refine rcS (As := [.int 0, .int ((sr (153 + 7 * j + 1)) - 1)]) (rest := [.int (nI (153 + 7 * j + 1)), .ref (a 0)]) (st1 := [.int (maxI 0 ((sr (153 + 7 * j + 1)) - 1)), .int (nI (153 + 7 * j + 1)), .ref (a 0)]) (mX4_greater l g E ho 0 ((sr (153 + 7 * j + 1)) - 1)) kX4_greater q2438 hx hb hml hown hts hRf hRl ho.1 hE hS (hP.sub [] rfl) ⟨Nat.zero_le _, Nat.zero_le _⟩ hl ⟨rfl, rfl⟩ rfl rfl (Nat.le_of_ble_eq_true rfl) rfl dX4_plays_183 ?_
            refine h_iast (f := (upd (upd sr (153 + 7 * j + 2) ((sr (153 + 7 * j + 2)) - (minI (sr (153 + 7 * j + 2)) (if (sr (153 + 7 * j + 1)) ≤ 0 then 7 else 2)))) 10 ((sr 10) + (minI (sr (153 + 7 * j + 2)) (if (sr (153 + 7 * j + 1)) ≤ 0 then 7 else 2))))) hx hb hK hP hD hS 1 0 rfl rfl (153 + 7 * j + 1) rfl (by omega) (by decide) dX4_plays_186 (fun H locs hP hD hS => ?_)
            have hP : va_P (gD g) Cl (mW g h0 a I (va_up F 0 (upd (upd (upd sr (153 + 7 * j + 2) ((sr (153 + 7 * j + 2)) - (minI (sr (153 + 7 * j + 2)) (if (sr (153 + 7 * j + 1)) ≤ 0 then 7 else 2)))) 10 ((sr 10) + (minI (sr (153 + 7 * j + 2)) (if (sr (153 + 7 * j + 1)) ≤ 0 then 7 else 2)))) (153 + 7 * j + 1) (maxI 0 ((sr (153 + 7 * j + 1)) - 1))))) H := hP
            have hD : va_D A (mW g h0 a I (va_up F 0 (upd (upd (upd sr (153 + 7 * j + 2) ((sr (153 + 7 * j + 2)) - (minI (sr (153 + 7 * j + 2)) (if (sr (153 + 7 * j + 1)) ≤ 0 then 7 else 2)))) 10 ((sr 10) + (minI (sr (153 + 7 * j + 2)) (if (sr (153 + 7 * j + 1)) ≤ 0 then 7 else 2)))) (153 + 7 * j + 1) (maxI 0 ((sr (153 + 7 * j + 1)) - 1))))) := hD
            refine lv_iinc (v := nI (i + 1)) (lv' := [(3, .int (nI (i + 1))), (4, .int (minI (sr (153 + 7 * j + 2)) (if (sr (153 + 7 * j + 1)) ≤ 0 then 7 else 2))), (0, .ref h0), (1, .int (nI j)), (2, .int (nI q))]) hx hb dX4_plays_187 hl (k := 1) rfl (h_ninc (a := i) (k := 1) (rfl)) (by decide) rfl (fun ls hl => ?_)
            refine lv_goto (tgt := 89) hx hb dX4_plays_190 (by decide) ?_
            have hst : (upd (upd (upd sr (153 + 7 * j + 2) ((sr (153 + 7 * j + 2)) - (minI (sr (153 + 7 * j + 2)) (if (sr (153 + 7 * j + 1)) ≤ 0 then 7 else 2)))) 10 ((sr 10) + (minI (sr (153 + 7 * j + 2)) (if (sr (153 + 7 * j + 1)) ≤ 0 then 7 else 2)))) (153 + 7 * j + 1) (maxI 0 ((sr (153 + 7 * j + 1)) - 1))) = hourS sr (153 + 7 * j) := rfl
            rw [hst] at hP hD
            obtain ⟨d, hd⟩ : ∃ d, q - i = d + 1 := ⟨q - i - 1, by omega⟩
            have hd2 : q - (i + 1) = d := by omega
            exact ih_89 (hourS sr (153 + 7 * j)) (i + 1) ⟨by omega, by omega, by rw [hi3, hd, hd2]; exact if_pos c_5, by rw [hi4, hd, hd2]; show (if canP sr (153 + 7 * j) then playC (153 + 7 * j) d (hourS sr (153 + 7 * j)) + 1 else 0) + i = _; rw [if_pos c_5]; omega, hi5⟩ H locs hP hD hS ls (lv_sub hl [0, 2, 3, 4] rfl)
        rw [← hup_id F 0] at hP hD
        exact loop_89 (q + 1) (F 0) 0 ⟨by omega, by omega, rfl, rfl, trivial⟩ H locs hP hD hS ls (lv_sub hl [0, 1, 2, 3] rfl)
      refine lv_iconst (v := 1) hx hb dX4_plays_66 (by decide) ?_
      refine lv_goto (tgt := 71) hx hb dX4_plays_67 (by decide) ?_
      refine lv_bipush (v := 10) hx hb dX4_plays_71 (by decide) ?_
      refine lv_aload_n hx hb dX4_plays_73 rfl (lv_at hl 0 rfl) ?_
      refine lv_iload_n hx hb dX4_plays_74 rfl (lv_at hl 1 rfl) ?_
      refine lv_iconst (v := 2) hx hb dX4_plays_75 (by decide) ?_
      refine rcV (As := [.int (nI j), .int 2]) (rest := [.int 10, .int 1, .ref h0]) (st1 := [.int (F 0 (153 + 7 * j + 2)), .int 10, .int 1, .ref h0]) (mX4_ofBow l g E ho h0 a I F j 2 (by omega)) kX4_ofBow q2498 hx hb hml hown hts hRf hRl ho.1 hE hS hP (va_recv hK hP (ci := 0) (q0 := 0) rfl rfl) ⟨Nat.zero_le _, Nat.zero_le _⟩ hl ⟨rfl, rfl⟩ rfl rfl (Nat.le_of_ble_eq_true rfl) rfl dX4_plays_76 ?_
      refine mcV (As := [.int 1, .int 10, .int (F 0 (153 + 7 * j + 2))]) (rest := []) (wr := []) (mX4_isRefused1 l g E ho h0 a I F 10 (F 0 (153 + 7 * j + 2))) kX4_isRefused q2400 hx hb hml hown hts hRf hRl ho.1 hE hS hP hD hA [0, 1, 2, 3, 4, 5, 6, 7, 8] [] rfl (by decide) rfl (by decide) (by decide) ⟨Nat.zero_le _, Nat.zero_le _⟩ (va_recv hK hP (ci := 0) (q0 := 0) rfl rfl) hl ⟨rfl, rfl⟩ rfl rfl (Nat.le_of_ble_eq_true rfl) dX4_plays_79 (fun _ H locs _ hP hD hS _ _ => ?_)
      have hP : va_P (gD g) Cl (mW g h0 a (refI I 10 (F 0 (153 + 7 * j + 2))) F) H := hP
      have hD : va_D A (mW g h0 a (refI I 10 (F 0 (153 + 7 * j + 2))) F) := hD
      refine lv_if_eq (tgt := 87) hx hb dX4_plays_82 (by decide) (fun c => absurd c (by decide)) (fun _ => ?_)
      refine lv_iconst (v := 0) hx hb dX4_plays_85 (by decide) ?_
      have hop : opPlay (F 0) (nI j) (nI q) = (10, (F 0 (153 + 7 * j + 2)), 0, F 0) := by simp only [htw, htwc, ht, htc, hh, hhc, hb6, hbc, hk5, hkc, opPlay, hjc, hqc, eq_true c_1, eq_true c_2, eq_false c_3, if_true, if_false, not_true_eq_false, not_false_eq_true, ite_true, ite_false, reduceIte, Nat.add_zero, Nat.add_sub_cancel]
      have hW1 : (mW g h0 a (refI I 10 (F 0 (153 + 7 * j + 2))) F) = mW g h0 a (opI I (opPlay (F 0) (nI j) (nI q))) (va_up F 0 (opPlay (F 0) (nI j) (nI q)).2.2.2) := by
        rw [hop]
        first | rfl | (simp only [opI, hup_id]; rfl)
      rw [hW1] at hP hD
      exact hm_i hQ hx hb hr hlk rfl () (by rw [hop]) trivial hP hD hS (by decide) (by decide) dX4_plays_86
    refine lv_iconst (v := 1) hx hb dX4_plays_34 (by decide) ?_
    refine lv_goto (tgt := 39) hx hb dX4_plays_35 (by decide) ?_
    refine lv_iconst (v := 3) hx hb dX4_plays_39 (by decide) ?_
    refine lv_iload_n hx hb dX4_plays_40 rfl (lv_at hl 2 rfl) ?_
    refine mcV (As := [.int 1, .int 3, .int p1]) (rest := []) (wr := []) (mX4_isRefused1 l g E ho h0 a I F 3 p1) kX4_isRefused q2400 hx hb hml hown hts hRf hRl ho.1 hE hS hP hD hA [0, 1, 2, 3, 4, 5, 6, 7, 8] [] rfl (by decide) rfl (by decide) (by decide) ⟨Nat.zero_le _, Nat.zero_le _⟩ (va_recv hK hP (ci := 0) (q0 := 0) rfl rfl) hl ⟨rfl, rfl⟩ rfl rfl (Nat.le_of_ble_eq_true rfl) dX4_plays_41 (fun _ H locs _ hP hD hS _ _ => ?_)
    have hP : va_P (gD g) Cl (mW g h0 a (refI I 3 p1) F) H := hP
    have hD : va_D A (mW g h0 a (refI I 3 p1) F) := hD
    refine lv_if_ne (tgt := 85) hx hb dX4_plays_44 (by decide) (fun _ => ?_) (fun c => absurd c (by decide))
    refine lv_iconst (v := 0) hx hb dX4_plays_85 (by decide) ?_
    have hop : opPlay (F 0) (nI j) p1 = (3, p1, 0, F 0) := by simp only [htw, htwc, ht, htc, hh, hhc, hb6, hbc, hk5, hkc, opPlay, hjc, eq_true c_1, eq_false c_2, if_true, if_false, not_true_eq_false, not_false_eq_true, ite_true, ite_false, reduceIte, Nat.add_zero, Nat.add_sub_cancel]
    have hW1 : (mW g h0 a (refI I 3 p1) F) = mW g h0 a (opI I (opPlay (F 0) (nI j) p1)) (va_up F 0 (opPlay (F 0) (nI j) p1).2.2.2) := by
      rw [hop]
      first | rfl | (simp only [opI, hup_id]; rfl)
    rw [hW1] at hP hD
    exact hm_i hQ hx hb hr hlk rfl () (by rw [hop]) trivial hP hD hS (by decide) (by decide) dX4_plays_86
  rw [hb6] at c_1
  refine lv_iconst (v := 1) hx hb dX4_plays_9 (by decide) ?_
  refine lv_goto (tgt := 14) hx hb dX4_plays_10 (by decide) ?_
  refine lv_iconst (v := 2) hx hb dX4_plays_14 (by decide) ?_
  refine lv_iload_n hx hb dX4_plays_15 rfl (lv_at hl 1 rfl) ?_
  refine mcV (As := [.int 1, .int 2, .int p0]) (rest := []) (wr := []) (mX4_isRefused1 l g E ho h0 a I F 2 p0) kX4_isRefused q2400 hx hb hml hown hts hRf hRl ho.1 hE hS hP hD hA [0, 1, 2, 3, 4, 5, 6, 7, 8] [] rfl (by decide) rfl (by decide) (by decide) ⟨Nat.zero_le _, Nat.zero_le _⟩ (va_recv hK hP (ci := 0) (q0 := 0) rfl rfl) hl ⟨rfl, rfl⟩ rfl rfl (Nat.le_of_ble_eq_true rfl) dX4_plays_16 (fun _ H locs _ hP hD hS _ _ => ?_)
  have hP : va_P (gD g) Cl (mW g h0 a (refI I 2 p0) F) H := hP
  have hD : va_D A (mW g h0 a (refI I 2 p0) F) := hD
  refine lv_if_ne (tgt := 85) hx hb dX4_plays_19 (by decide) (fun _ => ?_) (fun c => absurd c (by decide))
  refine lv_iconst (v := 0) hx hb dX4_plays_85 (by decide) ?_
  have hop : opPlay (F 0) p0 p1 = (2, p0, 0, F 0) := by simp only [htw, htwc, ht, htc, hh, hhc, hb6, hbc, hk5, hkc, opPlay, eq_false c_1, if_true, if_false, not_true_eq_false, not_false_eq_true, ite_true, ite_false, reduceIte, Nat.add_zero, Nat.add_sub_cancel]
  have hW1 : (mW g h0 a (refI I 2 p0) F) = mW g h0 a (opI I (opPlay (F 0) p0 p1)) (va_up F 0 (opPlay (F 0) p0 p1).2.2.2) := by
    rw [hop]
    first | rfl | (simp only [opI, hup_id]; rfl)
  rw [hW1] at hP hD
  exact hm_i hQ hx hb hr hlk rfl () (by rw [hop]) trivial hP hD hS (by decide) (by decide) dX4_plays_86
theorem kX4_play : hkV RX4 yX4_play cX4_play 3 (some .int) 2 := ⟨q2529, q2530, q78, q2531, rfl, by decide +kernel⟩
set_option maxHeartbeats 4000000 in
theorem mX4_play (l : Launch) (g : hG) (E : hEnv) (ho : mOk g E) (h0 : Nat) (a : Nat → Nat) (I : Nat → Int32) (F : Nat → Nat → Int32) (p0 : Int32) (p1 : Int32) (nt : Nat) (nh : Nat) (nb : Nat) (nc : Nat) (tw : Nat) (n : Nat) (hc : Cn (F 0) nt nh nb nc tw) (hn : I 0 = nI n) (hn8 : n ≤ 8) : MM l yX4_play cX4_play 3 (some .int) 3 67 0 0 [.ref h0, .int p0, .int p1] g E (mW g h0 a I F) (S := Unit) (fun _ => (some (.int ((opPlay (F 0) p0 p1).2.2.1)))) (fun _ => True) (fun _ => mW g h0 a (pubI I n (opPlay (F 0) p0 p1)) (pubF F n (opPlay (F 0) p0 p1))) := by
  refine MM.mk (by decide) (Nat.le_of_ble_eq_true rfl) ?_
  intro p e R s m args below meth c Q A H locs ls hX hRc hRs hP hD hE hS hA hnm hl hQ
  obtain ⟨hx, hb, hr, hlk, hml, hown, hts, hRf, hRl⟩ := hX
  have hown : s.vm.findClass RX4 = some m.cls := hown
  have hK := ho.2 _ _ _ hE
  have hl : lv_has ls 3 [(0, .ref h0), (1, .int p0), (2, .int p1)] := hl
  have hc0 := hc
  obtain ⟨htw, htw6, ht, ht10, hh, hh20, hb6, hb6l, hk5, hk5l⟩ := hc
  have htc : (nI nt).toNatClampNeg = nt := nI_clamp (by omega)
  have hhc : (nI nh).toNatClampNeg = nh := nI_clamp (by omega)
  have hbc : (nI nb).toNatClampNeg = nb := nI_clamp (by omega)
  have hkc : (nI nc).toNatClampNeg = nc := nI_clamp (by omega)
  have htwc : (nI tw).toNatClampNeg = tw := nI_clamp (by omega)
  refine lv_aload_n hx hb dX4_play_0 rfl (lv_at hl 0 rfl) ?_
  refine mcV (As := []) (rest := []) (wr := []) (mX4_begins l g E ho h0 a I F) kX4_begins q2386 hx hb hml hown hts hRf hRl ho.1 hE hS hP hD hA [0, 1, 2, 3, 4, 5, 6, 7, 8] [] rfl (by decide) rfl (by decide) (by decide) ⟨Nat.zero_le _, Nat.zero_le _⟩ (va_recv hK hP (ci := 0) (q0 := 0) rfl rfl) hl ⟨rfl, rfl⟩ rfl rfl (Nat.le_of_ble_eq_true rfl) dX4_play_1 (fun _ H locs _ hP hD hS _ _ => ?_)
  have hP : va_P (gD g) Cl (mW g h0 a (upd (upd I 5 0) 1 0) (va_up F 1 (va_cpy (F 0) (F 1) 0 0 195))) H := hP
  have hD : va_D A (mW g h0 a (upd (upd I 5 0) 1 0) (va_up F 1 (va_cpy (F 0) (F 1) 0 0 195))) := hD
  refine lv_aload_n hx hb dX4_play_4 rfl (lv_at hl 0 rfl) ?_
  refine lv_aload_n hx hb dX4_play_5 rfl (lv_at hl 0 rfl) ?_
  refine lv_iload_n hx hb dX4_play_6 rfl (lv_at hl 1 rfl) ?_
  refine lv_iload_n hx hb dX4_play_7 rfl (lv_at hl 2 rfl) ?_
  refine mcV (As := [.int p0, .int p1]) (rest := [.ref h0]) (wr := []) (mX4_plays l g E ho h0 a (upd (upd I 5 0) 1 0) (va_up F 1 (va_cpy (F 0) (F 1) 0 0 195)) p0 p1 nt nh nb nc tw hc0) kX4_plays q2532 hx hb hml hown hts hRf hRl ho.1 hE hS hP hD hA [0, 1, 2, 3, 4, 5, 6, 7, 8] [] rfl (by decide) rfl (by decide) (by decide) ⟨Nat.zero_le _, Nat.zero_le _⟩ (va_recv hK hP (ci := 0) (q0 := 0) rfl rfl) hl ⟨rfl, rfl⟩ rfl rfl (Nat.le_of_ble_eq_true rfl) dX4_play_8 (fun _ H locs _ hP hD hS _ _ => ?_)
  have hP : va_P (gD g) Cl (mW g h0 a (opI (upd (upd I 5 0) 1 0) (opPlay (F 0) p0 p1)) (va_up (va_up F 0 ((opPlay (F 0) p0 p1).2.2.2)) 1 (va_cpy (F 0) (F 1) 0 0 195))) H := hP
  have hD : va_D A (mW g h0 a (opI (upd (upd I 5 0) 1 0) (opPlay (F 0) p0 p1)) (va_up (va_up F 0 ((opPlay (F 0) p0 p1).2.2.2)) 1 (va_cpy (F 0) (F 1) 0 0 195))) := hD
  by_cases hz : (opPlay (F 0) p0 p1).1 = 0
  · have hI : opI (upd (upd I 5 0) 1 0) (opPlay (F 0) p0 p1) = (upd (upd I 5 0) 1 0) := if_pos hz
    rw [hI] at hP hD
    refine mcV (As := [.int ((opPlay (F 0) p0 p1).2.2.1)]) (rest := []) (wr := []) (mX4_ends0 l g E ho h0 a (upd (upd I 5 0) 1 0) (va_up (va_up F 0 ((opPlay (F 0) p0 p1).2.2.2)) 1 (va_cpy (F 0) (F 1) 0 0 195)) ((opPlay (F 0) p0 p1).2.2.1) n rfl hn hn8) kX4_ends q2411 hx hb hml hown hts hRf hRl ho.1 hE hS hP hD hA [0, 1, 2, 3, 4, 5, 6, 7, 8] [] rfl (by decide) rfl (by decide) (by decide) ⟨Nat.zero_le _, Nat.zero_le _⟩ (va_recv hK hP (ci := 0) (q0 := 0) rfl rfl) hl ⟨rfl, rfl⟩ rfl rfl (Nat.le_of_ble_eq_true rfl) dX4_play_11 (fun _ H locs _ hP hD hS _ _ => ?_)
    have hP : va_P (gD g) Cl (mW g h0 a (upd (upd (upd I 5 0) 1 0) 0 (nI (chN n))) (va_up (va_up (va_up F 0 ((opPlay (F 0) p0 p1).2.2.2)) 1 (va_cpy (F 0) (F 1) 0 0 195)) 3 (chP (va_cpy (F 0) (F 1) 0 0 195) (F 3) n))) H := hP
    have hD : va_D A (mW g h0 a (upd (upd (upd I 5 0) 1 0) 0 (nI (chN n))) (va_up (va_up (va_up F 0 ((opPlay (F 0) p0 p1).2.2.2)) 1 (va_cpy (F 0) (F 1) 0 0 195)) 3 (chP (va_cpy (F 0) (F 1) 0 0 195) (F 3) n))) := hD
    have hW1 : (mW g h0 a (upd (upd (upd I 5 0) 1 0) 0 (nI (chN n))) (va_up (va_up (va_up F 0 ((opPlay (F 0) p0 p1).2.2.2)) 1 (va_cpy (F 0) (F 1) 0 0 195)) 3 (chP (va_cpy (F 0) (F 1) 0 0 195) (F 3) n))) = mW g h0 a (pubI I n (opPlay (F 0) p0 p1)) (pubF F n (opPlay (F 0) p0 p1)) := by
      rw [show pubI I n (opPlay (F 0) p0 p1) = chI (upd (upd I 5 0) 1 0) n from if_pos hz, show pubF F n (opPlay (F 0) p0 p1) = chF (va_up (kpF F) 0 (opPlay (F 0) p0 p1).2.2.2) n from if_pos hz]
      rfl
    rw [hW1] at hP hD
    exact hm_i hQ hx hb hr hlk rfl () rfl trivial hP hD hS (by decide) (by decide) dX4_play_14
  obtain ⟨hv0, hs0⟩ := opPlay_ref (F 0) p0 p1 hz
  have hI : opI (upd (upd I 5 0) 1 0) (opPlay (F 0) p0 p1) = (refI (upd (upd I 5 0) 1 0) (opPlay (F 0) p0 p1).1 (opPlay (F 0) p0 p1).2.1) := if_neg hz
  rw [hI] at hP hD
  refine rcV (As := [.int ((opPlay (F 0) p0 p1).2.2.1)]) (rest := []) (st1 := [.int 0]) (mX4_ends1 l g E ho h0 a (refI (upd (upd I 5 0) 1 0) (opPlay (F 0) p0 p1).1 (opPlay (F 0) p0 p1).2.1) (va_up (va_up F 0 ((opPlay (F 0) p0 p1).2.2.2)) 1 (va_cpy (F 0) (F 1) 0 0 195)) ((opPlay (F 0) p0 p1).2.2.1) (by show ¬ (1 : Int32) = 0; decide)) kX4_ends q2411 hx hb hml hown hts hRf hRl ho.1 hE hS hP (va_recv hK hP (ci := 0) (q0 := 0) rfl rfl) ⟨Nat.zero_le _, Nat.zero_le _⟩ hl ⟨rfl, rfl⟩ rfl rfl (Nat.le_of_ble_eq_true rfl) rfl dX4_play_11 ?_
  have hW1 : (mW g h0 a (refI (upd (upd I 5 0) 1 0) (opPlay (F 0) p0 p1).1 (opPlay (F 0) p0 p1).2.1) (va_up (va_up F 0 ((opPlay (F 0) p0 p1).2.2.2)) 1 (va_cpy (F 0) (F 1) 0 0 195))) = mW g h0 a (pubI I n (opPlay (F 0) p0 p1)) (pubF F n (opPlay (F 0) p0 p1)) := by
    rw [show pubI I n (opPlay (F 0) p0 p1) = refI (upd (upd I 5 0) 1 0) (opPlay (F 0) p0 p1).1 (opPlay (F 0) p0 p1).2.1 from if_neg hz, show pubF F n (opPlay (F 0) p0 p1) = kpF F from if_neg hz, hs0]
    rfl
  rw [hW1] at hP hD
  exact hm_i hQ hx hb hr hlk rfl () (by rw [hv0]) trivial hP hD hS (by decide) (by decide) dX4_play_14
theorem kX4_walks : hkV RX4 yX4_walks cX4_walks 3 (some .int) 1 := ⟨q2552, qs45, q78, q2553, rfl, by decide +kernel⟩
set_option maxHeartbeats 4000000 in
theorem mX4_walks (l : Launch) (g : hG) (E : hEnv) (ho : mOk g E) (h0 : Nat) (a : Nat → Nat) (I : Nat → Int32) (F : Nat → Nat → Int32) (p0 : Int32) (nt : Nat) (nh : Nat) (nb : Nat) (nc : Nat) (tw : Nat) (hc : Cn (F 0) nt nh nb nc tw) : MM l yX4_walks cX4_walks 3 (some .int) 1 23 0 0 [.ref h0, .int p0] g E (mW g h0 a I F) (S := Unit) (fun _ => (some (.int ((opWalk (F 0) p0).2.2.1)))) (fun _ => True) (fun _ => mW g h0 a (opI I (opWalk (F 0) p0)) (va_up F 0 (opWalk (F 0) p0).2.2.2)) := by
  refine MM.mk (by decide) (Nat.le_of_ble_eq_true rfl) ?_
  intro p e R s m args below meth c Q A H locs ls hX hRc hRs hP hD hE hS hA hnm hl hQ
  obtain ⟨hx, hb, hr, hlk, hml, hown, hts, hRf, hRl⟩ := hX
  have hown : s.vm.findClass RX4 = some m.cls := hown
  have hK := ho.2 _ _ _ hE
  have hl : lv_has ls 3 [(0, .ref h0), (1, .int p0)] := hl
  have hc0 := hc
  obtain ⟨htw, htw6, ht, ht10, hh, hh20, hb6, hb6l, hk5, hk5l⟩ := hc
  have htc : (nI nt).toNatClampNeg = nt := nI_clamp (by omega)
  have hhc : (nI nh).toNatClampNeg = nh := nI_clamp (by omega)
  have hbc : (nI nb).toNatClampNeg = nb := nI_clamp (by omega)
  have hkc : (nI nc).toNatClampNeg = nc := nI_clamp (by omega)
  have htwc : (nI tw).toNatClampNeg = tw := nI_clamp (by omega)
  refine lv_aload_n hx hb dX4_walks_0 rfl (lv_at hl 0 rfl) ?_
  refine lv_iload_n hx hb dX4_walks_1 rfl (lv_at hl 1 rfl) ?_
  refine lv_iconst (v := 1) hx hb dX4_walks_2 (by decide) ?_
  refine lv_bipush (v := 9) hx hb dX4_walks_3 (by decide) ?_
  refine rcS (As := [.int p0, .int 1, .int 9]) (rest := [.ref h0]) (st1 := [.int (if inR p0 1 9 then 1 else 0), .ref h0]) (mX4_isIn l g E ho p0 1 9) kX4_isIn q2397 hx hb hml hown hts hRf hRl ho.1 hE hS (hP.sub [] rfl) ⟨Nat.zero_le _, Nat.zero_le _⟩ hl ⟨rfl, rfl⟩ rfl rfl (Nat.le_of_ble_eq_true rfl) rfl dX4_walks_5 ?_
  refine h_ifne_b (tgt := 15) hx hb dX4_walks_8 (by decide) (fun c_1 => ?_) (fun c_1 => ?_)
  · refine lv_iconst (v := 0) hx hb dX4_walks_15 (by decide) ?_
    refine lv_iconst (v := 3) hx hb dX4_walks_16 (by decide) ?_
    refine lv_iload_n hx hb dX4_walks_17 rfl (lv_at hl 1 rfl) ?_
    refine rcV (As := [.int 0, .int 3, .int p0]) (rest := []) (st1 := [.int 0]) (mX4_isRefused0 l g E ho h0 a I F 3 p0) kX4_isRefused q2400 hx hb hml hown hts hRf hRl ho.1 hE hS hP (va_recv hK hP (ci := 0) (q0 := 0) rfl rfl) ⟨Nat.zero_le _, Nat.zero_le _⟩ hl ⟨rfl, rfl⟩ rfl rfl (Nat.le_of_ble_eq_true rfl) rfl dX4_walks_18 ?_
    refine lv_if_eq (tgt := 26) hx hb dX4_walks_21 (by decide) (fun _ => ?_) (fun c => absurd c (by decide))
    have hrq := c_1
    obtain ⟨q, hq1, hq2, rfl⟩ := inR_lit (a := 1) (b := 9) hrq rfl rfl (by decide) (by decide)
    have hqc : (nI q).toNatClampNeg = q := nI_clamp (by omega)
    refine lv_iconst (v := 0) hx hb dX4_walks_26 (by decide) ?_
    refine lv_istore_n (lv' := [(2, .int 0), (0, .ref h0), (1, .int (nI q))]) hx hb dX4_walks_27 rfl hl (by decide) rfl (fun ls hl => ?_)
    have loop_28 : ∀ (k : Nat) (i : Nat), (q < i + k ∧ i ≤ q) → ∀ (H : Heap) (locs : List Loc), va_P (gD g) Cl (mW g h0 a I (va_up F 0 (walkE (F 0) tw i))) H → va_D A (mW g h0 a I (va_up F 0 (walkE (F 0) tw i))) → va_S A s.heap H locs → ∀ (ls : Array Slot), lv_has ls 3 [(2, .int (nI i)), (0, .ref h0), (1, .int (nI q))] → W p l e R s m args below meth c H locs 0 0 Q (F0 m 28 ls []) := by
      intro k
      induction k with
      | zero =>
        intro i hi H locs hP hD hS ls hl
        exact absurd hi (by omega)
      | succ k ih_28 =>
        intro i hi H locs hP hD hS ls hl
        refine lv_iload_n hx hb dX4_walks_28 rfl (lv_at hl 0 rfl) ?_
        refine lv_iload_n hx hb dX4_walks_29 rfl (lv_at hl 2 rfl) ?_
        refine lv_icmp_ge (tgt := 79) hx hb dX4_walks_30 (by decide) (fun c_2 => ?_) (fun c_2 => ?_)
        · have hiq : i = q := by
            rcases Nat.lt_or_ge i q with z | z
            · exact absurd c_2 (nI_ge z (by omega))
            · omega
          subst hiq
          refine lv_aload_n hx hb dX4_walks_79 rfl (lv_at hl 1 rfl) ?_
          refine va_get (D := gD g) (ci := 0) (v := .ref (a 0)) (C := RX4) (T := TX4) (N := 21) hx hb hts in_X4 hown hK hP 0 rfl rfl 0 (by decide) (hts _ q2314) (fun _ h9 => h9) rfl dX4_walks_80 ?_
          refine lv_iconst (v := 2) hx hb dX4_walks_83 (by decide) ?_
          refine h_iald (f := (walkE (F 0) tw i)) hx hb hK hP 1 0 rfl rfl 2 rfl (by decide) (by decide) dX4_walks_84 ?_
          refine h_topi (v := nI ((tw + i) % 6)) (walkE_tw htw htw6 i) ?_
          have hop : opWalk (F 0) (nI i) = (0, 0, nI ((tw + i) % 6), (walkE (F 0) tw i)) := by simp only [htw, htwc, ht, htc, hh, hhc, hb6, hbc, hk5, hkc, opWalk, hqc, eq_true c_1, eq_true c_2, eq_false (Int32.not_lt.mpr c_2), if_true, if_false, not_true_eq_false, not_false_eq_true, ite_true, ite_false, reduceIte, Nat.add_zero, Nat.add_sub_cancel]
          have hW1 : (mW g h0 a I (va_up F 0 (walkE (F 0) tw i))) = mW g h0 a (opI I (opWalk (F 0) (nI i))) (va_up F 0 (opWalk (F 0) (nI i)).2.2.2) := by
            rw [hop]
            first | rfl | (simp only [opI, hup_id]; rfl)
          rw [hW1] at hP hD
          exact hm_i hQ hx hb hr hlk rfl () (by rw [hop]) trivial hP hD hS (by decide) (by decide) dX4_walks_85
        have hlt : i < q := by
          rcases Nat.lt_or_ge i q with z | z
          · exact z
          · exact absurd (nI_le z (by omega)) c_2
        refine lv_aload_n hx hb dX4_walks_33 rfl (lv_at hl 1 rfl) ?_
        refine va_get (D := gD g) (ci := 0) (v := .ref (a 0)) (C := RX4) (T := TX4) (N := 21) hx hb hts in_X4 hown hK hP 0 rfl rfl 0 (by decide) (hts _ q2314) (fun _ h9 => h9) rfl dX4_walks_34 ?_
        refine lv_iconst (v := 1) hx hb dX4_walks_37 (by decide) ?_
        refine lv_dup2_11 hx hb dX4_walks_38 rfl rfl ?_
        refine h_iald (f := (walkE (F 0) tw i)) hx hb hK hP 1 0 rfl rfl 1 rfl (by decide) (by decide) dX4_walks_39 ?_
        refine lv_aload_n hx hb dX4_walks_40 rfl (lv_at hl 1 rfl) ?_
        refine va_get (D := gD g) (ci := 0) (v := .ref (a 0)) (C := RX4) (T := TX4) (N := 21) hx hb hts in_X4 hown hK hP 0 rfl rfl 0 (by decide) (hts _ q2314) (fun _ h9 => h9) rfl dX4_walks_41 ?_
        refine lv_bipush (v := 12) hx hb dX4_walks_44 (by decide) ?_
        refine lv_aload_n hx hb dX4_walks_46 rfl (lv_at hl 1 rfl) ?_
        refine va_get (D := gD g) (ci := 0) (v := .ref (a 0)) (C := RX4) (T := TX4) (N := 21) hx hb hts in_X4 hown hK hP 0 rfl rfl 0 (by decide) (hts _ q2314) (fun _ h9 => h9) rfl dX4_walks_47 ?_
        refine lv_iconst (v := 2) hx hb dX4_walks_50 (by decide) ?_
        refine h_iald (f := (walkE (F 0) tw i)) hx hb hK hP 1 0 rfl rfl 2 rfl (by decide) (by decide) dX4_walks_51 ?_
        refine h_topi (v := nI ((tw + i) % 6)) (walkE_tw htw htw6 i) ?_
        refine lv_iadd hx hb dX4_walks_52 ?_
        refine h_topi (v := nI (12 + ((tw + i) % 6))) (h_nadd (a := 12) (b := (tw + i) % 6) (rfl) (rfl)) ?_
        refine h_iald (f := (walkE (F 0) tw i)) hx hb hK hP 1 0 rfl rfl (12 + ((tw + i) % 6)) rfl (by omega) (by decide) dX4_walks_53 ?_
        refine lv_iadd hx hb dX4_walks_54 ?_
        refine h_iast (f := (walkE (F 0) tw i)) hx hb hK hP hD hS 1 0 rfl rfl 1 rfl (by decide) (by decide) dX4_walks_55 (fun H locs hP hD hS => ?_)
        have hP : va_P (gD g) Cl (mW g h0 a I (va_up F 0 (upd (walkE (F 0) tw i) 1 (((walkE (F 0) tw i) 1) + ((walkE (F 0) tw i) (12 + ((tw + i) % 6))))))) H := hP
        have hD : va_D A (mW g h0 a I (va_up F 0 (upd (walkE (F 0) tw i) 1 (((walkE (F 0) tw i) 1) + ((walkE (F 0) tw i) (12 + ((tw + i) % 6))))))) := hD
        refine lv_aload_n hx hb dX4_walks_56 rfl (lv_at hl 1 rfl) ?_
        refine va_get (D := gD g) (ci := 0) (v := .ref (a 0)) (C := RX4) (T := TX4) (N := 21) hx hb hts in_X4 hown hK hP 0 rfl rfl 0 (by decide) (hts _ q2314) (fun _ h9 => h9) rfl dX4_walks_57 ?_
        refine lv_iconst (v := 2) hx hb dX4_walks_60 (by decide) ?_
        refine lv_aload_n hx hb dX4_walks_61 rfl (lv_at hl 1 rfl) ?_
        refine va_get (D := gD g) (ci := 0) (v := .ref (a 0)) (C := RX4) (T := TX4) (N := 21) hx hb hts in_X4 hown hK hP 0 rfl rfl 0 (by decide) (hts _ q2314) (fun _ h9 => h9) rfl dX4_walks_62 ?_
        refine lv_iconst (v := 2) hx hb dX4_walks_65 (by decide) ?_
        refine h_iald (f := (upd (walkE (F 0) tw i) 1 (((walkE (F 0) tw i) 1) + ((walkE (F 0) tw i) (12 + ((tw + i) % 6)))))) hx hb hK hP 1 0 rfl rfl 2 rfl (by decide) (by decide) dX4_walks_66 ?_
        refine h_topi (v := (walkE (F 0) tw i) 2) (by rw [pk_un (by decide)]) ?_
        refine h_topi (v := nI ((tw + i) % 6)) (walkE_tw htw htw6 i) ?_
        refine lv_iconst (v := 1) hx hb dX4_walks_67 (by decide) ?_
        refine lv_iadd hx hb dX4_walks_68 ?_
        refine h_topi (v := nI ((tw + i) % 6 + 1)) (h_nadd (a := (tw + i) % 6) (b := 1) (rfl) (rfl)) ?_
        refine lv_bipush (v := 6) hx hb dX4_walks_69 (by decide) ?_
        refine lv_irem hx hb dX4_walks_71 (by decide) ?_
        refine h_topi (v := nI (((tw + i) % 6 + 1) % 6)) (h_nrem (a := (tw + i) % 6 + 1) (b := 6) (rfl) (rfl) (by omega) (by omega) (by omega)) ?_
        refine h_topi (v := nI ((tw + i + 1) % 6)) (congrArg nI (by omega)) ?_
        refine h_iast (f := (upd (walkE (F 0) tw i) 1 (((walkE (F 0) tw i) 1) + ((walkE (F 0) tw i) (12 + ((tw + i) % 6)))))) hx hb hK hP hD hS 1 0 rfl rfl 2 rfl (by decide) (by decide) dX4_walks_72 (fun H locs hP hD hS => ?_)
        have hP : va_P (gD g) Cl (mW g h0 a I (va_up F 0 (upd (upd (walkE (F 0) tw i) 1 (((walkE (F 0) tw i) 1) + ((walkE (F 0) tw i) (12 + ((tw + i) % 6))))) 2 (nI ((tw + i + 1) % 6))))) H := hP
        have hD : va_D A (mW g h0 a I (va_up F 0 (upd (upd (walkE (F 0) tw i) 1 (((walkE (F 0) tw i) 1) + ((walkE (F 0) tw i) (12 + ((tw + i) % 6))))) 2 (nI ((tw + i + 1) % 6))))) := hD
        refine lv_iinc (v := nI (i + 1)) (lv' := [(2, .int (nI (i + 1))), (0, .ref h0), (1, .int (nI q))]) hx hb dX4_walks_73 hl (k := 0) rfl (h_ninc (a := i) (k := 1) (rfl)) (by decide) rfl (fun ls hl => ?_)
        refine lv_goto (tgt := 28) hx hb dX4_walks_76 (by decide) ?_
        have hst : (upd (upd (walkE (F 0) tw i) 1 (((walkE (F 0) tw i) 1) + ((walkE (F 0) tw i) (12 + ((tw + i) % 6))))) 2 (nI ((tw + i + 1) % 6))) = walkE (F 0) tw (i + 1) := rfl
        rw [hst] at hP hD
        exact ih_28 (i + 1) (by omega) H locs hP hD hS ls (lv_sub hl [0, 1, 2] rfl)
    have hw0 : F = va_up F 0 (walkE (F 0) tw 0) := (hup_id F 0).symm
    rw [hw0] at hP hD
    exact loop_28 (q + 1) 0 (by omega) H locs hP hD hS ls (lv_sub hl [0, 1, 2] rfl)
  refine lv_iconst (v := 1) hx hb dX4_walks_11 (by decide) ?_
  refine lv_goto (tgt := 16) hx hb dX4_walks_12 (by decide) ?_
  refine lv_iconst (v := 3) hx hb dX4_walks_16 (by decide) ?_
  refine lv_iload_n hx hb dX4_walks_17 rfl (lv_at hl 1 rfl) ?_
  refine mcV (As := [.int 1, .int 3, .int p0]) (rest := []) (wr := []) (mX4_isRefused1 l g E ho h0 a I F 3 p0) kX4_isRefused q2400 hx hb hml hown hts hRf hRl ho.1 hE hS hP hD hA [0, 1, 2, 3, 4, 5, 6, 7, 8] [] rfl (by decide) rfl (by decide) (by decide) ⟨Nat.zero_le _, Nat.zero_le _⟩ (va_recv hK hP (ci := 0) (q0 := 0) rfl rfl) hl ⟨rfl, rfl⟩ rfl rfl (Nat.le_of_ble_eq_true rfl) dX4_walks_18 (fun _ H locs _ hP hD hS _ _ => ?_)
  have hP : va_P (gD g) Cl (mW g h0 a (refI I 3 p0) F) H := hP
  have hD : va_D A (mW g h0 a (refI I 3 p0) F) := hD
  refine lv_if_eq (tgt := 26) hx hb dX4_walks_21 (by decide) (fun c => absurd c (by decide)) (fun _ => ?_)
  refine lv_iconst (v := 0) hx hb dX4_walks_24 (by decide) ?_
  have hop : opWalk (F 0) p0 = (3, p0, 0, F 0) := by simp only [htw, htwc, ht, htc, hh, hhc, hb6, hbc, hk5, hkc, opWalk, eq_false c_1, if_true, if_false, not_true_eq_false, not_false_eq_true, ite_true, ite_false, reduceIte, Nat.add_zero, Nat.add_sub_cancel]
  have hW1 : (mW g h0 a (refI I 3 p0) F) = mW g h0 a (opI I (opWalk (F 0) p0)) (va_up F 0 (opWalk (F 0) p0).2.2.2) := by
    rw [hop]
    first | rfl | (simp only [opI, hup_id]; rfl)
  rw [hW1] at hP hD
  exact hm_i hQ hx hb hr hlk rfl () (by rw [hop]) trivial hP hD hS (by decide) (by decide) dX4_walks_25
theorem kX4_walk : hkV RX4 yX4_walk cX4_walk 2 (some .int) 1 := ⟨q2547, q2548, q78, q2549, rfl, by decide +kernel⟩
set_option maxHeartbeats 4000000 in
theorem mX4_walk (l : Launch) (g : hG) (E : hEnv) (ho : mOk g E) (h0 : Nat) (a : Nat → Nat) (I : Nat → Int32) (F : Nat → Nat → Int32) (p0 : Int32) (nt : Nat) (nh : Nat) (nb : Nat) (nc : Nat) (tw : Nat) (n : Nat) (hc : Cn (F 0) nt nh nb nc tw) (hn : I 0 = nI n) (hn8 : n ≤ 8) : MM l yX4_walk cX4_walk 2 (some .int) 3 66 0 0 [.ref h0, .int p0] g E (mW g h0 a I F) (S := Unit) (fun _ => (some (.int ((opWalk (F 0) p0).2.2.1)))) (fun _ => True) (fun _ => mW g h0 a (pubI I n (opWalk (F 0) p0)) (pubF F n (opWalk (F 0) p0))) := by
  refine MM.mk (by decide) (Nat.le_of_ble_eq_true rfl) ?_
  intro p e R s m args below meth c Q A H locs ls hX hRc hRs hP hD hE hS hA hnm hl hQ
  obtain ⟨hx, hb, hr, hlk, hml, hown, hts, hRf, hRl⟩ := hX
  have hown : s.vm.findClass RX4 = some m.cls := hown
  have hK := ho.2 _ _ _ hE
  have hl : lv_has ls 2 [(0, .ref h0), (1, .int p0)] := hl
  have hc0 := hc
  obtain ⟨htw, htw6, ht, ht10, hh, hh20, hb6, hb6l, hk5, hk5l⟩ := hc
  have htc : (nI nt).toNatClampNeg = nt := nI_clamp (by omega)
  have hhc : (nI nh).toNatClampNeg = nh := nI_clamp (by omega)
  have hbc : (nI nb).toNatClampNeg = nb := nI_clamp (by omega)
  have hkc : (nI nc).toNatClampNeg = nc := nI_clamp (by omega)
  have htwc : (nI tw).toNatClampNeg = tw := nI_clamp (by omega)
  refine lv_aload_n hx hb dX4_walk_0 rfl (lv_at hl 0 rfl) ?_
  refine mcV (As := []) (rest := []) (wr := []) (mX4_begins l g E ho h0 a I F) kX4_begins q2386 hx hb hml hown hts hRf hRl ho.1 hE hS hP hD hA [0, 1, 2, 3, 4, 5, 6, 7, 8] [] rfl (by decide) rfl (by decide) (by decide) ⟨Nat.zero_le _, Nat.zero_le _⟩ (va_recv hK hP (ci := 0) (q0 := 0) rfl rfl) hl ⟨rfl, rfl⟩ rfl rfl (Nat.le_of_ble_eq_true rfl) dX4_walk_1 (fun _ H locs _ hP hD hS _ _ => ?_)
  have hP : va_P (gD g) Cl (mW g h0 a (upd (upd I 5 0) 1 0) (va_up F 1 (va_cpy (F 0) (F 1) 0 0 195))) H := hP
  have hD : va_D A (mW g h0 a (upd (upd I 5 0) 1 0) (va_up F 1 (va_cpy (F 0) (F 1) 0 0 195))) := hD
  refine lv_aload_n hx hb dX4_walk_4 rfl (lv_at hl 0 rfl) ?_
  refine lv_aload_n hx hb dX4_walk_5 rfl (lv_at hl 0 rfl) ?_
  refine lv_iload_n hx hb dX4_walk_6 rfl (lv_at hl 1 rfl) ?_
  refine mcV (As := [.int p0]) (rest := [.ref h0]) (wr := []) (mX4_walks l g E ho h0 a (upd (upd I 5 0) 1 0) (va_up F 1 (va_cpy (F 0) (F 1) 0 0 195)) p0 nt nh nb nc tw hc0) kX4_walks q2550 hx hb hml hown hts hRf hRl ho.1 hE hS hP hD hA [0, 1, 2, 3, 4, 5, 6, 7, 8] [] rfl (by decide) rfl (by decide) (by decide) ⟨Nat.zero_le _, Nat.zero_le _⟩ (va_recv hK hP (ci := 0) (q0 := 0) rfl rfl) hl ⟨rfl, rfl⟩ rfl rfl (Nat.le_of_ble_eq_true rfl) dX4_walk_7 (fun _ H locs _ hP hD hS _ _ => ?_)
  have hP : va_P (gD g) Cl (mW g h0 a (opI (upd (upd I 5 0) 1 0) (opWalk (F 0) p0)) (va_up (va_up F 0 ((opWalk (F 0) p0).2.2.2)) 1 (va_cpy (F 0) (F 1) 0 0 195))) H := hP
  have hD : va_D A (mW g h0 a (opI (upd (upd I 5 0) 1 0) (opWalk (F 0) p0)) (va_up (va_up F 0 ((opWalk (F 0) p0).2.2.2)) 1 (va_cpy (F 0) (F 1) 0 0 195))) := hD
  by_cases hz : (opWalk (F 0) p0).1 = 0
  · have hI : opI (upd (upd I 5 0) 1 0) (opWalk (F 0) p0) = (upd (upd I 5 0) 1 0) := if_pos hz
    rw [hI] at hP hD
    refine mcV (As := [.int ((opWalk (F 0) p0).2.2.1)]) (rest := []) (wr := []) (mX4_ends0 l g E ho h0 a (upd (upd I 5 0) 1 0) (va_up (va_up F 0 ((opWalk (F 0) p0).2.2.2)) 1 (va_cpy (F 0) (F 1) 0 0 195)) ((opWalk (F 0) p0).2.2.1) n rfl hn hn8) kX4_ends q2411 hx hb hml hown hts hRf hRl ho.1 hE hS hP hD hA [0, 1, 2, 3, 4, 5, 6, 7, 8] [] rfl (by decide) rfl (by decide) (by decide) ⟨Nat.zero_le _, Nat.zero_le _⟩ (va_recv hK hP (ci := 0) (q0 := 0) rfl rfl) hl ⟨rfl, rfl⟩ rfl rfl (Nat.le_of_ble_eq_true rfl) dX4_walk_10 (fun _ H locs _ hP hD hS _ _ => ?_)
    have hP : va_P (gD g) Cl (mW g h0 a (upd (upd (upd I 5 0) 1 0) 0 (nI (chN n))) (va_up (va_up (va_up F 0 ((opWalk (F 0) p0).2.2.2)) 1 (va_cpy (F 0) (F 1) 0 0 195)) 3 (chP (va_cpy (F 0) (F 1) 0 0 195) (F 3) n))) H := hP
    have hD : va_D A (mW g h0 a (upd (upd (upd I 5 0) 1 0) 0 (nI (chN n))) (va_up (va_up (va_up F 0 ((opWalk (F 0) p0).2.2.2)) 1 (va_cpy (F 0) (F 1) 0 0 195)) 3 (chP (va_cpy (F 0) (F 1) 0 0 195) (F 3) n))) := hD
    have hW1 : (mW g h0 a (upd (upd (upd I 5 0) 1 0) 0 (nI (chN n))) (va_up (va_up (va_up F 0 ((opWalk (F 0) p0).2.2.2)) 1 (va_cpy (F 0) (F 1) 0 0 195)) 3 (chP (va_cpy (F 0) (F 1) 0 0 195) (F 3) n))) = mW g h0 a (pubI I n (opWalk (F 0) p0)) (pubF F n (opWalk (F 0) p0)) := by
      rw [show pubI I n (opWalk (F 0) p0) = chI (upd (upd I 5 0) 1 0) n from if_pos hz, show pubF F n (opWalk (F 0) p0) = chF (va_up (kpF F) 0 (opWalk (F 0) p0).2.2.2) n from if_pos hz]
      rfl
    rw [hW1] at hP hD
    exact hm_i hQ hx hb hr hlk rfl () rfl trivial hP hD hS (by decide) (by decide) dX4_walk_13
  obtain ⟨hv0, hs0⟩ := opWalk_ref (F 0) p0 hz
  have hI : opI (upd (upd I 5 0) 1 0) (opWalk (F 0) p0) = (refI (upd (upd I 5 0) 1 0) (opWalk (F 0) p0).1 (opWalk (F 0) p0).2.1) := if_neg hz
  rw [hI] at hP hD
  refine rcV (As := [.int ((opWalk (F 0) p0).2.2.1)]) (rest := []) (st1 := [.int 0]) (mX4_ends1 l g E ho h0 a (refI (upd (upd I 5 0) 1 0) (opWalk (F 0) p0).1 (opWalk (F 0) p0).2.1) (va_up (va_up F 0 ((opWalk (F 0) p0).2.2.2)) 1 (va_cpy (F 0) (F 1) 0 0 195)) ((opWalk (F 0) p0).2.2.1) (by show ¬ (1 : Int32) = 0; decide)) kX4_ends q2411 hx hb hml hown hts hRf hRl ho.1 hE hS hP (va_recv hK hP (ci := 0) (q0 := 0) rfl rfl) ⟨Nat.zero_le _, Nat.zero_le _⟩ hl ⟨rfl, rfl⟩ rfl rfl (Nat.le_of_ble_eq_true rfl) rfl dX4_walk_10 ?_
  have hW1 : (mW g h0 a (refI (upd (upd I 5 0) 1 0) (opWalk (F 0) p0).1 (opWalk (F 0) p0).2.1) (va_up (va_up F 0 ((opWalk (F 0) p0).2.2.2)) 1 (va_cpy (F 0) (F 1) 0 0 195))) = mW g h0 a (pubI I n (opWalk (F 0) p0)) (pubF F n (opWalk (F 0) p0)) := by
    rw [show pubI I n (opWalk (F 0) p0) = refI (upd (upd I 5 0) 1 0) (opWalk (F 0) p0).1 (opWalk (F 0) p0).2.1 from if_neg hz, show pubF F n (opWalk (F 0) p0) = kpF F from if_neg hz, hs0]
    rfl
  rw [hW1] at hP hD
  exact hm_i hQ hx hb hr hlk rfl () (by rw [hv0]) trivial hP hD hS (by decide) (by decide) dX4_walk_13
