/-! WHAT IS READ of a trade: sums -/
set_option maxRecDepth 100000
theorem kX1_fairs : hkV RX1 yX1_fairs cX1_fairs 5 (some .int) 0 := ⟨q311, q312, q67, q313, rfl, by decide +kernel⟩
set_option maxHeartbeats 4000000 in
theorem jX1_fairs (l : Launch) (g : hG) (E : hEnv) (ho : jOk g E) (x : Nat) (nw : Nat) (sv : Option Nat) (dq : Nat) (sb : Nat) (ln : Nat) (fp : Int32) (lt : Option Nat) (lp : Int32) (T : hTr) (s0 : Nat → Int32) (nt : Nat) (nh : Nat) (nb : Nat) (nc : Nat) (tw : Nat) (hc : Cn s0 nt nh nb nc tw) (hv : Inv s0 nt nh nb nc) (hT : tOk g T nt nh nb nc) : RM l yX1_fairs cX1_fairs 5 (some .int) 1 21 [.ref x] g E ((x, .inr (1, [.ref nw, (va_rf sv), .ref dq, .ref sb, .ref ln, .int fp, (va_rf lt), .int lp])) :: (TW g nw T s0 nt nh nb nc ++ [])) (some (.int (fairS s0 tw 6))) := by
  refine RM.mk (by decide) (Nat.le_of_ble_eq_true rfl) ?_
  intro p e R s m args below meth c Q ls hX hP hE hS hl hQ
  obtain ⟨hx, hb, hr, hlk, hml, hown, hts, hRf, hRl⟩ := hX
  have hown : s.vm.findClass RX1 = some m.cls := hown
  have hj := ho.2 _ _ _ hE
  have hK := hj.kn
  have hl : lv_has ls 5 [(0, .ref x)] := hl
  rw [List.append_nil] at hP
  have hP : va_P (gD g) Cl ((x, .inr (1, [.ref nw, (va_rf sv), .ref dq, .ref sb, .ref ln, .int fp, (va_rf lt), .int lp])) :: ((nw, .inr (2, [.ref (T.1 0), .ref (T.1 4), .ref (T.1 8), .ref (T.1 12), .ref (T.1 16), .ref (T.1 17), .int (s0 7), .int (s0 8), .int (s0 9), .int (s0 10), .int (s0 11), .int (s0 0), .int (s0 1), .int (s0 2)])) :: ((T.1 0, .inr (3, [.ref (T.1 1), .int 10])) :: ((T.1 1, .inr (13, [.int (T.2.1 0), .ref (T.1 2), .int (nI nt)])) :: ((T.1 4, .inr (3, [.ref (T.1 5), .int 20])) :: ((T.1 5, .inr (13, [.int (T.2.1 1), .ref (T.1 6), .int (nI nh)])) :: ((T.1 8, .inr (3, [.ref (T.1 9), .int 6])) :: ((T.1 9, .inr (13, [.int (T.2.1 2), .ref (T.1 10), .int (nI nb)])) :: ((T.1 12, .inr (3, [.ref (T.1 13), .int 5])) :: ((T.1 13, .inr (13, [.int (T.2.1 3), .ref (T.1 14), .int (nI nc)])) :: ((T.1 16, .inl (g.2.2.1 0, 10, .inl (sievF s0))) :: ((T.1 17, .inl (g.2.2.1 0, 6, .inl (roadF s0))) :: (arW g (T.1 2) (T.1 3) (elF nt (T.2.2 0)) ++ (elW 8 nt (T.2.2 0) (tailV s0) ++ (arW g (T.1 6) (T.1 7) (elF nh (T.2.2 1)) ++ (elW 7 nh (T.2.2 1) (hankV s0) ++ (arW g (T.1 10) (T.1 11) (elF nb (T.2.2 2)) ++ (elW 5 nb (T.2.2 2) (bowV s0) ++ (arW g (T.1 14) (T.1 15) (elF nc (T.2.2 3)) ++ (elW 6 nc (T.2.2 3) (cakeV s0) ++ [])))))))))))))))))))) s.heap := hP
  obtain ⟨c2, ctw, c3, cnt, c4, cnh, c5, cnb, c6, cnc⟩ := hc
  obtain ⟨hok0, hok1, hok2, hok3⟩ := hT
  refine lv_iconst (v := 0) hx hb dX1_fairs_0 (by decide) ?_
  refine h_topi (v := fairS s0 tw 0) (rfl) ?_
  refine lv_istore_n (lv' := [(1, .int (fairS s0 tw 0)), (0, .ref x)]) hx hb dX1_fairs_1 rfl hl (by decide) rfl (fun ls hl => ?_)
  refine lv_aload_n hx hb dX1_fairs_2 rfl (lv_at hl 1 rfl) ?_
  refine va_get (D := gD g) (ci := 1) (v := .ref nw) (C := RX1) (T := TX1) (N := 8) hx hb hts in_X1 hown hK hP 0 rfl rfl 0 (by decide) (hts _ q285) (fun _ h9 => h9) rfl dX1_fairs_3 ?_
  refine va_getN (D := gD g) (ci := 2) (v := .int (s0 2)) (C := RX2) (T := TX2) (N := 14) hx hb hts in_X2 hown hK hP 1 rfl rfl 13 (by decide) ((hj.tw q201 rfl).use rfl) (fun _ h9 => h9) rfl dX1_fairs_6 ?_
  refine h_topi (v := nI ((tw + 0) % 6)) (show s0 2 = _ by rw [c2, Nat.add_zero, Nat.mod_eq_of_lt ctw]) ?_
  refine lv_istore_n (lv' := [(2, .int (nI ((tw + 0) % 6))), (1, .int (fairS s0 tw 0)), (0, .ref x)]) hx hb dX1_fairs_9 rfl hl (by decide) rfl (fun ls hl => ?_)
  refine lv_aload_n hx hb dX1_fairs_10 rfl (lv_at hl 2 rfl) ?_
  refine va_get (D := gD g) (ci := 1) (v := .ref nw) (C := RX1) (T := TX1) (N := 8) hx hb hts in_X1 hown hK hP 0 rfl rfl 0 (by decide) (hts _ q285) (fun _ h9 => h9) rfl dX1_fairs_11 ?_
  refine va_getN (D := gD g) (ci := 2) (v := .int (s0 1)) (C := RX2) (T := TX2) (N := 14) hx hb hts in_X2 hown hK hP 1 rfl rfl 12 (by decide) ((hj.tw q199 rfl).use rfl) (fun _ h9 => h9) rfl dX1_fairs_14 ?_
  refine h_topi (v := fairD s0 tw 0) (rfl) ?_
  refine lv_istore_n (lv' := [(3, .int (fairD s0 tw 0)), (2, .int (nI ((tw + 0) % 6))), (1, .int (fairS s0 tw 0)), (0, .ref x)]) hx hb dX1_fairs_17 rfl hl (by decide) rfl (fun ls hl => ?_)
  refine lv_iconst (v := 0) hx hb dX1_fairs_18 (by decide) ?_
  refine lv_istore (lv' := [(4, .int 0), (3, .int (fairD s0 tw 0)), (2, .int (nI ((tw + 0) % 6))), (1, .int (fairS s0 tw 0)), (0, .ref x)]) hx hb dX1_fairs_19 hl (by decide) rfl (fun ls hl => ?_)
  have loop_21 : ∀ (k : Nat) (i : Nat), (6 < i + k ∧ i ≤ 6) → ∀ (ls : Array Slot), lv_has ls 5 [(0, .ref x), (1, .int (fairS s0 tw i)), (2, .int (nI ((tw + i) % 6))), (3, .int (fairD s0 tw i)), (4, .int (nI i))] → W p l e R s m args below meth c s.heap [] 0 0 Q (F0 m 21 ls []) := by
    intro k
    induction k with
    | zero =>
      intro i hi  ls hl
      exact absurd hi (by omega)
    | succ k ih_21 =>
      intro i hi  ls hl
      refine lv_iload hx hb dX1_fairs_21 (lv_at hl 4 rfl) ?_
      refine lv_bipush (v := 6) hx hb dX1_fairs_23 (by decide) ?_
      refine lv_icmp_ge (tgt := 71) hx hb dX1_fairs_25 (by decide) (fun c_1 => ?_) (fun c_1 => ?_)
      · have hiq : i = 6 := Nat.le_antisymm hi.2 ((nI_leI (a := 6) (b := i) (by omega) (by omega)).mp c_1)
        subst hiq
        refine lv_iload_n hx hb dX1_fairs_71 rfl (lv_at hl 1 rfl) ?_
        exact hr_i hQ hx hb hr hlk rfl (rfl) dX1_fairs_72
      have hlt : i < 6 := Nat.not_le.mp (fun z => c_1 ((nI_leI (a := 6) (b := i) (by omega) (by omega)).mpr z))
      refine lv_iload_n hx hb dX1_fairs_28 rfl (lv_at hl 3 rfl) ?_
      refine lv_aload_n hx hb dX1_fairs_29 rfl (lv_at hl 0 rfl) ?_
      refine va_get (D := gD g) (ci := 1) (v := .ref nw) (C := RX1) (T := TX1) (N := 8) hx hb hts in_X1 hown hK hP 0 rfl rfl 0 (by decide) (hts _ q285) (fun _ h9 => h9) rfl dX1_fairs_30 ?_
      refine va_getN (D := gD g) (ci := 2) (v := .ref (T.1 17)) (C := RX2) (T := TX2) (N := 14) hx hb hts in_X2 hown hK hP 1 rfl rfl 5 (by decide) ((hj.tw q185 rfl).use rfl) (fun _ h9 => h9) rfl dX1_fairs_33 ?_
      refine lv_iload_n hx hb dX1_fairs_36 rfl (lv_at hl 2 rfl) ?_
      refine h_iald (f := (roadF s0)) hx hb hK hP 11 0 rfl rfl ((tw + i) % 6) rfl (by omega) (by omega) dX1_fairs_37 ?_
      refine h_topi (v := s0 (12 + (tw + i) % 6)) rfl ?_
      refine lv_iadd hx hb dX1_fairs_38 ?_
      refine h_topi (v := fairD s0 tw (i + 1)) (rfl) ?_
      refine lv_istore_n (lv' := [(3, .int (fairD s0 tw (i + 1))), (0, .ref x), (1, .int (fairS s0 tw i)), (2, .int (nI ((tw + i) % 6))), (4, .int (nI i))]) hx hb dX1_fairs_39 rfl hl (by decide) rfl (fun ls hl => ?_)
      refine lv_iload_n hx hb dX1_fairs_40 rfl (lv_at hl 3 rfl) ?_
      refine lv_iconst (v := 1) hx hb dX1_fairs_41 (by decide) ?_
      refine lv_iadd hx hb dX1_fairs_42 ?_
      refine h_topi (v := nI ((tw + i) % 6 + 1)) (h_nadd (a := (tw + i) % 6) (b := 1) (rfl) (rfl)) ?_
      refine lv_bipush (v := 6) hx hb dX1_fairs_43 (by decide) ?_
      refine lv_irem hx hb dX1_fairs_45 (by decide) ?_
      refine h_topi (v := nI (((tw + i) % 6 + 1) % 6)) (h_nrem (a := (tw + i) % 6 + 1) (b := 6) (rfl) (rfl) (by omega) (by omega) (by omega)) ?_
      refine h_topi (v := nI ((tw + (i + 1)) % 6)) (congrArg nI (by omega)) ?_
      refine lv_istore_n (lv' := [(2, .int (nI ((tw + (i + 1)) % 6))), (3, .int (fairD s0 tw (i + 1))), (0, .ref x), (1, .int (fairS s0 tw i)), (4, .int (nI i))]) hx hb dX1_fairs_46 rfl hl (by decide) rfl (fun ls hl => ?_)
      refine lv_iload_n hx hb dX1_fairs_47 rfl (lv_at hl 3 rfl) ?_
      refine lv_iload_n hx hb dX1_fairs_48 rfl (lv_at hl 1 rfl) ?_
      refine lv_iload_n hx hb dX1_fairs_49 rfl (lv_at hl 0 rfl) ?_
      refine rcS (As := [.int (fairD s0 tw (i + 1)), .int (nI ((tw + (i + 1)) % 6))]) (rest := [.int (fairS s0 tw i)]) (st1 := [.int (if (fairD s0 tw (i + 1)) - (fairD s0 tw (i + 1)) / 7 * 7 = (nI ((tw + (i + 1)) % 6)) then 1 else 0), .int (fairS s0 tw i)]) (jX2_isFairOn l g E ho (fairD s0 tw (i + 1)) (nI ((tw + (i + 1)) % 6))) kX2_isFairOn q314 hx hb hml hown hts hRf hRl ho.1.1 hE hS (hP.sub [] rfl) ⟨Nat.zero_le _, Nat.zero_le _⟩ hl ⟨rfl, rfl⟩ rfl rfl (Nat.le_of_ble_eq_true rfl) rfl dX1_fairs_50 ?_
      refine h_join (J := 63) (v := if (fairD s0 tw (i + 1)) - (fairD s0 tw (i + 1)) / 7 * 7 = (nI ((tw + (i + 1)) % 6)) then (1 <<< ((nI ((tw + (i + 1)) % 6)) &&& 31)) else 0) (rest := [.int (fairS s0 tw i)]) ?_ ?_
      rotate_left
      · intro hJ
        refine h_ifeq_b (tgt := 62) hx hb dX1_fairs_53 (by decide) (fun c_2 => ?_) (fun c_2 => ?_)
        · refine lv_iconst (v := 0) hx hb dX1_fairs_62 (by decide) ?_
          exact h_topi (if_neg c_2).symm hJ
        refine lv_iconst (v := 1) hx hb dX1_fairs_56 (by decide) ?_
        refine lv_iload_n hx hb dX1_fairs_57 rfl (lv_at hl 0 rfl) ?_
        refine lv_ishl hx hb dX1_fairs_58 ?_
        refine lv_goto (tgt := 63) hx hb dX1_fairs_59 (by decide) ?_
        exact h_topi (if_pos c_2).symm hJ
      refine lv_ior hx hb dX1_fairs_63 ?_
      refine h_topi (v := fairS s0 tw (i + 1)) (rfl) ?_
      refine lv_istore_n (lv' := [(1, .int (fairS s0 tw (i + 1))), (2, .int (nI ((tw + (i + 1)) % 6))), (3, .int (fairD s0 tw (i + 1))), (0, .ref x), (4, .int (nI i))]) hx hb dX1_fairs_64 rfl hl (by decide) rfl (fun ls hl => ?_)
      refine lv_iinc (v := nI (i + 1)) (lv' := [(4, .int (nI (i + 1))), (1, .int (fairS s0 tw (i + 1))), (2, .int (nI ((tw + (i + 1)) % 6))), (3, .int (fairD s0 tw (i + 1))), (0, .ref x)]) hx hb dX1_fairs_65 hl (k := 4) rfl (h_ninc (a := i) (k := 1) (rfl)) (by decide) rfl (fun ls hl => ?_)
      refine lv_goto (tgt := 21) hx hb dX1_fairs_68 (by decide) ?_
      exact ih_21 (i + 1) (by omega)  ls (lv_sub hl [4, 1, 2, 3, 0] rfl)
  exact loop_21 7 0 (by omega)  ls (lv_sub hl [4, 3, 2, 1, 0] rfl)
theorem kX1_worth : hkV RX1 yX1_worth cX1_worth 4 (some .int) 1 := ⟨q318, q319, q67, q320, rfl, by decide +kernel⟩
set_option maxHeartbeats 4000000 in
theorem jX1_worth (l : Launch) (g : hG) (E : hEnv) (ho : jOk g E) (x : Nat) (nw : Nat) (sv : Option Nat) (dq : Nat) (sb : Nat) (ln : Nat) (fp : Int32) (lt : Option Nat) (lp : Int32) (T : hTr) (s0 : Nat → Int32) (nt : Nat) (nh : Nat) (nb : Nat) (nc : Nat) (tw : Nat) (b : Int32) (hc : Cn s0 nt nh nb nc tw) (hv : Inv s0 nt nh nb nc) (hT : tOk g T nt nh nb nc) : RM l yX1_worth cX1_worth 4 (some .int) 0 0 [.ref x, .int b] g E ((x, .inr (1, [.ref nw, (va_rf sv), .ref dq, .ref sb, .ref ln, .int fp, (va_rf lt), .int lp])) :: (TW g nw T s0 nt nh nb nc ++ [])) (some (.int ((gWorth s0 b).2))) := by
  refine RM.mk (by decide) (Nat.le_of_ble_eq_true rfl) ?_
  intro p e R s m args below meth c Q ls hX hP hE hS hl hQ
  obtain ⟨hx, hb, hr, hlk, hml, hown, hts, hRf, hRl⟩ := hX
  have hown : s.vm.findClass RX1 = some m.cls := hown
  have hj := ho.2 _ _ _ hE
  have hK := hj.kn
  have hl : lv_has ls 4 [(0, .ref x), (1, .int b)] := hl
  rw [List.append_nil] at hP
  have hP : va_P (gD g) Cl ((x, .inr (1, [.ref nw, (va_rf sv), .ref dq, .ref sb, .ref ln, .int fp, (va_rf lt), .int lp])) :: ((nw, .inr (2, [.ref (T.1 0), .ref (T.1 4), .ref (T.1 8), .ref (T.1 12), .ref (T.1 16), .ref (T.1 17), .int (s0 7), .int (s0 8), .int (s0 9), .int (s0 10), .int (s0 11), .int (s0 0), .int (s0 1), .int (s0 2)])) :: ((T.1 0, .inr (3, [.ref (T.1 1), .int 10])) :: ((T.1 1, .inr (13, [.int (T.2.1 0), .ref (T.1 2), .int (nI nt)])) :: ((T.1 4, .inr (3, [.ref (T.1 5), .int 20])) :: ((T.1 5, .inr (13, [.int (T.2.1 1), .ref (T.1 6), .int (nI nh)])) :: ((T.1 8, .inr (3, [.ref (T.1 9), .int 6])) :: ((T.1 9, .inr (13, [.int (T.2.1 2), .ref (T.1 10), .int (nI nb)])) :: ((T.1 12, .inr (3, [.ref (T.1 13), .int 5])) :: ((T.1 13, .inr (13, [.int (T.2.1 3), .ref (T.1 14), .int (nI nc)])) :: ((T.1 16, .inl (g.2.2.1 0, 10, .inl (sievF s0))) :: ((T.1 17, .inl (g.2.2.1 0, 6, .inl (roadF s0))) :: (arW g (T.1 2) (T.1 3) (elF nt (T.2.2 0)) ++ (elW 8 nt (T.2.2 0) (tailV s0) ++ (arW g (T.1 6) (T.1 7) (elF nh (T.2.2 1)) ++ (elW 7 nh (T.2.2 1) (hankV s0) ++ (arW g (T.1 10) (T.1 11) (elF nb (T.2.2 2)) ++ (elW 5 nb (T.2.2 2) (bowV s0) ++ (arW g (T.1 14) (T.1 15) (elF nc (T.2.2 3)) ++ (elW 6 nc (T.2.2 3) (cakeV s0) ++ [])))))))))))))))))))) s.heap := hP
  obtain ⟨c2, ctw, c3, cnt, c4, cnh, c5, cnb, c6, cnc⟩ := hc
  obtain ⟨hok0, hok1, hok2, hok3⟩ := hT
  refine lv_iconst (v := 0) hx hb dX1_worth_0 (by decide) ?_
  refine h_topi (v := worthS s0 0) (rfl) ?_
  refine lv_istore_n (lv' := [(2, .int (worthS s0 0)), (0, .ref x), (1, .int b)]) hx hb dX1_worth_1 rfl hl (by decide) rfl (fun ls hl => ?_)
  refine lv_iconst (v := 1) hx hb dX1_worth_2 (by decide) ?_
  refine lv_istore_n (lv' := [(3, .int 1), (2, .int (worthS s0 0)), (0, .ref x), (1, .int b)]) hx hb dX1_worth_3 rfl hl (by decide) rfl (fun ls hl => ?_)
  have loop_4 : ∀ (k : Nat) (i : Nat), (9 < i + k ∧ i ≤ 9) → ∀ (ls : Array Slot), lv_has ls 4 [(0, .ref x), (1, .int b), (2, .int (worthS s0 i)), (3, .int (nI (i + 1)))] → W p l e R s m args below meth c s.heap [] 0 0 Q (F0 m 4 ls []) := by
    intro k
    induction k with
    | zero =>
      intro i hi  ls hl
      exact absurd hi (by omega)
    | succ k ih_4 =>
      intro i hi  ls hl
      refine lv_iload_n hx hb dX1_worth_4 rfl (lv_at hl 3 rfl) ?_
      refine lv_bipush (v := 9) hx hb dX1_worth_5 (by decide) ?_
      refine lv_icmp_gt (tgt := 32) hx hb dX1_worth_7 (by decide) (fun c_1 => ?_) (fun c_1 => ?_)
      · have hiq : i = 9 := by have z := (nI_ltI (a := 9) (b := i + 1) (by omega) (by omega)).mp c_1; omega
        subst hiq
        refine lv_iload_n hx hb dX1_worth_32 rfl (lv_at hl 1 rfl) ?_
        refine lv_if_eq (tgt := 42) hx hb dX1_worth_33 (by decide) (fun c_2 => ?_) (fun c_2 => ?_)
        · refine lv_iload_n hx hb dX1_worth_42 rfl (lv_at hl 2 rfl) ?_
          exact hr_i hQ hx hb hr hlk rfl (congrArg (fun z => some (Value.int z)) (if_pos c_2)) dX1_worth_43
        refine lv_iconst (v := 2) hx hb dX1_worth_36 (by decide) ?_
        refine lv_iload_n hx hb dX1_worth_37 rfl (lv_at hl 2 rfl) ?_
        refine lv_imul hx hb dX1_worth_38 ?_
        refine lv_goto (tgt := 43) hx hb dX1_worth_39 (by decide) ?_
        exact hr_i hQ hx hb hr hlk rfl (congrArg (fun z => some (Value.int z)) (if_neg c_2)) dX1_worth_43
      have hlt : i < 9 := by have z : ¬ 9 < i + 1 := fun z => c_1 ((nI_ltI (a := 9) (b := i + 1) (by omega) (by omega)).mpr z); omega
      refine lv_iload_n hx hb dX1_worth_10 rfl (lv_at hl 2 rfl) ?_
      refine lv_aload_n hx hb dX1_worth_11 rfl (lv_at hl 0 rfl) ?_
      refine va_get (D := gD g) (ci := 1) (v := .ref nw) (C := RX1) (T := TX1) (N := 8) hx hb hts in_X1 hown hK hP 0 rfl rfl 0 (by decide) (hts _ q285) (fun _ h9 => h9) rfl dX1_worth_12 ?_
      refine va_getN (D := gD g) (ci := 2) (v := .ref (T.1 16)) (C := RX2) (T := TX2) (N := 14) hx hb hts in_X2 hown hK hP 1 rfl rfl 4 (by decide) ((hj.tw q183 rfl).use rfl) (fun _ h9 => h9) rfl dX1_worth_15 ?_
      refine lv_iload_n hx hb dX1_worth_18 rfl (lv_at hl 3 rfl) ?_
      refine h_iald (f := (sievF s0)) hx hb hK hP 10 0 rfl rfl (i + 1) rfl (by omega) (by omega) dX1_worth_19 ?_
      refine h_topi (v := s0 (18 + i + 1)) rfl ?_
      refine lv_iconst (v := 3) hx hb dX1_worth_20 (by decide) ?_
      refine lv_iload_n hx hb dX1_worth_21 rfl (lv_at hl 3 rfl) ?_
      refine lv_iadd hx hb dX1_worth_22 ?_
      refine h_topi (v := nI (3 + (i + 1))) (h_nadd (a := 3) (b := i + 1) (rfl) (rfl)) ?_
      refine lv_imul hx hb dX1_worth_23 ?_
      refine lv_iadd hx hb dX1_worth_24 ?_
      refine h_topi (v := worthS s0 (i + 1)) (rfl) ?_
      refine lv_istore_n (lv' := [(2, .int (worthS s0 (i + 1))), (0, .ref x), (1, .int b), (3, .int (nI (i + 1)))]) hx hb dX1_worth_25 rfl hl (by decide) rfl (fun ls hl => ?_)
      refine lv_iinc (v := nI (i + 1 + 1)) (lv' := [(3, .int (nI (i + 1 + 1))), (2, .int (worthS s0 (i + 1))), (0, .ref x), (1, .int b)]) hx hb dX1_worth_26 hl (k := 3) rfl (h_ninc (a := i + 1) (k := 1) (rfl)) (by decide) rfl (fun ls hl => ?_)
      refine lv_goto (tgt := 4) hx hb dX1_worth_29 (by decide) ?_
      exact ih_4 (i + 1) (by omega)  ls (lv_sub hl [2, 3, 1, 0] rfl)
  exact loop_4 10 0 (by omega)  ls (lv_sub hl [2, 3, 1, 0] rfl)
-- X9_hairs: by interface alone
set_option maxHeartbeats 4000000 in
theorem jX9_hairs (l : Launch) (g : hG) (E : hEnv) (ho : jOk g E) (q : Nat) (f0 : Int32) (f1 : Int32) (f2 : Int32) (f3 : Int32) : RM l yX9_hairs cX9_hairs 1 (some .int) 0 0 [.ref q] g E [(q, .inr (8, [.int f0, .int f1, .int f2, .int f3]))] (some (.int f2)) := by
  refine RM.mk (by decide) (Nat.le_of_ble_eq_true rfl) ?_
  intro p e R s m args below meth c Q ls hX hP hE hS hl hQ
  obtain ⟨hx, hb, hr, hlk, hml, hown, hts, hRf, hRl⟩ := hX
  have hown : s.vm.findClass RX9 = some m.cls := hown
  have hj := ho.2 _ _ _ hE
  have hK := hj.kn
  have hl : lv_has ls 1 [(0, .ref q)] := hl
  refine lv_aload_n hx hb dX9_hairs_0 rfl (lv_at hl 0 rfl) ?_
  refine va_get (D := gD g) (ci := 8) (v := .int f2) (C := RX9) (T := TX9) (N := 4) hx hb hts in_X9 hown hK hP 0 rfl rfl 2 (by decide) (hts _ q909) (fun _ h9 => h9) rfl dX9_hairs_1 ?_
  exact hr_i hQ hx hb hr hlk rfl (rfl) dX9_hairs_4
theorem kX1_hairsOf : hkS yX1_hairsOf cX1_hairsOf 3 (some .int) 1 := ⟨q708, q67, q709, by decide +kernel⟩
theorem kFX9_hairs_HorsehairTrade_Haired : hkF RX9 ({ cls := "HorsehairTrade$Haired", name := "hairs", desc := "()I" } : MethodName) yX9_hairs cX9_hairs 1 (some .int) 0 := ⟨q732, q734, q85, q736, by decide +kernel⟩
set_option maxHeartbeats 4000000 in
theorem jX1_hairsOfX9 (l : Launch) (g : hG) (E : hEnv) (ho : jOk g E) (L : Nat) (mo : Int32) (ea : Nat) (cp : Nat) (n : Nat) (el : Nat → Nat) (s0 : Nat → Int32) (hn : n ≤ 20) (hok : lsOk g ea cp n) : RM l yX1_hairsOf cX1_hairsOf 3 (some .int) 3 64 [.ref L] g E ((L, .inr (13, [.int mo, .ref ea, .int (nI n)])) :: (arW g ea cp (elF n el) ++ (elW 8 n el (tailV s0) ++ []))) (some (.int (sumS s0 33 4 2 n))) := by
  refine RM.mk (by decide) (Nat.le_of_ble_eq_true rfl) ?_
  intro p e R s m args below meth c Q ls hX hP hE hS hl hQ
  obtain ⟨hx, hb, hr, hlk, hml, hown, hts, hRf, hRl⟩ := hX
  have hown : s.vm.findClass RX1 = some m.cls := hown
  have hj := ho.2 _ _ _ hE
  have hK := hj.kn
  have hl : lv_has ls 3 [(0, .ref L)] := hl
  refine lv_iconst (v := 0) hx hb dX1_hairsOf_0 (by decide) ?_
  refine h_topi (v := sumS s0 33 4 2 0) (rfl) ?_
  refine lv_istore_n (lv' := [(1, .int (sumS s0 33 4 2 0)), (0, .ref L)]) hx hb dX1_hairsOf_1 rfl hl (by decide) rfl (fun ls hl => ?_)
  refine lv_iconst (v := 0) hx hb dX1_hairsOf_2 (by decide) ?_
  refine lv_istore_n (lv' := [(2, .int 0), (1, .int (sumS s0 33 4 2 0)), (0, .ref L)]) hx hb dX1_hairsOf_3 rfl hl (by decide) rfl (fun ls hl => ?_)
  have loop_4 : ∀ (k : Nat) (i : Nat), (n < i + k ∧ i ≤ n) → ∀ (ls : Array Slot), lv_has ls 3 [(0, .ref L), (1, .int (sumS s0 33 4 2 i)), (2, .int (nI i))] → W p l e R s m args below meth c s.heap [] 0 0 Q (F0 m 4 ls []) := by
    intro k
    induction k with
    | zero =>
      intro i hi  ls hl
      exact absurd hi (by omega)
    | succ k ih_4 =>
      intro i hi  ls hl
      refine lv_iload_n hx hb dX1_hairsOf_4 rfl (lv_at hl 2 rfl) ?_
      refine lv_aload_n hx hb dX1_hairsOf_5 rfl (lv_at hl 0 rfl) ?_
      refine rcF (hK.1 13 (RJ2, TJ2, 3) rfl).2 (As := []) (rest := [.int (nI i)]) (st1 := [.int (nI n), .int (nI i)]) (jJ2_size l g E ho L ea mo n) kFJ2_size_List (hj.fw _ _ _ q332 q331 q337 q335 q333 (by decide)) q711 hx hb hml hown hts hRf hRl ho.1.1 hE hS (sg_Pt hP [[(L, .inr (13, [.int mo, .ref ea, .int (nI n)]))], arW g ea cp (elF n el), elW 8 n el (tailV s0)] [[(L, .inr (13, [.int mo, .ref ea, .int (nI n)]))]] rfl rfl [0] rfl) (va_recv hK hP (ci := 13) (q0 := 0) rfl rfl) ⟨Nat.zero_le _, Nat.zero_le _⟩ hl ⟨rfl, rfl⟩ rfl rfl (Nat.le_of_ble_eq_true rfl) rfl dX1_hairsOf_6 ?_
      refine lv_icmp_ge (tgt := 38) hx hb dX1_hairsOf_11 (by decide) (fun c_1 => ?_) (fun c_1 => ?_)
      · have hiq : i = n := Nat.le_antisymm hi.2 ((nI_leI (by omega) (by omega)).mp c_1)
        subst hiq
        refine lv_iload_n hx hb dX1_hairsOf_38 rfl (lv_at hl 1 rfl) ?_
        exact hr_i hQ hx hb hr hlk rfl (rfl) dX1_hairsOf_39
      have hlt : i < n := Nat.not_le.mp (fun z => c_1 ((nI_leI (by omega) (by omega)).mpr z))
      refine lv_iload_n hx hb dX1_hairsOf_14 rfl (lv_at hl 1 rfl) ?_
      refine lv_aload_n hx hb dX1_hairsOf_15 rfl (lv_at hl 0 rfl) ?_
      refine lv_iload_n hx hb dX1_hairsOf_16 rfl (lv_at hl 2 rfl) ?_
      refine rcF (hK.1 13 (RJ2, TJ2, 3) rfl).2 (As := [.int (nI i)]) (rest := [.int (sumS s0 33 4 2 i)]) (st1 := [.ref (el i), .int (sumS s0 33 4 2 i)]) (jJ2_getS l g E ho L mo ea cp n 8 el (tailV s0) (RX9, TX9, 4) i hlt hok) kFJ2_get_List (hj.fw _ _ _ q467 q466 q471 q469 q333 (by decide)) q713 hx hb hml hown hts hRf hRl ho.1.1 hE hS (sg_Pt hP [[(L, .inr (13, [.int mo, .ref ea, .int (nI n)]))], arW g ea cp (elF n el), elW 8 n el (tailV s0)] [[(L, .inr (13, [.int mo, .ref ea, .int (nI n)]))], arW g ea cp (elF n el), elW 8 n el (tailV s0)] rfl rfl [0, 1, 2] rfl) (va_recv hK hP (ci := 13) (q0 := 0) rfl rfl) ⟨Nat.zero_le _, Nat.zero_le _⟩ hl ⟨rfl, rfl⟩ rfl rfl (Nat.le_of_ble_eq_true rfl) rfl dX1_hairsOf_17 ?_
      refine va_castY (C := RX9) hx hb hown (hts _ q714) (hj.tw q731 rfl) (va_recv hK (el_see (R := []) i hlt (sg_P [[(L, .inr (13, [.int mo, .ref ea, .int (nI n)]))], arW g ea cp (elF n el), elW 8 n el (tailV s0)] [elW 8 n el (tailV s0)] [2] rfl hP)) (ci := 8) (q0 := 0) rfl rfl) dX1_hairsOf_22 ?_
      refine rcF (hK.1 8 (RX9, TX9, 4) rfl).2 (As := []) (rest := [.int (sumS s0 33 4 2 i)]) (st1 := [.int (s0 (33 + 4 * i + 2)), .int (sumS s0 33 4 2 i)]) (jX9_hairs l g E ho (el i) (s0 (33 + 4 * i)) (s0 (33 + 4 * i + 1)) (s0 (33 + 4 * i + 2)) (s0 (33 + 4 * i + 3))) kFX9_hairs_HorsehairTrade_Haired (hj.fw _ _ _ q718 q717 q735 q733 q731 (by decide)) q716 hx hb hml hown hts hRf hRl ho.1.1 hE hS (el_see (R := []) i hlt (sg_P [[(L, .inr (13, [.int mo, .ref ea, .int (nI n)]))], arW g ea cp (elF n el), elW 8 n el (tailV s0)] [elW 8 n el (tailV s0)] [2] rfl hP)) (va_recv hK (el_see (R := []) i hlt (sg_P [[(L, .inr (13, [.int mo, .ref ea, .int (nI n)]))], arW g ea cp (elF n el), elW 8 n el (tailV s0)] [elW 8 n el (tailV s0)] [2] rfl hP)) (ci := 8) (q0 := 0) rfl rfl) ⟨Nat.zero_le _, Nat.zero_le _⟩ hl ⟨rfl, rfl⟩ rfl rfl (Nat.le_of_ble_eq_true rfl) rfl dX1_hairsOf_25 ?_
      refine lv_iadd hx hb dX1_hairsOf_30 ?_
      refine h_topi (v := sumS s0 33 4 2 (i + 1)) (rfl) ?_
      refine lv_istore_n (lv' := [(1, .int (sumS s0 33 4 2 (i + 1))), (0, .ref L), (2, .int (nI i))]) hx hb dX1_hairsOf_31 rfl hl (by decide) rfl (fun ls hl => ?_)
      refine lv_iinc (v := nI (i + 1)) (lv' := [(2, .int (nI (i + 1))), (1, .int (sumS s0 33 4 2 (i + 1))), (0, .ref L)]) hx hb dX1_hairsOf_32 hl (k := 2) rfl (h_ninc (a := i) (k := 1) (rfl)) (by decide) rfl (fun ls hl => ?_)
      refine lv_goto (tgt := 4) hx hb dX1_hairsOf_35 (by decide) ?_
      exact ih_4 (i + 1) (by omega)  ls (lv_sub hl [2, 1, 0] rfl)
  exact loop_4 (n + 1) 0 (by omega)  ls (lv_sub hl [2, 1, 0] rfl)
-- X8_hairs: by interface alone
set_option maxHeartbeats 4000000 in
theorem jX8_hairs (l : Launch) (g : hG) (E : hEnv) (ho : jOk g E) (q : Nat) (f0 : Int32) (f1 : Int32) (f2 : Int32) (f3 : Int32) : RM l yX8_hairs cX8_hairs 1 (some .int) 0 0 [.ref q] g E [(q, .inr (7, [.int f0, .int f1, .int f2, .int f3]))] (some (.int f0)) := by
  refine RM.mk (by decide) (Nat.le_of_ble_eq_true rfl) ?_
  intro p e R s m args below meth c Q ls hX hP hE hS hl hQ
  obtain ⟨hx, hb, hr, hlk, hml, hown, hts, hRf, hRl⟩ := hX
  have hown : s.vm.findClass RX8 = some m.cls := hown
  have hj := ho.2 _ _ _ hE
  have hK := hj.kn
  have hl : lv_has ls 1 [(0, .ref q)] := hl
  refine lv_aload_n hx hb dX8_hairs_0 rfl (lv_at hl 0 rfl) ?_
  refine va_get (D := gD g) (ci := 7) (v := .int f0) (C := RX8) (T := TX8) (N := 4) hx hb hts in_X8 hown hK hP 0 rfl rfl 0 (by decide) (hts _ q868) (fun _ h9 => h9) rfl dX8_hairs_1 ?_
  exact hr_i hQ hx hb hr hlk rfl (rfl) dX8_hairs_4
theorem kFX8_hairs_HorsehairTrade_Haired : hkF RX8 ({ cls := "HorsehairTrade$Haired", name := "hairs", desc := "()I" } : MethodName) yX8_hairs cX8_hairs 1 (some .int) 0 := ⟨q726, q728, q84, q730, by decide +kernel⟩
set_option maxHeartbeats 4000000 in
theorem jX1_hairsOfX8 (l : Launch) (g : hG) (E : hEnv) (ho : jOk g E) (L : Nat) (mo : Int32) (ea : Nat) (cp : Nat) (n : Nat) (el : Nat → Nat) (s0 : Nat → Int32) (hn : n ≤ 20) (hok : lsOk g ea cp n) : RM l yX1_hairsOf cX1_hairsOf 3 (some .int) 3 64 [.ref L] g E ((L, .inr (13, [.int mo, .ref ea, .int (nI n)])) :: (arW g ea cp (elF n el) ++ (elW 7 n el (hankV s0) ++ []))) (some (.int (sumS s0 73 4 2 n))) := by
  refine RM.mk (by decide) (Nat.le_of_ble_eq_true rfl) ?_
  intro p e R s m args below meth c Q ls hX hP hE hS hl hQ
  obtain ⟨hx, hb, hr, hlk, hml, hown, hts, hRf, hRl⟩ := hX
  have hown : s.vm.findClass RX1 = some m.cls := hown
  have hj := ho.2 _ _ _ hE
  have hK := hj.kn
  have hl : lv_has ls 3 [(0, .ref L)] := hl
  refine lv_iconst (v := 0) hx hb dX1_hairsOf_0 (by decide) ?_
  refine h_topi (v := sumS s0 73 4 2 0) (rfl) ?_
  refine lv_istore_n (lv' := [(1, .int (sumS s0 73 4 2 0)), (0, .ref L)]) hx hb dX1_hairsOf_1 rfl hl (by decide) rfl (fun ls hl => ?_)
  refine lv_iconst (v := 0) hx hb dX1_hairsOf_2 (by decide) ?_
  refine lv_istore_n (lv' := [(2, .int 0), (1, .int (sumS s0 73 4 2 0)), (0, .ref L)]) hx hb dX1_hairsOf_3 rfl hl (by decide) rfl (fun ls hl => ?_)
  have loop_4 : ∀ (k : Nat) (i : Nat), (n < i + k ∧ i ≤ n) → ∀ (ls : Array Slot), lv_has ls 3 [(0, .ref L), (1, .int (sumS s0 73 4 2 i)), (2, .int (nI i))] → W p l e R s m args below meth c s.heap [] 0 0 Q (F0 m 4 ls []) := by
    intro k
    induction k with
    | zero =>
      intro i hi  ls hl
      exact absurd hi (by omega)
    | succ k ih_4 =>
      intro i hi  ls hl
      refine lv_iload_n hx hb dX1_hairsOf_4 rfl (lv_at hl 2 rfl) ?_
      refine lv_aload_n hx hb dX1_hairsOf_5 rfl (lv_at hl 0 rfl) ?_
      refine rcF (hK.1 13 (RJ2, TJ2, 3) rfl).2 (As := []) (rest := [.int (nI i)]) (st1 := [.int (nI n), .int (nI i)]) (jJ2_size l g E ho L ea mo n) kFJ2_size_List (hj.fw _ _ _ q332 q331 q337 q335 q333 (by decide)) q711 hx hb hml hown hts hRf hRl ho.1.1 hE hS (sg_Pt hP [[(L, .inr (13, [.int mo, .ref ea, .int (nI n)]))], arW g ea cp (elF n el), elW 7 n el (hankV s0)] [[(L, .inr (13, [.int mo, .ref ea, .int (nI n)]))]] rfl rfl [0] rfl) (va_recv hK hP (ci := 13) (q0 := 0) rfl rfl) ⟨Nat.zero_le _, Nat.zero_le _⟩ hl ⟨rfl, rfl⟩ rfl rfl (Nat.le_of_ble_eq_true rfl) rfl dX1_hairsOf_6 ?_
      refine lv_icmp_ge (tgt := 38) hx hb dX1_hairsOf_11 (by decide) (fun c_1 => ?_) (fun c_1 => ?_)
      · have hiq : i = n := Nat.le_antisymm hi.2 ((nI_leI (by omega) (by omega)).mp c_1)
        subst hiq
        refine lv_iload_n hx hb dX1_hairsOf_38 rfl (lv_at hl 1 rfl) ?_
        exact hr_i hQ hx hb hr hlk rfl (rfl) dX1_hairsOf_39
      have hlt : i < n := Nat.not_le.mp (fun z => c_1 ((nI_leI (by omega) (by omega)).mpr z))
      refine lv_iload_n hx hb dX1_hairsOf_14 rfl (lv_at hl 1 rfl) ?_
      refine lv_aload_n hx hb dX1_hairsOf_15 rfl (lv_at hl 0 rfl) ?_
      refine lv_iload_n hx hb dX1_hairsOf_16 rfl (lv_at hl 2 rfl) ?_
      refine rcF (hK.1 13 (RJ2, TJ2, 3) rfl).2 (As := [.int (nI i)]) (rest := [.int (sumS s0 73 4 2 i)]) (st1 := [.ref (el i), .int (sumS s0 73 4 2 i)]) (jJ2_getS l g E ho L mo ea cp n 7 el (hankV s0) (RX8, TX8, 4) i hlt hok) kFJ2_get_List (hj.fw _ _ _ q467 q466 q471 q469 q333 (by decide)) q713 hx hb hml hown hts hRf hRl ho.1.1 hE hS (sg_Pt hP [[(L, .inr (13, [.int mo, .ref ea, .int (nI n)]))], arW g ea cp (elF n el), elW 7 n el (hankV s0)] [[(L, .inr (13, [.int mo, .ref ea, .int (nI n)]))], arW g ea cp (elF n el), elW 7 n el (hankV s0)] rfl rfl [0, 1, 2] rfl) (va_recv hK hP (ci := 13) (q0 := 0) rfl rfl) ⟨Nat.zero_le _, Nat.zero_le _⟩ hl ⟨rfl, rfl⟩ rfl rfl (Nat.le_of_ble_eq_true rfl) rfl dX1_hairsOf_17 ?_
      refine va_castY (C := RX8) hx hb hown (hts _ q714) (hj.tw q725 rfl) (va_recv hK (el_see (R := []) i hlt (sg_P [[(L, .inr (13, [.int mo, .ref ea, .int (nI n)]))], arW g ea cp (elF n el), elW 7 n el (hankV s0)] [elW 7 n el (hankV s0)] [2] rfl hP)) (ci := 7) (q0 := 0) rfl rfl) dX1_hairsOf_22 ?_
      refine rcF (hK.1 7 (RX8, TX8, 4) rfl).2 (As := []) (rest := [.int (sumS s0 73 4 2 i)]) (st1 := [.int (s0 (73 + 4 * i + 2)), .int (sumS s0 73 4 2 i)]) (jX8_hairs l g E ho (el i) (s0 (73 + 4 * i + 2)) (s0 (73 + 4 * i + 1)) (s0 (73 + 4 * i)) (s0 (73 + 4 * i + 3))) kFX8_hairs_HorsehairTrade_Haired (hj.fw _ _ _ q718 q717 q729 q727 q725 (by decide)) q716 hx hb hml hown hts hRf hRl ho.1.1 hE hS (el_see (R := []) i hlt (sg_P [[(L, .inr (13, [.int mo, .ref ea, .int (nI n)]))], arW g ea cp (elF n el), elW 7 n el (hankV s0)] [elW 7 n el (hankV s0)] [2] rfl hP)) (va_recv hK (el_see (R := []) i hlt (sg_P [[(L, .inr (13, [.int mo, .ref ea, .int (nI n)]))], arW g ea cp (elF n el), elW 7 n el (hankV s0)] [elW 7 n el (hankV s0)] [2] rfl hP)) (ci := 7) (q0 := 0) rfl rfl) ⟨Nat.zero_le _, Nat.zero_le _⟩ hl ⟨rfl, rfl⟩ rfl rfl (Nat.le_of_ble_eq_true rfl) rfl dX1_hairsOf_25 ?_
      refine lv_iadd hx hb dX1_hairsOf_30 ?_
      refine h_topi (v := sumS s0 73 4 2 (i + 1)) (rfl) ?_
      refine lv_istore_n (lv' := [(1, .int (sumS s0 73 4 2 (i + 1))), (0, .ref L), (2, .int (nI i))]) hx hb dX1_hairsOf_31 rfl hl (by decide) rfl (fun ls hl => ?_)
      refine lv_iinc (v := nI (i + 1)) (lv' := [(2, .int (nI (i + 1))), (1, .int (sumS s0 73 4 2 (i + 1))), (0, .ref L)]) hx hb dX1_hairsOf_32 hl (k := 2) rfl (h_ninc (a := i) (k := 1) (rfl)) (by decide) rfl (fun ls hl => ?_)
      refine lv_goto (tgt := 4) hx hb dX1_hairsOf_35 (by decide) ?_
      exact ih_4 (i + 1) (by omega)  ls (lv_sub hl [2, 1, 0] rfl)
  exact loop_4 (n + 1) 0 (by omega)  ls (lv_sub hl [2, 1, 0] rfl)
-- X6_hairs: by interface alone
set_option maxHeartbeats 4000000 in
theorem jX6_hairs (l : Launch) (g : hG) (E : hEnv) (ho : jOk g E) (q : Nat) (f0 : Int32) (f1 : Int32) (f2 : Int32) (f3 : Int32) (f4 : Int32) (f5 : Int32) (f6 : Int32) : RM l yX6_hairs cX6_hairs 1 (some .int) 0 0 [.ref q] g E [(q, .inr (5, [.int f0, .int f1, .int f2, .int f3, .int f4, .int f5, .int f6]))] (some (.int f1)) := by
  refine RM.mk (by decide) (Nat.le_of_ble_eq_true rfl) ?_
  intro p e R s m args below meth c Q ls hX hP hE hS hl hQ
  obtain ⟨hx, hb, hr, hlk, hml, hown, hts, hRf, hRl⟩ := hX
  have hown : s.vm.findClass RX6 = some m.cls := hown
  have hj := ho.2 _ _ _ hE
  have hK := hj.kn
  have hl : lv_has ls 1 [(0, .ref q)] := hl
  refine lv_aload_n hx hb dX6_hairs_0 rfl (lv_at hl 0 rfl) ?_
  refine va_get (D := gD g) (ci := 5) (v := .int f1) (C := RX6) (T := TX6) (N := 7) hx hb hts in_X6 hown hK hP 0 rfl rfl 1 (by decide) (hts _ q798) (fun _ h9 => h9) rfl dX6_hairs_1 ?_
  exact hr_i hQ hx hb hr hlk rfl (rfl) dX6_hairs_4
theorem kFX6_hairs_HorsehairTrade_Haired : hkF RX6 ({ cls := "HorsehairTrade$Haired", name := "hairs", desc := "()I" } : MethodName) yX6_hairs cX6_hairs 1 (some .int) 0 := ⟨q720, q722, q82, q724, by decide +kernel⟩
set_option maxHeartbeats 4000000 in
theorem jX1_hairsOfX6 (l : Launch) (g : hG) (E : hEnv) (ho : jOk g E) (L : Nat) (mo : Int32) (ea : Nat) (cp : Nat) (n : Nat) (el : Nat → Nat) (s0 : Nat → Int32) (hn : n ≤ 20) (hok : lsOk g ea cp n) : RM l yX1_hairsOf cX1_hairsOf 3 (some .int) 3 64 [.ref L] g E ((L, .inr (13, [.int mo, .ref ea, .int (nI n)])) :: (arW g ea cp (elF n el) ++ (elW 5 n el (bowV s0) ++ []))) (some (.int (sumS s0 153 7 2 n))) := by
  refine RM.mk (by decide) (Nat.le_of_ble_eq_true rfl) ?_
  intro p e R s m args below meth c Q ls hX hP hE hS hl hQ
  obtain ⟨hx, hb, hr, hlk, hml, hown, hts, hRf, hRl⟩ := hX
  have hown : s.vm.findClass RX1 = some m.cls := hown
  have hj := ho.2 _ _ _ hE
  have hK := hj.kn
  have hl : lv_has ls 3 [(0, .ref L)] := hl
  refine lv_iconst (v := 0) hx hb dX1_hairsOf_0 (by decide) ?_
  refine h_topi (v := sumS s0 153 7 2 0) (rfl) ?_
  refine lv_istore_n (lv' := [(1, .int (sumS s0 153 7 2 0)), (0, .ref L)]) hx hb dX1_hairsOf_1 rfl hl (by decide) rfl (fun ls hl => ?_)
  refine lv_iconst (v := 0) hx hb dX1_hairsOf_2 (by decide) ?_
  refine lv_istore_n (lv' := [(2, .int 0), (1, .int (sumS s0 153 7 2 0)), (0, .ref L)]) hx hb dX1_hairsOf_3 rfl hl (by decide) rfl (fun ls hl => ?_)
  have loop_4 : ∀ (k : Nat) (i : Nat), (n < i + k ∧ i ≤ n) → ∀ (ls : Array Slot), lv_has ls 3 [(0, .ref L), (1, .int (sumS s0 153 7 2 i)), (2, .int (nI i))] → W p l e R s m args below meth c s.heap [] 0 0 Q (F0 m 4 ls []) := by
    intro k
    induction k with
    | zero =>
      intro i hi  ls hl
      exact absurd hi (by omega)
    | succ k ih_4 =>
      intro i hi  ls hl
      refine lv_iload_n hx hb dX1_hairsOf_4 rfl (lv_at hl 2 rfl) ?_
      refine lv_aload_n hx hb dX1_hairsOf_5 rfl (lv_at hl 0 rfl) ?_
      refine rcF (hK.1 13 (RJ2, TJ2, 3) rfl).2 (As := []) (rest := [.int (nI i)]) (st1 := [.int (nI n), .int (nI i)]) (jJ2_size l g E ho L ea mo n) kFJ2_size_List (hj.fw _ _ _ q332 q331 q337 q335 q333 (by decide)) q711 hx hb hml hown hts hRf hRl ho.1.1 hE hS (sg_Pt hP [[(L, .inr (13, [.int mo, .ref ea, .int (nI n)]))], arW g ea cp (elF n el), elW 5 n el (bowV s0)] [[(L, .inr (13, [.int mo, .ref ea, .int (nI n)]))]] rfl rfl [0] rfl) (va_recv hK hP (ci := 13) (q0 := 0) rfl rfl) ⟨Nat.zero_le _, Nat.zero_le _⟩ hl ⟨rfl, rfl⟩ rfl rfl (Nat.le_of_ble_eq_true rfl) rfl dX1_hairsOf_6 ?_
      refine lv_icmp_ge (tgt := 38) hx hb dX1_hairsOf_11 (by decide) (fun c_1 => ?_) (fun c_1 => ?_)
      · have hiq : i = n := Nat.le_antisymm hi.2 ((nI_leI (by omega) (by omega)).mp c_1)
        subst hiq
        refine lv_iload_n hx hb dX1_hairsOf_38 rfl (lv_at hl 1 rfl) ?_
        exact hr_i hQ hx hb hr hlk rfl (rfl) dX1_hairsOf_39
      have hlt : i < n := Nat.not_le.mp (fun z => c_1 ((nI_leI (by omega) (by omega)).mpr z))
      refine lv_iload_n hx hb dX1_hairsOf_14 rfl (lv_at hl 1 rfl) ?_
      refine lv_aload_n hx hb dX1_hairsOf_15 rfl (lv_at hl 0 rfl) ?_
      refine lv_iload_n hx hb dX1_hairsOf_16 rfl (lv_at hl 2 rfl) ?_
      refine rcF (hK.1 13 (RJ2, TJ2, 3) rfl).2 (As := [.int (nI i)]) (rest := [.int (sumS s0 153 7 2 i)]) (st1 := [.ref (el i), .int (sumS s0 153 7 2 i)]) (jJ2_getS l g E ho L mo ea cp n 5 el (bowV s0) (RX6, TX6, 7) i hlt hok) kFJ2_get_List (hj.fw _ _ _ q467 q466 q471 q469 q333 (by decide)) q713 hx hb hml hown hts hRf hRl ho.1.1 hE hS (sg_Pt hP [[(L, .inr (13, [.int mo, .ref ea, .int (nI n)]))], arW g ea cp (elF n el), elW 5 n el (bowV s0)] [[(L, .inr (13, [.int mo, .ref ea, .int (nI n)]))], arW g ea cp (elF n el), elW 5 n el (bowV s0)] rfl rfl [0, 1, 2] rfl) (va_recv hK hP (ci := 13) (q0 := 0) rfl rfl) ⟨Nat.zero_le _, Nat.zero_le _⟩ hl ⟨rfl, rfl⟩ rfl rfl (Nat.le_of_ble_eq_true rfl) rfl dX1_hairsOf_17 ?_
      refine va_castY (C := RX6) hx hb hown (hts _ q714) (hj.tw q719 rfl) (va_recv hK (el_see (R := []) i hlt (sg_P [[(L, .inr (13, [.int mo, .ref ea, .int (nI n)]))], arW g ea cp (elF n el), elW 5 n el (bowV s0)] [elW 5 n el (bowV s0)] [2] rfl hP)) (ci := 5) (q0 := 0) rfl rfl) dX1_hairsOf_22 ?_
      refine rcF (hK.1 5 (RX6, TX6, 7) rfl).2 (As := []) (rest := [.int (sumS s0 153 7 2 i)]) (st1 := [.int (s0 (153 + 7 * i + 2)), .int (sumS s0 153 7 2 i)]) (jX6_hairs l g E ho (el i) (s0 (153 + 7 * i)) (s0 (153 + 7 * i + 2)) (s0 (153 + 7 * i + 1)) (s0 (153 + 7 * i + 3)) (s0 (153 + 7 * i + 6)) (s0 (153 + 7 * i + 5)) (s0 (153 + 7 * i + 4))) kFX6_hairs_HorsehairTrade_Haired (hj.fw _ _ _ q718 q717 q723 q721 q719 (by decide)) q716 hx hb hml hown hts hRf hRl ho.1.1 hE hS (el_see (R := []) i hlt (sg_P [[(L, .inr (13, [.int mo, .ref ea, .int (nI n)]))], arW g ea cp (elF n el), elW 5 n el (bowV s0)] [elW 5 n el (bowV s0)] [2] rfl hP)) (va_recv hK (el_see (R := []) i hlt (sg_P [[(L, .inr (13, [.int mo, .ref ea, .int (nI n)]))], arW g ea cp (elF n el), elW 5 n el (bowV s0)] [elW 5 n el (bowV s0)] [2] rfl hP)) (ci := 5) (q0 := 0) rfl rfl) ⟨Nat.zero_le _, Nat.zero_le _⟩ hl ⟨rfl, rfl⟩ rfl rfl (Nat.le_of_ble_eq_true rfl) rfl dX1_hairsOf_25 ?_
      refine lv_iadd hx hb dX1_hairsOf_30 ?_
      refine h_topi (v := sumS s0 153 7 2 (i + 1)) (rfl) ?_
      refine lv_istore_n (lv' := [(1, .int (sumS s0 153 7 2 (i + 1))), (0, .ref L), (2, .int (nI i))]) hx hb dX1_hairsOf_31 rfl hl (by decide) rfl (fun ls hl => ?_)
      refine lv_iinc (v := nI (i + 1)) (lv' := [(2, .int (nI (i + 1))), (1, .int (sumS s0 153 7 2 (i + 1))), (0, .ref L)]) hx hb dX1_hairsOf_32 hl (k := 2) rfl (h_ninc (a := i) (k := 1) (rfl)) (by decide) rfl (fun ls hl => ?_)
      refine lv_goto (tgt := 4) hx hb dX1_hairsOf_35 (by decide) ?_
      exact ih_4 (i + 1) (by omega)  ls (lv_sub hl [2, 1, 0] rfl)
  exact loop_4 (n + 1) 0 (by omega)  ls (lv_sub hl [2, 1, 0] rfl)
theorem kX2_hairsAgain : hkV RX2 yX2_hairsAgain cX2_hairsAgain 1 (some .int) 0 := ⟨q704, q705, q68, q706, rfl, by decide +kernel⟩
set_option maxHeartbeats 4000000 in
theorem jX2_hairsAgain (l : Launch) (g : hG) (E : hEnv) (ho : jOk g E) (q : Nat) (T : hTr) (s0 : Nat → Int32) (nt : Nat) (nh : Nat) (nb : Nat) (nc : Nat) (tw : Nat) (hc : Cn s0 nt nh nb nc tw) (hv : Inv s0 nt nh nb nc) (hT : tOk g T nt nh nb nc) : RM l yX2_hairsAgain cX2_hairsAgain 1 (some .int) 4 86 [.ref q] g E (TW g q T s0 nt nh nb nc ++ []) (some (.int (sumS s0 33 4 2 nt + sumS s0 73 4 2 nh + sumS s0 153 7 2 nb + s0 9 + s0 10 + s0 11))) := by
  refine RM.mk (by decide) (Nat.le_of_ble_eq_true rfl) ?_
  intro p e R s m args below meth c Q ls hX hP hE hS hl hQ
  obtain ⟨hx, hb, hr, hlk, hml, hown, hts, hRf, hRl⟩ := hX
  have hown : s.vm.findClass RX2 = some m.cls := hown
  have hj := ho.2 _ _ _ hE
  have hK := hj.kn
  have hl : lv_has ls 1 [(0, .ref q)] := hl
  rw [List.append_nil] at hP
  have hP : va_P (gD g) Cl ((q, .inr (2, [.ref (T.1 0), .ref (T.1 4), .ref (T.1 8), .ref (T.1 12), .ref (T.1 16), .ref (T.1 17), .int (s0 7), .int (s0 8), .int (s0 9), .int (s0 10), .int (s0 11), .int (s0 0), .int (s0 1), .int (s0 2)])) :: ((T.1 0, .inr (3, [.ref (T.1 1), .int 10])) :: ((T.1 1, .inr (13, [.int (T.2.1 0), .ref (T.1 2), .int (nI nt)])) :: ((T.1 4, .inr (3, [.ref (T.1 5), .int 20])) :: ((T.1 5, .inr (13, [.int (T.2.1 1), .ref (T.1 6), .int (nI nh)])) :: ((T.1 8, .inr (3, [.ref (T.1 9), .int 6])) :: ((T.1 9, .inr (13, [.int (T.2.1 2), .ref (T.1 10), .int (nI nb)])) :: ((T.1 12, .inr (3, [.ref (T.1 13), .int 5])) :: ((T.1 13, .inr (13, [.int (T.2.1 3), .ref (T.1 14), .int (nI nc)])) :: ((T.1 16, .inl (g.2.2.1 0, 10, .inl (sievF s0))) :: ((T.1 17, .inl (g.2.2.1 0, 6, .inl (roadF s0))) :: (arW g (T.1 2) (T.1 3) (elF nt (T.2.2 0)) ++ (elW 8 nt (T.2.2 0) (tailV s0) ++ (arW g (T.1 6) (T.1 7) (elF nh (T.2.2 1)) ++ (elW 7 nh (T.2.2 1) (hankV s0) ++ (arW g (T.1 10) (T.1 11) (elF nb (T.2.2 2)) ++ (elW 5 nb (T.2.2 2) (bowV s0) ++ (arW g (T.1 14) (T.1 15) (elF nc (T.2.2 3)) ++ (elW 6 nc (T.2.2 3) (cakeV s0) ++ []))))))))))))))))))) s.heap := hP
  obtain ⟨c2, ctw, c3, cnt, c4, cnh, c5, cnb, c6, cnc⟩ := hc
  obtain ⟨hok0, hok1, hok2, hok3⟩ := hT
  refine lv_aload_n hx hb dX2_hairsAgain_0 rfl (lv_at hl 0 rfl) ?_
  refine va_get (D := gD g) (ci := 2) (v := .ref (T.1 0)) (C := RX2) (T := TX2) (N := 14) hx hb hts in_X2 hown hK hP 0 rfl rfl 0 (by decide) (hts _ q174) (fun _ h9 => h9) rfl dX2_hairsAgain_1 ?_
  refine va_getN (D := gD g) (ci := 3) (v := .ref (T.1 1)) (C := RX3) (T := TX3) (N := 2) hx hb hts in_X3 hown hK hP 1 rfl rfl 0 (by decide) ((hj.tw q166 rfl).use rfl) (fun _ h9 => h9) rfl dX2_hairsAgain_4 ?_
  refine rcSN (As := [.ref (T.1 1)]) (rest := []) (st1 := [.int (sumS s0 33 4 2 nt)]) (jX1_hairsOfX9 l g E ho (T.1 1) (T.2.1 0) (T.1 2) (T.1 3) nt (T.2.2 0) s0 (by omega) hok0) kX1_hairsOf (hj.tw q707 rfl) hx hb hml hown hts hRf hRl ho.1.1 hE hS (sg_Pt hP [[(q, .inr (2, [.ref (T.1 0), .ref (T.1 4), .ref (T.1 8), .ref (T.1 12), .ref (T.1 16), .ref (T.1 17), .int (s0 7), .int (s0 8), .int (s0 9), .int (s0 10), .int (s0 11), .int (s0 0), .int (s0 1), .int (s0 2)]))], [(T.1 0, .inr (3, [.ref (T.1 1), .int 10]))], [(T.1 1, .inr (13, [.int (T.2.1 0), .ref (T.1 2), .int (nI nt)]))], [(T.1 4, .inr (3, [.ref (T.1 5), .int 20]))], [(T.1 5, .inr (13, [.int (T.2.1 1), .ref (T.1 6), .int (nI nh)]))], [(T.1 8, .inr (3, [.ref (T.1 9), .int 6]))], [(T.1 9, .inr (13, [.int (T.2.1 2), .ref (T.1 10), .int (nI nb)]))], [(T.1 12, .inr (3, [.ref (T.1 13), .int 5]))], [(T.1 13, .inr (13, [.int (T.2.1 3), .ref (T.1 14), .int (nI nc)]))], [(T.1 16, .inl (g.2.2.1 0, 10, .inl (sievF s0)))], [(T.1 17, .inl (g.2.2.1 0, 6, .inl (roadF s0)))], arW g (T.1 2) (T.1 3) (elF nt (T.2.2 0)), elW 8 nt (T.2.2 0) (tailV s0), arW g (T.1 6) (T.1 7) (elF nh (T.2.2 1)), elW 7 nh (T.2.2 1) (hankV s0), arW g (T.1 10) (T.1 11) (elF nb (T.2.2 2)), elW 5 nb (T.2.2 2) (bowV s0), arW g (T.1 14) (T.1 15) (elF nc (T.2.2 3)), elW 6 nc (T.2.2 3) (cakeV s0)] [[(T.1 1, .inr (13, [.int (T.2.1 0), .ref (T.1 2), .int (nI nt)]))], arW g (T.1 2) (T.1 3) (elF nt (T.2.2 0)), elW 8 nt (T.2.2 0) (tailV s0)] rfl rfl [2, 11, 12] rfl) ⟨Nat.zero_le _, Nat.zero_le _⟩ hl ⟨rfl, rfl⟩ rfl rfl (Nat.le_of_ble_eq_true rfl) rfl dX2_hairsAgain_7 ?_
  refine lv_aload_n hx hb dX2_hairsAgain_10 rfl (lv_at hl 0 rfl) ?_
  refine va_get (D := gD g) (ci := 2) (v := .ref (T.1 4)) (C := RX2) (T := TX2) (N := 14) hx hb hts in_X2 hown hK hP 0 rfl rfl 1 (by decide) (hts _ q176) (fun _ h9 => h9) rfl dX2_hairsAgain_11 ?_
  refine va_getN (D := gD g) (ci := 3) (v := .ref (T.1 5)) (C := RX3) (T := TX3) (N := 2) hx hb hts in_X3 hown hK hP 3 rfl rfl 0 (by decide) ((hj.tw q166 rfl).use rfl) (fun _ h9 => h9) rfl dX2_hairsAgain_14 ?_
  refine rcSN (As := [.ref (T.1 5)]) (rest := [.int (sumS s0 33 4 2 nt)]) (st1 := [.int (sumS s0 73 4 2 nh), .int (sumS s0 33 4 2 nt)]) (jX1_hairsOfX8 l g E ho (T.1 5) (T.2.1 1) (T.1 6) (T.1 7) nh (T.2.2 1) s0 (by omega) hok1) kX1_hairsOf (hj.tw q707 rfl) hx hb hml hown hts hRf hRl ho.1.1 hE hS (sg_Pt hP [[(q, .inr (2, [.ref (T.1 0), .ref (T.1 4), .ref (T.1 8), .ref (T.1 12), .ref (T.1 16), .ref (T.1 17), .int (s0 7), .int (s0 8), .int (s0 9), .int (s0 10), .int (s0 11), .int (s0 0), .int (s0 1), .int (s0 2)]))], [(T.1 0, .inr (3, [.ref (T.1 1), .int 10]))], [(T.1 1, .inr (13, [.int (T.2.1 0), .ref (T.1 2), .int (nI nt)]))], [(T.1 4, .inr (3, [.ref (T.1 5), .int 20]))], [(T.1 5, .inr (13, [.int (T.2.1 1), .ref (T.1 6), .int (nI nh)]))], [(T.1 8, .inr (3, [.ref (T.1 9), .int 6]))], [(T.1 9, .inr (13, [.int (T.2.1 2), .ref (T.1 10), .int (nI nb)]))], [(T.1 12, .inr (3, [.ref (T.1 13), .int 5]))], [(T.1 13, .inr (13, [.int (T.2.1 3), .ref (T.1 14), .int (nI nc)]))], [(T.1 16, .inl (g.2.2.1 0, 10, .inl (sievF s0)))], [(T.1 17, .inl (g.2.2.1 0, 6, .inl (roadF s0)))], arW g (T.1 2) (T.1 3) (elF nt (T.2.2 0)), elW 8 nt (T.2.2 0) (tailV s0), arW g (T.1 6) (T.1 7) (elF nh (T.2.2 1)), elW 7 nh (T.2.2 1) (hankV s0), arW g (T.1 10) (T.1 11) (elF nb (T.2.2 2)), elW 5 nb (T.2.2 2) (bowV s0), arW g (T.1 14) (T.1 15) (elF nc (T.2.2 3)), elW 6 nc (T.2.2 3) (cakeV s0)] [[(T.1 5, .inr (13, [.int (T.2.1 1), .ref (T.1 6), .int (nI nh)]))], arW g (T.1 6) (T.1 7) (elF nh (T.2.2 1)), elW 7 nh (T.2.2 1) (hankV s0)] rfl rfl [4, 13, 14] rfl) ⟨Nat.zero_le _, Nat.zero_le _⟩ hl ⟨rfl, rfl⟩ rfl rfl (Nat.le_of_ble_eq_true rfl) rfl dX2_hairsAgain_17 ?_
  refine lv_iadd hx hb dX2_hairsAgain_20 ?_
  refine lv_aload_n hx hb dX2_hairsAgain_21 rfl (lv_at hl 0 rfl) ?_
  refine va_get (D := gD g) (ci := 2) (v := .ref (T.1 8)) (C := RX2) (T := TX2) (N := 14) hx hb hts in_X2 hown hK hP 0 rfl rfl 2 (by decide) (hts _ q178) (fun _ h9 => h9) rfl dX2_hairsAgain_22 ?_
  refine va_getN (D := gD g) (ci := 3) (v := .ref (T.1 9)) (C := RX3) (T := TX3) (N := 2) hx hb hts in_X3 hown hK hP 5 rfl rfl 0 (by decide) ((hj.tw q166 rfl).use rfl) (fun _ h9 => h9) rfl dX2_hairsAgain_25 ?_
  refine rcSN (As := [.ref (T.1 9)]) (rest := [.int ((sumS s0 33 4 2 nt) + (sumS s0 73 4 2 nh))]) (st1 := [.int (sumS s0 153 7 2 nb), .int ((sumS s0 33 4 2 nt) + (sumS s0 73 4 2 nh))]) (jX1_hairsOfX6 l g E ho (T.1 9) (T.2.1 2) (T.1 10) (T.1 11) nb (T.2.2 2) s0 (by omega) hok2) kX1_hairsOf (hj.tw q707 rfl) hx hb hml hown hts hRf hRl ho.1.1 hE hS (sg_Pt hP [[(q, .inr (2, [.ref (T.1 0), .ref (T.1 4), .ref (T.1 8), .ref (T.1 12), .ref (T.1 16), .ref (T.1 17), .int (s0 7), .int (s0 8), .int (s0 9), .int (s0 10), .int (s0 11), .int (s0 0), .int (s0 1), .int (s0 2)]))], [(T.1 0, .inr (3, [.ref (T.1 1), .int 10]))], [(T.1 1, .inr (13, [.int (T.2.1 0), .ref (T.1 2), .int (nI nt)]))], [(T.1 4, .inr (3, [.ref (T.1 5), .int 20]))], [(T.1 5, .inr (13, [.int (T.2.1 1), .ref (T.1 6), .int (nI nh)]))], [(T.1 8, .inr (3, [.ref (T.1 9), .int 6]))], [(T.1 9, .inr (13, [.int (T.2.1 2), .ref (T.1 10), .int (nI nb)]))], [(T.1 12, .inr (3, [.ref (T.1 13), .int 5]))], [(T.1 13, .inr (13, [.int (T.2.1 3), .ref (T.1 14), .int (nI nc)]))], [(T.1 16, .inl (g.2.2.1 0, 10, .inl (sievF s0)))], [(T.1 17, .inl (g.2.2.1 0, 6, .inl (roadF s0)))], arW g (T.1 2) (T.1 3) (elF nt (T.2.2 0)), elW 8 nt (T.2.2 0) (tailV s0), arW g (T.1 6) (T.1 7) (elF nh (T.2.2 1)), elW 7 nh (T.2.2 1) (hankV s0), arW g (T.1 10) (T.1 11) (elF nb (T.2.2 2)), elW 5 nb (T.2.2 2) (bowV s0), arW g (T.1 14) (T.1 15) (elF nc (T.2.2 3)), elW 6 nc (T.2.2 3) (cakeV s0)] [[(T.1 9, .inr (13, [.int (T.2.1 2), .ref (T.1 10), .int (nI nb)]))], arW g (T.1 10) (T.1 11) (elF nb (T.2.2 2)), elW 5 nb (T.2.2 2) (bowV s0)] rfl rfl [6, 15, 16] rfl) ⟨Nat.zero_le _, Nat.zero_le _⟩ hl ⟨rfl, rfl⟩ rfl rfl (Nat.le_of_ble_eq_true rfl) rfl dX2_hairsAgain_28 ?_
  refine lv_iadd hx hb dX2_hairsAgain_31 ?_
  refine lv_aload_n hx hb dX2_hairsAgain_32 rfl (lv_at hl 0 rfl) ?_
  refine va_get (D := gD g) (ci := 2) (v := .int (s0 9)) (C := RX2) (T := TX2) (N := 14) hx hb hts in_X2 hown hK hP 0 rfl rfl 8 (by decide) (hts _ q190) (fun _ h9 => h9) rfl dX2_hairsAgain_33 ?_
  refine lv_iadd hx hb dX2_hairsAgain_36 ?_
  refine lv_aload_n hx hb dX2_hairsAgain_37 rfl (lv_at hl 0 rfl) ?_
  refine va_get (D := gD g) (ci := 2) (v := .int (s0 10)) (C := RX2) (T := TX2) (N := 14) hx hb hts in_X2 hown hK hP 0 rfl rfl 9 (by decide) (hts _ q192) (fun _ h9 => h9) rfl dX2_hairsAgain_38 ?_
  refine lv_iadd hx hb dX2_hairsAgain_41 ?_
  refine lv_aload_n hx hb dX2_hairsAgain_42 rfl (lv_at hl 0 rfl) ?_
  refine va_get (D := gD g) (ci := 2) (v := .int (s0 11)) (C := RX2) (T := TX2) (N := 14) hx hb hts in_X2 hown hK hP 0 rfl rfl 10 (by decide) (hts _ q194) (fun _ h9 => h9) rfl dX2_hairsAgain_43 ?_
  refine lv_iadd hx hb dX2_hairsAgain_46 ?_
  exact hr_i hQ hx hb hr hlk rfl (by simp [*]) dX2_hairsAgain_47
theorem neg_iff {x : Int32} {b : Int} (h : rng x (-1) b) : x < 0 ↔ x = -1 := by
  have k0 : (0 : Int32).toInt = 0 := rfl
  have k1 : (-1 : Int32).toInt = -1 := rfl
  constructor
  · intro z
    have z := Int32.lt_iff_toInt_lt.mp z
    exact Int32.toInt_inj.mp (by have := h.1; omega)
  · intro z
    rw [z]
    decide
theorem mix_s {s : Nat → Int32} {i : Nat} {b : Int} (h : rng (s (73 + 4 * i + 3)) (-1) b) : nI (mixN s i) + (if s (73 + 4 * i + 3) = -1 then 1 else 0) = nI (mixN s (i + 1)) := by
  have z9 := neg_iff h
  show _ = nI (mixN s i + (if s (73 + 4 * i + 3) < 0 then 1 else 0))
  rw [← nI_add]
  by_cases z : s (73 + 4 * i + 3) = -1
  · rw [if_pos z, if_pos (z9.mpr z)]; rfl
  · rw [if_neg z, if_neg (fun z8 => z (z9.mp z8))]; rfl

theorem kX2_countMixed : hkV RX2 yX2_countMixed cX2_countMixed 3 (some .int) 0 := ⟨q2246, q2247, q68, q2248, rfl, by decide +kernel⟩
set_option maxHeartbeats 4000000 in
theorem jX2_countMixed (l : Launch) (g : hG) (E : hEnv) (ho : jOk g E) (q : Nat) (T : hTr) (s0 : Nat → Int32) (nt : Nat) (nh : Nat) (nb : Nat) (nc : Nat) (tw : Nat) (hc : Cn s0 nt nh nb nc tw) (hv : Inv s0 nt nh nb nc) (hT : tOk g T nt nh nb nc) : RM l yX2_countMixed cX2_countMixed 3 (some .int) 4 85 [.ref q] g E (TW g q T s0 nt nh nb nc ++ []) (some (.int (nI (mixN s0 nh)))) := by
  refine RM.mk (by decide) (Nat.le_of_ble_eq_true rfl) ?_
  intro p e R s m args below meth c Q ls hX hP hE hS hl hQ
  obtain ⟨hx, hb, hr, hlk, hml, hown, hts, hRf, hRl⟩ := hX
  have hown : s.vm.findClass RX2 = some m.cls := hown
  have hj := ho.2 _ _ _ hE
  have hK := hj.kn
  have hl : lv_has ls 3 [(0, .ref q)] := hl
  rw [List.append_nil] at hP
  have hP : va_P (gD g) Cl ((q, .inr (2, [.ref (T.1 0), .ref (T.1 4), .ref (T.1 8), .ref (T.1 12), .ref (T.1 16), .ref (T.1 17), .int (s0 7), .int (s0 8), .int (s0 9), .int (s0 10), .int (s0 11), .int (s0 0), .int (s0 1), .int (s0 2)])) :: ((T.1 0, .inr (3, [.ref (T.1 1), .int 10])) :: ((T.1 1, .inr (13, [.int (T.2.1 0), .ref (T.1 2), .int (nI nt)])) :: ((T.1 4, .inr (3, [.ref (T.1 5), .int 20])) :: ((T.1 5, .inr (13, [.int (T.2.1 1), .ref (T.1 6), .int (nI nh)])) :: ((T.1 8, .inr (3, [.ref (T.1 9), .int 6])) :: ((T.1 9, .inr (13, [.int (T.2.1 2), .ref (T.1 10), .int (nI nb)])) :: ((T.1 12, .inr (3, [.ref (T.1 13), .int 5])) :: ((T.1 13, .inr (13, [.int (T.2.1 3), .ref (T.1 14), .int (nI nc)])) :: ((T.1 16, .inl (g.2.2.1 0, 10, .inl (sievF s0))) :: ((T.1 17, .inl (g.2.2.1 0, 6, .inl (roadF s0))) :: (arW g (T.1 2) (T.1 3) (elF nt (T.2.2 0)) ++ (elW 8 nt (T.2.2 0) (tailV s0) ++ (arW g (T.1 6) (T.1 7) (elF nh (T.2.2 1)) ++ (elW 7 nh (T.2.2 1) (hankV s0) ++ (arW g (T.1 10) (T.1 11) (elF nb (T.2.2 2)) ++ (elW 5 nb (T.2.2 2) (bowV s0) ++ (arW g (T.1 14) (T.1 15) (elF nc (T.2.2 3)) ++ (elW 6 nc (T.2.2 3) (cakeV s0) ++ []))))))))))))))))))) s.heap := hP
  obtain ⟨c2, ctw, c3, cnt, c4, cnh, c5, cnb, c6, cnc⟩ := hc
  obtain ⟨hok0, hok1, hok2, hok3⟩ := hT
  refine lv_iconst (v := 0) hx hb dX2_countMixed_0 (by decide) ?_
  refine h_topi (v := nI (mixN s0 0)) (rfl) ?_
  refine lv_istore_n (lv' := [(1, .int (nI (mixN s0 0))), (0, .ref q)]) hx hb dX2_countMixed_1 rfl hl (by decide) rfl (fun ls hl => ?_)
  refine lv_iconst (v := 0) hx hb dX2_countMixed_2 (by decide) ?_
  refine lv_istore_n (lv' := [(2, .int 0), (1, .int (nI (mixN s0 0))), (0, .ref q)]) hx hb dX2_countMixed_3 rfl hl (by decide) rfl (fun ls hl => ?_)
  have loop_4 : ∀ (k : Nat) (i : Nat), (nh < i + k ∧ i ≤ nh) → ∀ (ls : Array Slot), lv_has ls 3 [(0, .ref q), (1, .int (nI (mixN s0 i))), (2, .int (nI i))] → W p l e R s m args below meth c s.heap [] 0 0 Q (F0 m 4 ls []) := by
    intro k
    induction k with
    | zero =>
      intro i hi  ls hl
      exact absurd hi (by omega)
    | succ k ih_4 =>
      intro i hi  ls hl
      refine lv_iload_n hx hb dX2_countMixed_4 rfl (lv_at hl 2 rfl) ?_
      refine lv_aload_n hx hb dX2_countMixed_5 rfl (lv_at hl 0 rfl) ?_
      refine va_get (D := gD g) (ci := 2) (v := .ref (T.1 4)) (C := RX2) (T := TX2) (N := 14) hx hb hts in_X2 hown hK hP 0 rfl rfl 1 (by decide) (hts _ q176) (fun _ h9 => h9) rfl dX2_countMixed_6 ?_
      refine rcV (As := []) (rest := [.int (nI i)]) (st1 := [.int (nI nh), .int (nI i)]) (jX3_size l g E ho (T.1 4) 20 (T.1 5) (T.1 6) (T.2.1 1) nh) kX3_size q1569 hx hb hml hown hts hRf hRl ho.1.1 hE hS (sg_Pt hP [[(q, .inr (2, [.ref (T.1 0), .ref (T.1 4), .ref (T.1 8), .ref (T.1 12), .ref (T.1 16), .ref (T.1 17), .int (s0 7), .int (s0 8), .int (s0 9), .int (s0 10), .int (s0 11), .int (s0 0), .int (s0 1), .int (s0 2)]))], [(T.1 0, .inr (3, [.ref (T.1 1), .int 10]))], [(T.1 1, .inr (13, [.int (T.2.1 0), .ref (T.1 2), .int (nI nt)]))], [(T.1 4, .inr (3, [.ref (T.1 5), .int 20]))], [(T.1 5, .inr (13, [.int (T.2.1 1), .ref (T.1 6), .int (nI nh)]))], [(T.1 8, .inr (3, [.ref (T.1 9), .int 6]))], [(T.1 9, .inr (13, [.int (T.2.1 2), .ref (T.1 10), .int (nI nb)]))], [(T.1 12, .inr (3, [.ref (T.1 13), .int 5]))], [(T.1 13, .inr (13, [.int (T.2.1 3), .ref (T.1 14), .int (nI nc)]))], [(T.1 16, .inl (g.2.2.1 0, 10, .inl (sievF s0)))], [(T.1 17, .inl (g.2.2.1 0, 6, .inl (roadF s0)))], arW g (T.1 2) (T.1 3) (elF nt (T.2.2 0)), elW 8 nt (T.2.2 0) (tailV s0), arW g (T.1 6) (T.1 7) (elF nh (T.2.2 1)), elW 7 nh (T.2.2 1) (hankV s0), arW g (T.1 10) (T.1 11) (elF nb (T.2.2 2)), elW 5 nb (T.2.2 2) (bowV s0), arW g (T.1 14) (T.1 15) (elF nc (T.2.2 3)), elW 6 nc (T.2.2 3) (cakeV s0)] [[(T.1 4, .inr (3, [.ref (T.1 5), .int 20]))], [(T.1 5, .inr (13, [.int (T.2.1 1), .ref (T.1 6), .int (nI nh)]))]] rfl rfl [3, 4] rfl) (va_recv hK hP (ci := 3) (q0 := 3) rfl rfl) ⟨Nat.zero_le _, Nat.zero_le _⟩ hl ⟨rfl, rfl⟩ rfl rfl (Nat.le_of_ble_eq_true rfl) rfl dX2_countMixed_9 ?_
      refine lv_icmp_ge (tgt := 47) hx hb dX2_countMixed_12 (by decide) (fun c_1 => ?_) (fun c_1 => ?_)
      · have hiq : i = nh := Nat.le_antisymm hi.2 ((nI_leI (by omega) (by omega)).mp c_1)
        refine lv_iload_n hx hb dX2_countMixed_47 rfl (lv_at hl 1 rfl) ?_
        exact hr_i hQ hx hb hr hlk rfl (by rw [hiq]) dX2_countMixed_48
      have hlt : i < nh := Nat.not_le.mp (fun z => c_1 ((nI_leI (by omega) (by omega)).mpr z))
      refine lv_iload_n hx hb dX2_countMixed_15 rfl (lv_at hl 1 rfl) ?_
      refine lv_aload_n hx hb dX2_countMixed_16 rfl (lv_at hl 0 rfl) ?_
      refine va_get (D := gD g) (ci := 2) (v := .ref (T.1 4)) (C := RX2) (T := TX2) (N := 14) hx hb hts in_X2 hown hK hP 0 rfl rfl 1 (by decide) (hts _ q176) (fun _ h9 => h9) rfl dX2_countMixed_17 ?_
      refine lv_iload_n hx hb dX2_countMixed_20 rfl (lv_at hl 2 rfl) ?_
      refine rcV (As := [.int (nI i)]) (rest := [.int (nI (mixN s0 i))]) (st1 := [.ref ((T.2.2 1) i), .int (nI (mixN s0 i))]) (jX3_getS l g E ho (T.1 4) (T.1 5) (T.2.1 1) 20 (T.1 6) (T.1 7) nh 7 (T.2.2 1) (hankV s0) (RX8, TX8, 4) i hlt hok1 rfl q852) kX3_get q1162 hx hb hml hown hts hRf hRl ho.1.1 hE hS (sg_Pt hP [[(q, .inr (2, [.ref (T.1 0), .ref (T.1 4), .ref (T.1 8), .ref (T.1 12), .ref (T.1 16), .ref (T.1 17), .int (s0 7), .int (s0 8), .int (s0 9), .int (s0 10), .int (s0 11), .int (s0 0), .int (s0 1), .int (s0 2)]))], [(T.1 0, .inr (3, [.ref (T.1 1), .int 10]))], [(T.1 1, .inr (13, [.int (T.2.1 0), .ref (T.1 2), .int (nI nt)]))], [(T.1 4, .inr (3, [.ref (T.1 5), .int 20]))], [(T.1 5, .inr (13, [.int (T.2.1 1), .ref (T.1 6), .int (nI nh)]))], [(T.1 8, .inr (3, [.ref (T.1 9), .int 6]))], [(T.1 9, .inr (13, [.int (T.2.1 2), .ref (T.1 10), .int (nI nb)]))], [(T.1 12, .inr (3, [.ref (T.1 13), .int 5]))], [(T.1 13, .inr (13, [.int (T.2.1 3), .ref (T.1 14), .int (nI nc)]))], [(T.1 16, .inl (g.2.2.1 0, 10, .inl (sievF s0)))], [(T.1 17, .inl (g.2.2.1 0, 6, .inl (roadF s0)))], arW g (T.1 2) (T.1 3) (elF nt (T.2.2 0)), elW 8 nt (T.2.2 0) (tailV s0), arW g (T.1 6) (T.1 7) (elF nh (T.2.2 1)), elW 7 nh (T.2.2 1) (hankV s0), arW g (T.1 10) (T.1 11) (elF nb (T.2.2 2)), elW 5 nb (T.2.2 2) (bowV s0), arW g (T.1 14) (T.1 15) (elF nc (T.2.2 3)), elW 6 nc (T.2.2 3) (cakeV s0)] [[(T.1 4, .inr (3, [.ref (T.1 5), .int 20]))], [(T.1 5, .inr (13, [.int (T.2.1 1), .ref (T.1 6), .int (nI nh)]))], arW g (T.1 6) (T.1 7) (elF nh (T.2.2 1)), elW 7 nh (T.2.2 1) (hankV s0)] rfl rfl [3, 4, 13, 14] rfl) (va_recv hK hP (ci := 3) (q0 := 3) rfl rfl) ⟨Nat.zero_le _, Nat.zero_le _⟩ hl ⟨rfl, rfl⟩ rfl rfl (Nat.le_of_ble_eq_true rfl) rfl dX2_countMixed_21 ?_
      refine va_castS (nm := RX8) hx hb hown (hts _ q1155) (hK.1 7 (RX8, TX8, 4) rfl).2 (va_recv hK (el_see (R := []) i hlt (sg_P [[(q, .inr (2, [.ref (T.1 0), .ref (T.1 4), .ref (T.1 8), .ref (T.1 12), .ref (T.1 16), .ref (T.1 17), .int (s0 7), .int (s0 8), .int (s0 9), .int (s0 10), .int (s0 11), .int (s0 0), .int (s0 1), .int (s0 2)]))], [(T.1 0, .inr (3, [.ref (T.1 1), .int 10]))], [(T.1 1, .inr (13, [.int (T.2.1 0), .ref (T.1 2), .int (nI nt)]))], [(T.1 4, .inr (3, [.ref (T.1 5), .int 20]))], [(T.1 5, .inr (13, [.int (T.2.1 1), .ref (T.1 6), .int (nI nh)]))], [(T.1 8, .inr (3, [.ref (T.1 9), .int 6]))], [(T.1 9, .inr (13, [.int (T.2.1 2), .ref (T.1 10), .int (nI nb)]))], [(T.1 12, .inr (3, [.ref (T.1 13), .int 5]))], [(T.1 13, .inr (13, [.int (T.2.1 3), .ref (T.1 14), .int (nI nc)]))], [(T.1 16, .inl (g.2.2.1 0, 10, .inl (sievF s0)))], [(T.1 17, .inl (g.2.2.1 0, 6, .inl (roadF s0)))], arW g (T.1 2) (T.1 3) (elF nt (T.2.2 0)), elW 8 nt (T.2.2 0) (tailV s0), arW g (T.1 6) (T.1 7) (elF nh (T.2.2 1)), elW 7 nh (T.2.2 1) (hankV s0), arW g (T.1 10) (T.1 11) (elF nb (T.2.2 2)), elW 5 nb (T.2.2 2) (bowV s0), arW g (T.1 14) (T.1 15) (elF nc (T.2.2 3)), elW 6 nc (T.2.2 3) (cakeV s0)] [elW 7 nh (T.2.2 1) (hankV s0)] [14] rfl hP)) (ci := 7) (q0 := 0) rfl rfl) dX2_countMixed_24 ?_
      refine va_getN (D := gD g) (ci := 7) (v := .int (s0 (73 + 4 * i + 3))) (C := RX8) (T := TX8) (N := 4) hx hb hts in_X8 hown hK (el_see (R := []) i hlt (sg_P [[(q, .inr (2, [.ref (T.1 0), .ref (T.1 4), .ref (T.1 8), .ref (T.1 12), .ref (T.1 16), .ref (T.1 17), .int (s0 7), .int (s0 8), .int (s0 9), .int (s0 10), .int (s0 11), .int (s0 0), .int (s0 1), .int (s0 2)]))], [(T.1 0, .inr (3, [.ref (T.1 1), .int 10]))], [(T.1 1, .inr (13, [.int (T.2.1 0), .ref (T.1 2), .int (nI nt)]))], [(T.1 4, .inr (3, [.ref (T.1 5), .int 20]))], [(T.1 5, .inr (13, [.int (T.2.1 1), .ref (T.1 6), .int (nI nh)]))], [(T.1 8, .inr (3, [.ref (T.1 9), .int 6]))], [(T.1 9, .inr (13, [.int (T.2.1 2), .ref (T.1 10), .int (nI nb)]))], [(T.1 12, .inr (3, [.ref (T.1 13), .int 5]))], [(T.1 13, .inr (13, [.int (T.2.1 3), .ref (T.1 14), .int (nI nc)]))], [(T.1 16, .inl (g.2.2.1 0, 10, .inl (sievF s0)))], [(T.1 17, .inl (g.2.2.1 0, 6, .inl (roadF s0)))], arW g (T.1 2) (T.1 3) (elF nt (T.2.2 0)), elW 8 nt (T.2.2 0) (tailV s0), arW g (T.1 6) (T.1 7) (elF nh (T.2.2 1)), elW 7 nh (T.2.2 1) (hankV s0), arW g (T.1 10) (T.1 11) (elF nb (T.2.2 2)), elW 5 nb (T.2.2 2) (bowV s0), arW g (T.1 14) (T.1 15) (elF nc (T.2.2 3)), elW 6 nc (T.2.2 3) (cakeV s0)] [elW 7 nh (T.2.2 1) (hankV s0)] [14] rfl hP)) 0 rfl rfl 3 (by decide) ((hj.tw q877 rfl).use rfl) (fun _ h9 => h9) rfl dX2_countMixed_27 ?_
      refine lv_iconst (v := (-1)) hx hb dX2_countMixed_30 (by decide) ?_
      refine h_join (J := 39) (v := if (s0 (73 + 4 * i + 3)) = (-1) then 1 else 0) (rest := [.int (nI (mixN s0 i))]) ?_ ?_
      rotate_left
      · intro hJ
        refine lv_icmp_ne (tgt := 38) hx hb dX2_countMixed_31 (by decide) (fun c_2 => ?_) (fun c_2 => ?_)
        · refine lv_iconst (v := 0) hx hb dX2_countMixed_38 (by decide) ?_
          exact h_topi (if_neg c_2).symm hJ
        refine lv_iconst (v := 1) hx hb dX2_countMixed_34 (by decide) ?_
        refine lv_goto (tgt := 39) hx hb dX2_countMixed_35 (by decide) ?_
        exact h_topi (if_pos c_2).symm hJ
      refine lv_iadd hx hb dX2_countMixed_39 ?_
      refine h_topi (v := nI (mixN s0 (i + 1))) (mix_s (hv.2.1 i hlt).2.2.2) ?_
      refine lv_istore_n (lv' := [(1, .int (nI (mixN s0 (i + 1)))), (0, .ref q), (2, .int (nI i))]) hx hb dX2_countMixed_40 rfl hl (by decide) rfl (fun ls hl => ?_)
      refine lv_iinc (v := nI (i + 1)) (lv' := [(2, .int (nI (i + 1))), (1, .int (nI (mixN s0 (i + 1)))), (0, .ref q)]) hx hb dX2_countMixed_41 hl (k := 2) rfl (h_ninc (a := i) (k := 1) (rfl)) (by decide) rfl (fun ls hl => ?_)
      refine lv_goto (tgt := 4) hx hb dX2_countMixed_44 (by decide) ?_
      exact ih_4 (i + 1) (by omega)  ls (lv_sub hl [2, 1, 0] rfl)
  exact loop_4 (nh + 1) 0 (by omega)  ls (lv_sub hl [2, 1, 0] rfl)
theorem sum18 {s : Nat → Int32} (h : s 18 = 0) : sumS s 18 1 0 10 = sumS s 19 1 0 9 := by
  show sumS s 18 1 0 0 + s 18 + s 19 + s 20 + s 21 + s 22 + s 23 + s 24 + s 25 + s 26 + s 27 = sumS s 19 1 0 0 + s 19 + s 20 + s 21 + s 22 + s 23 + s 24 + s 25 + s 26 + s 27
  rw [h]
  rfl

theorem kX2_countSieves : hkV RX2 yX2_countSieves cX2_countSieves 6 (some .int) 0 := ⟨q2250, q2251, q68, q2252, rfl, by decide +kernel⟩
set_option maxHeartbeats 4000000 in
theorem jX2_countSieves (l : Launch) (g : hG) (E : hEnv) (ho : jOk g E) (q : Nat) (T : hTr) (s0 : Nat → Int32) (nt : Nat) (nh : Nat) (nb : Nat) (nc : Nat) (tw : Nat) (hc : Cn s0 nt nh nb nc tw) (hv : Inv s0 nt nh nb nc) (hT : tOk g T nt nh nb nc) : RM l yX2_countSieves cX2_countSieves 6 (some .int) 0 0 [.ref q] g E (TW g q T s0 nt nh nb nc ++ []) (some (.int (sumS s0 19 1 0 9))) := by
  refine RM.mk (by decide) (Nat.le_of_ble_eq_true rfl) ?_
  intro p e R s m args below meth c Q ls hX hP hE hS hl hQ
  obtain ⟨hx, hb, hr, hlk, hml, hown, hts, hRf, hRl⟩ := hX
  have hown : s.vm.findClass RX2 = some m.cls := hown
  have hj := ho.2 _ _ _ hE
  have hK := hj.kn
  have hl : lv_has ls 6 [(0, .ref q)] := hl
  rw [List.append_nil] at hP
  have hP : va_P (gD g) Cl ((q, .inr (2, [.ref (T.1 0), .ref (T.1 4), .ref (T.1 8), .ref (T.1 12), .ref (T.1 16), .ref (T.1 17), .int (s0 7), .int (s0 8), .int (s0 9), .int (s0 10), .int (s0 11), .int (s0 0), .int (s0 1), .int (s0 2)])) :: ((T.1 0, .inr (3, [.ref (T.1 1), .int 10])) :: ((T.1 1, .inr (13, [.int (T.2.1 0), .ref (T.1 2), .int (nI nt)])) :: ((T.1 4, .inr (3, [.ref (T.1 5), .int 20])) :: ((T.1 5, .inr (13, [.int (T.2.1 1), .ref (T.1 6), .int (nI nh)])) :: ((T.1 8, .inr (3, [.ref (T.1 9), .int 6])) :: ((T.1 9, .inr (13, [.int (T.2.1 2), .ref (T.1 10), .int (nI nb)])) :: ((T.1 12, .inr (3, [.ref (T.1 13), .int 5])) :: ((T.1 13, .inr (13, [.int (T.2.1 3), .ref (T.1 14), .int (nI nc)])) :: ((T.1 16, .inl (g.2.2.1 0, 10, .inl (sievF s0))) :: ((T.1 17, .inl (g.2.2.1 0, 6, .inl (roadF s0))) :: (arW g (T.1 2) (T.1 3) (elF nt (T.2.2 0)) ++ (elW 8 nt (T.2.2 0) (tailV s0) ++ (arW g (T.1 6) (T.1 7) (elF nh (T.2.2 1)) ++ (elW 7 nh (T.2.2 1) (hankV s0) ++ (arW g (T.1 10) (T.1 11) (elF nb (T.2.2 2)) ++ (elW 5 nb (T.2.2 2) (bowV s0) ++ (arW g (T.1 14) (T.1 15) (elF nc (T.2.2 3)) ++ (elW 6 nc (T.2.2 3) (cakeV s0) ++ []))))))))))))))))))) s.heap := hP
  obtain ⟨c2, ctw, c3, cnt, c4, cnh, c5, cnb, c6, cnc⟩ := hc
  obtain ⟨hok0, hok1, hok2, hok3⟩ := hT
  refine lv_iconst (v := 0) hx hb dX2_countSieves_0 (by decide) ?_
  refine h_topi (v := sumS s0 18 1 0 0) (rfl) ?_
  refine lv_istore_n (lv' := [(1, .int (sumS s0 18 1 0 0)), (0, .ref q)]) hx hb dX2_countSieves_1 rfl hl (by decide) rfl (fun ls hl => ?_)
  refine lv_aload_n hx hb dX2_countSieves_2 rfl (lv_at hl 1 rfl) ?_
  refine va_get (D := gD g) (ci := 2) (v := .ref (T.1 16)) (C := RX2) (T := TX2) (N := 14) hx hb hts in_X2 hown hK hP 0 rfl rfl 4 (by decide) (hts _ q182) (fun _ h9 => h9) rfl dX2_countSieves_3 ?_
  refine lv_astore_n (lv' := [(2, .ref (T.1 16)), (1, .int (sumS s0 18 1 0 0)), (0, .ref q)]) hx hb dX2_countSieves_6 rfl hl (by decide) rfl (fun ls hl => ?_)
  refine lv_aload_n hx hb dX2_countSieves_7 rfl (lv_at hl 0 rfl) ?_
  refine va_alen (v := 10) hx hb hK hP 9 0 rfl rfl rfl dX2_countSieves_8 ?_
  refine lv_istore_n (lv' := [(3, .int 10), (2, .ref (T.1 16)), (1, .int (sumS s0 18 1 0 0)), (0, .ref q)]) hx hb dX2_countSieves_9 rfl hl (by decide) rfl (fun ls hl => ?_)
  refine lv_iconst (v := 0) hx hb dX2_countSieves_10 (by decide) ?_
  refine lv_istore (lv' := [(4, .int 0), (3, .int 10), (2, .ref (T.1 16)), (1, .int (sumS s0 18 1 0 0)), (0, .ref q)]) hx hb dX2_countSieves_11 hl (by decide) rfl (fun ls hl => ?_)
  have loop_13 : ∀ (k : Nat) (i : Nat), (10 < i + k ∧ i ≤ 10) → ∀ (ls : Array Slot), lv_has ls 6 [(0, .ref q), (1, .int (sumS s0 18 1 0 i)), (2, .ref (T.1 16)), (3, .int 10), (4, .int (nI i))] → W p l e R s m args below meth c s.heap [] 0 0 Q (F0 m 13 ls []) := by
    intro k
    induction k with
    | zero =>
      intro i hi  ls hl
      exact absurd hi (by omega)
    | succ k ih_13 =>
      intro i hi  ls hl
      refine lv_iload hx hb dX2_countSieves_13 (lv_at hl 4 rfl) ?_
      refine lv_iload_n hx hb dX2_countSieves_15 rfl (lv_at hl 3 rfl) ?_
      refine lv_icmp_ge (tgt := 36) hx hb dX2_countSieves_16 (by decide) (fun c_1 => ?_) (fun c_1 => ?_)
      · have hiq : i = 10 := Nat.le_antisymm hi.2 ((nI_leI (a := 10) (b := i) (by omega) (by omega)).mp c_1)
        subst hiq
        refine lv_iload_n hx hb dX2_countSieves_36 rfl (lv_at hl 1 rfl) ?_
        exact hr_i hQ hx hb hr hlk rfl (congrArg (fun z => some (Value.int z)) (sum18 hv.2.2.2.2.1).symm) dX2_countSieves_37
      have hlt : i < 10 := Nat.not_le.mp (fun z => c_1 ((nI_leI (a := 10) (b := i) (by omega) (by omega)).mpr z))
      refine lv_aload_n hx hb dX2_countSieves_19 rfl (lv_at hl 2 rfl) ?_
      refine lv_iload hx hb dX2_countSieves_20 (lv_at hl 4 rfl) ?_
      refine h_iald (f := (sievF s0)) hx hb hK hP 9 0 rfl rfl i rfl (by omega) (by omega) dX2_countSieves_22 ?_
      refine h_topi (v := s0 (18 + i)) rfl ?_
      refine lv_istore (lv' := [(5, .int (s0 (18 + i))), (0, .ref q), (1, .int (sumS s0 18 1 0 i)), (2, .ref (T.1 16)), (3, .int 10), (4, .int (nI i))]) hx hb dX2_countSieves_23 hl (by decide) rfl (fun ls hl => ?_)
      refine lv_iload_n hx hb dX2_countSieves_25 rfl (lv_at hl 2 rfl) ?_
      refine lv_iload hx hb dX2_countSieves_26 (lv_at hl 0 rfl) ?_
      refine lv_iadd hx hb dX2_countSieves_28 ?_
      refine h_topi (v := sumS s0 18 1 0 (i + 1)) (show sumS s0 18 1 0 i + s0 (18 + i) = sumS s0 18 1 0 i + s0 (18 + 1 * i + 0) by rw [Nat.one_mul]; rfl) ?_
      refine lv_istore_n (lv' := [(1, .int (sumS s0 18 1 0 (i + 1))), (5, .int (s0 (18 + i))), (0, .ref q), (2, .ref (T.1 16)), (3, .int 10), (4, .int (nI i))]) hx hb dX2_countSieves_29 rfl hl (by decide) rfl (fun ls hl => ?_)
      refine lv_iinc (v := nI (i + 1)) (lv' := [(4, .int (nI (i + 1))), (1, .int (sumS s0 18 1 0 (i + 1))), (5, .int (s0 (18 + i))), (0, .ref q), (2, .ref (T.1 16)), (3, .int 10)]) hx hb dX2_countSieves_30 hl (k := 5) rfl (h_ninc (a := i) (k := 1) (rfl)) (by decide) rfl (fun ls hl => ?_)
      refine lv_goto (tgt := 13) hx hb dX2_countSieves_33 (by decide) ?_
      exact ih_13 (i + 1) (by omega)  ls (lv_sub hl [3, 1, 4, 5, 0] rfl)
  exact loop_13 11 0 (by omega)  ls (lv_sub hl [4, 3, 2, 1, 0] rfl)
