/-! THE REFERENCE: signs, numbers of a text -/
set_option maxRecDepth 100000
abbrev sgo (x : Int32) : Int32 := if x = 0 then 58 else if x = 1 then 43 else if x = 2 then 35 else if x = 3 then 60 else if x = 4 then 47 else 32
theorem h_usame {f : Nat → Int32} {k : Nat} {x : Int32} (h : f k = x) : upd f k x = f := by
  funext q
  unfold upd
  split
  · next z => rw [z, h]
  · rfl
theorem h_char (x : Int32) : (((x.toUInt32 % 65536).toInt32).toUInt32 % 65536).toInt32 = (x.toUInt32 % 65536).toInt32 := by
  have e : (x.toUInt32 % 65536 % 65536) = x.toUInt32 % 65536 := UInt32.toNat_inj.mp (by rw [UInt32.toNat_mod, UInt32.toNat_mod]; exact Nat.mod_mod _ _)
  simp
  exact congrArg UInt32.toInt32 e
/-! the order that stands in the orders at a place -/
def opDoes (s : Nat → Int32) (w x y : Int32) : opR := if w = 0 then opComb s x y else if w = 1 then opTie s x y else if w = 2 then opWeave s x y else if w = 3 then opHair s x y else if w = 4 then opRosin s x y else if w = 5 then opPlay s x y else if w = 6 then opWalk s x else opSell s x
theorem opDoes_ref (s : Nat → Int32) (w x y : Int32) : opRef s (opDoes s w x y) := by
  unfold opDoes
  repeat' (first | exact opComb_ref s x y | exact opTie_ref s x y | exact opWeave_ref s x y | exact opHair_ref s x y | exact opRosin_ref s x y | exact opPlay_ref s x y | exact opWalk_ref s x | exact opSell_ref s x | apply opRef_ite)

theorem kX4_sign : hkV RX4 yX4_sign cX4_sign 1 (some .int) 0 := ⟨q2662, qs56, q78, q2663, rfl, by decide +kernel⟩
set_option maxHeartbeats 4000000 in
theorem mX4_sign (l : Launch) (g : hG) (E : hEnv) (ho : mOk g E) (h0 : Nat) (a : Nat → Nat) (I : Nat → Int32) (F : Nat → Nat → Int32) (tp : Nat) (hr0 : Nat) (T : Nat → Int32) (hI7 : I 7 = nI tp) (ht60 : tp ≤ 60) (hI8 : I 8 = nI hr0) (hh60 : hr0 ≤ 60) (hT : F 4 = T) : RM l yX4_sign cX4_sign 1 (some .int) 0 0 [.ref h0] g E (mW g h0 a I F) (some (.int (sgn T tp hr0))) := by
  refine RM.mk (by decide) (Nat.le_of_ble_eq_true rfl) ?_
  intro p e R s m args below meth c Q ls hX hP hE hS hl hQ
  obtain ⟨hx, hb, hr, hlk, hml, hown, hts, hRf, hRl⟩ := hX
  have hown : s.vm.findClass RX4 = some m.cls := hown
  have hK := ho.2 _ _ _ hE
  have hl : lv_has ls 1 [(0, .ref h0)] := hl
  subst hT
  refine lv_aload_n hx hb dX4_sign_0 rfl (lv_at hl 0 rfl) ?_
  refine va_get (D := gD g) (ci := 0) (v := .int (I 8)) (C := RX4) (T := TX4) (N := 21) hx hb hts in_X4 hown hK hP 0 rfl rfl 15 (by decide) (hts _ q2329) (fun _ h9 => h9) rfl dX4_sign_1 ?_
  refine h_topi (v := nI hr0) (hI8) ?_
  refine lv_aload_n hx hb dX4_sign_4 rfl (lv_at hl 0 rfl) ?_
  refine va_get (D := gD g) (ci := 0) (v := .int (I 7)) (C := RX4) (T := TX4) (N := 21) hx hb hts in_X4 hown hK hP 0 rfl rfl 14 (by decide) (hts _ q2328) (fun _ h9 => h9) rfl dX4_sign_5 ?_
  refine h_topi (v := nI tp) (hI7) ?_
  refine lv_icmp_ge (tgt := 23) hx hb dX4_sign_8 (by decide) (fun c_1 => ?_) (fun c_1 => ?_)
  · have hnl : ¬ hr0 < tp := fun z => absurd c_1 (nI_ge (a := hr0) (b := tp) z (by omega))
    refine lv_iconst (v := (-1)) hx hb dX4_sign_23 (by decide) ?_
    exact hr_i hQ hx hb hr hlk rfl (congrArg (fun z => some (Value.int z)) (if_neg hnl)) dX4_sign_24
  have hlt : hr0 < tp := by
    rcases Nat.lt_or_ge hr0 tp with z | z
    · exact z
    · exact absurd (nI_le (a := tp) (b := hr0) z (by omega)) c_1
  refine lv_aload_n hx hb dX4_sign_11 rfl (lv_at hl 0 rfl) ?_
  refine va_get (D := gD g) (ci := 0) (v := .ref (a 5)) (C := RX4) (T := TX4) (N := 21) hx hb hts in_X4 hown hK hP 0 rfl rfl 12 (by decide) (hts _ q2326) (fun _ h9 => h9) rfl dX4_sign_12 ?_
  refine lv_aload_n hx hb dX4_sign_15 rfl (lv_at hl 0 rfl) ?_
  refine va_get (D := gD g) (ci := 0) (v := .int (I 8)) (C := RX4) (T := TX4) (N := 21) hx hb hts in_X4 hown hK hP 0 rfl rfl 15 (by decide) (hts _ q2329) (fun _ h9 => h9) rfl dX4_sign_16 ?_
  refine h_topi (v := nI hr0) (hI8) ?_
  refine h_iald (f := (F 4)) hx hb hK hP 5 0 rfl rfl hr0 rfl (by omega) (by decide) dX4_sign_19 ?_
  refine lv_goto (tgt := 24) hx hb dX4_sign_20 (by decide) ?_
  exact hr_i hQ hx hb hr hlk rfl (congrArg (fun z => some (Value.int z)) (if_pos hlt)) dX4_sign_24
theorem kX4_isSign : hkV RX4 yX4_isSign cX4_isSign 3 (some .boolean) 1 := ⟨q2669, qs57, q78, q2670, rfl, by decide +kernel⟩
set_option maxHeartbeats 4000000 in
theorem mX4_isSign (l : Launch) (g : hG) (E : hEnv) (ho : mOk g E) (h0 : Nat) (a : Nat → Nat) (I : Nat → Int32) (F : Nat → Nat → Int32) (x : Int32) (tp : Nat) (hr0 : Nat) (T : Nat → Int32) (hI7 : I 7 = nI tp) (ht60 : tp ≤ 60) (hI8 : I 8 = nI hr0) (hh60 : hr0 ≤ 60) (hT : F 4 = T) : MM l yX4_isSign cX4_isSign 3 (some .boolean) 1 20 0 0 [.ref h0, .int x] g E (mW g h0 a I F) (S := Unit) (fun _ => (some (.int (if sgn T tp hr0 = x then 1 else 0)))) (fun _ => True) (fun _ => mW g h0 a (upd I 8 (nI (stp T tp hr0 x))) F) := by
  refine MM.mk (by decide) (Nat.le_of_ble_eq_true rfl) ?_
  intro p e R s m args below meth c Q A H locs ls hX hRc hRs hP hD hE hS hA hnm hl hQ
  obtain ⟨hx, hb, hr, hlk, hml, hown, hts, hRf, hRl⟩ := hX
  have hown : s.vm.findClass RX4 = some m.cls := hown
  have hK := ho.2 _ _ _ hE
  have hl : lv_has ls 3 [(0, .ref h0), (1, .int x)] := hl
  subst hT
  refine lv_aload_n hx hb dX4_isSign_0 rfl (lv_at hl 0 rfl) ?_
  refine rcV (As := []) (rest := []) (st1 := [.int (sgn (F 4) tp hr0)]) (mX4_sign l g E ho h0 a I F tp hr0 (F 4) (by first | exact hI7 | rfl) ht60 (by first | exact hI8 | rfl) hh60 rfl) kX4_sign q2660 hx hb hml hown hts hRf hRl ho.1 hE hS hP (va_recv hK hP (ci := 0) (q0 := 0) rfl rfl) ⟨Nat.zero_le _, Nat.zero_le _⟩ hl ⟨rfl, rfl⟩ rfl rfl (Nat.le_of_ble_eq_true rfl) rfl dX4_isSign_1 ?_
  refine lv_iload_n hx hb dX4_isSign_4 rfl (lv_at hl 1 rfl) ?_
  refine lv_icmp_ne (tgt := 12) hx hb dX4_isSign_5 (by decide) (fun c_1 => ?_) (fun c_1 => ?_)
  · refine lv_iconst (v := 0) hx hb dX4_isSign_12 (by decide) ?_
    refine lv_istore_n (lv' := [(2, .int 0), (0, .ref h0), (1, .int x)]) hx hb dX4_isSign_13 rfl hl (by decide) rfl (fun ls hl => ?_)
    refine lv_aload_n hx hb dX4_isSign_14 rfl (lv_at hl 1 rfl) ?_
    refine lv_dup hx hb dX4_isSign_15 rfl ?_
    refine va_get (D := gD g) (ci := 0) (v := .int (I 8)) (C := RX4) (T := TX4) (N := 21) hx hb hts in_X4 hown hK hP 0 rfl rfl 15 (by decide) (hts _ q2329) (fun _ h9 => h9) rfl dX4_isSign_16 ?_
    refine h_topi (v := nI hr0) (hI8) ?_
    refine lv_iload_n hx hb dX4_isSign_19 rfl (lv_at hl 0 rfl) ?_
    refine lv_if_eq (tgt := 27) hx hb dX4_isSign_20 (by decide) (fun _ => ?_) (fun c => absurd c (by decide))
    refine lv_iconst (v := 0) hx hb dX4_isSign_27 (by decide) ?_
    refine lv_iadd hx hb dX4_isSign_28 ?_
    refine h_topi (v := nI hr0) (h_nadd (a := hr0) (b := 0) (rfl) (rfl)) ?_
    refine va_put (D := gD g) (ci := 0) (v := .int (nI hr0)) (ty := .int) (C := RX4) (T := TX4) (N := 21) hx hb hts in_X4 tyX4 tyX4_ok nmX4 hown hK hP hD hS 0 rfl rfl 15 (by decide) (hts _ q2329) (fun _ h9 => h9) rfl (by decide +kernel) rfl rfl (Nat.le_of_ble_eq_true rfl) dX4_isSign_29 (fun H locs hP hD hS => ?_)
    have hP : va_P (gD g) Cl (mW g h0 a (upd I 8 (nI hr0)) F) H := hP
    have hD : va_D A (mW g h0 a (upd I 8 (nI hr0)) F) := hD
    refine lv_iload_n hx hb dX4_isSign_32 rfl (lv_at hl 0 rfl) ?_
    have hW1 : (mW g h0 a (upd I 8 (nI hr0)) F) = mW g h0 a (upd I 8 (nI (stp (F 4) tp hr0 x))) F := by simp only [stp, *, if_true, if_false]; try rfl
    rw [hW1] at hP hD
    exact hm_i hQ hx hb hr hlk rfl () (by simp [*]) trivial hP hD hS (by decide) (by decide) dX4_isSign_33
  refine lv_iconst (v := 1) hx hb dX4_isSign_8 (by decide) ?_
  refine lv_goto (tgt := 13) hx hb dX4_isSign_9 (by decide) ?_
  refine lv_istore_n (lv' := [(2, .int 1), (0, .ref h0), (1, .int x)]) hx hb dX4_isSign_13 rfl hl (by decide) rfl (fun ls hl => ?_)
  refine lv_aload_n hx hb dX4_isSign_14 rfl (lv_at hl 1 rfl) ?_
  refine lv_dup hx hb dX4_isSign_15 rfl ?_
  refine va_get (D := gD g) (ci := 0) (v := .int (I 8)) (C := RX4) (T := TX4) (N := 21) hx hb hts in_X4 hown hK hP 0 rfl rfl 15 (by decide) (hts _ q2329) (fun _ h9 => h9) rfl dX4_isSign_16 ?_
  refine h_topi (v := nI hr0) (hI8) ?_
  refine lv_iload_n hx hb dX4_isSign_19 rfl (lv_at hl 0 rfl) ?_
  refine lv_if_eq (tgt := 27) hx hb dX4_isSign_20 (by decide) (fun c => absurd c (by decide)) (fun _ => ?_)
  refine lv_iconst (v := 1) hx hb dX4_isSign_23 (by decide) ?_
  refine lv_goto (tgt := 28) hx hb dX4_isSign_24 (by decide) ?_
  refine lv_iadd hx hb dX4_isSign_28 ?_
  refine h_topi (v := nI (hr0 + 1)) (h_nadd (a := hr0) (b := 1) (rfl) (rfl)) ?_
  refine va_put (D := gD g) (ci := 0) (v := .int (nI (hr0 + 1))) (ty := .int) (C := RX4) (T := TX4) (N := 21) hx hb hts in_X4 tyX4 tyX4_ok nmX4 hown hK hP hD hS 0 rfl rfl 15 (by decide) (hts _ q2329) (fun _ h9 => h9) rfl (by decide +kernel) rfl rfl (Nat.le_of_ble_eq_true rfl) dX4_isSign_29 (fun H locs hP hD hS => ?_)
  have hP : va_P (gD g) Cl (mW g h0 a (upd I 8 (nI (hr0 + 1))) F) H := hP
  have hD : va_D A (mW g h0 a (upd I 8 (nI (hr0 + 1))) F) := hD
  refine lv_iload_n hx hb dX4_isSign_32 rfl (lv_at hl 0 rfl) ?_
  have hW1 : (mW g h0 a (upd I 8 (nI (hr0 + 1))) F) = mW g h0 a (upd I 8 (nI (stp (F 4) tp hr0 x))) F := by simp only [stp, *, if_true, if_false]; try rfl
  rw [hW1] at hP hD
  exact hm_i hQ hx hb hr hlk rfl () (by simp [*]) trivial hP hD hS (by decide) (by decide) dX4_isSign_33
theorem kX4_signOf : hkS yX4_signOf cX4_signOf 1 (some .int) 1 := ⟨q2665, q78, q2666, by decide +kernel⟩
set_option maxHeartbeats 4000000 in
theorem mX4_signOf (l : Launch) (g : hG) (E : hEnv) (ho : mOk g E) (x : Int32) : RM l yX4_signOf cX4_signOf 1 (some .int) 0 0 [.int x] g E [] (some (.int (sgo x))) := by
  refine RM.mk (by decide) (Nat.le_of_ble_eq_true rfl) ?_
  intro p e R s m args below meth c Q ls hX hP hE hS hl hQ
  obtain ⟨hx, hb, hr, hlk, hml, hown, hts, hRf, hRl⟩ := hX
  have hown : s.vm.findClass RX4 = some m.cls := hown
  have hK := ho.2 _ _ _ hE
  have hl : lv_has ls 1 [(0, .int x)] := hl
  refine lv_iload_n hx hb dX4_signOf_0 rfl (lv_at hl 0 rfl) ?_
  by_cases c_1 : x = 0
  · refine h_tsw (x := x) (k := 0) (off := 35) (tgt := 36) hx hb dX4_signOf_1 (by rw [c_1]; decide) (by decide) (by decide) rfl (by decide) ?_
    refine lv_bipush (v := 58) hx hb dX4_signOf_36 (by decide) ?_
    exact hr_i hQ hx hb hr hlk rfl (by simp [sgo, *]) dX4_signOf_38
  by_cases c_2 : x = 1
  · refine h_tsw (x := x) (k := 1) (off := 38) (tgt := 39) hx hb dX4_signOf_1 (by rw [c_2]; decide) (by decide) (by decide) rfl (by decide) ?_
    refine lv_bipush (v := 43) hx hb dX4_signOf_39 (by decide) ?_
    exact hr_i hQ hx hb hr hlk rfl (by simp [sgo, *]) dX4_signOf_41
  by_cases c_3 : x = 2
  · refine h_tsw (x := x) (k := 2) (off := 41) (tgt := 42) hx hb dX4_signOf_1 (by rw [c_3]; decide) (by decide) (by decide) rfl (by decide) ?_
    refine lv_bipush (v := 35) hx hb dX4_signOf_42 (by decide) ?_
    exact hr_i hQ hx hb hr hlk rfl (by simp [sgo, *]) dX4_signOf_44
  by_cases c_4 : x = 3
  · refine h_tsw (x := x) (k := 3) (off := 44) (tgt := 45) hx hb dX4_signOf_1 (by rw [c_4]; decide) (by decide) (by decide) rfl (by decide) ?_
    refine lv_bipush (v := 60) hx hb dX4_signOf_45 (by decide) ?_
    exact hr_i hQ hx hb hr hlk rfl (by simp [sgo, *]) dX4_signOf_47
  by_cases c_5 : x = 4
  · refine h_tsw (x := x) (k := 4) (off := 47) (tgt := 48) hx hb dX4_signOf_1 (by rw [c_5]; decide) (by decide) (by decide) rfl (by decide) ?_
    refine lv_bipush (v := 47) hx hb dX4_signOf_48 (by decide) ?_
    exact hr_i hQ hx hb hr hlk rfl (by simp [sgo, *]) dX4_signOf_50
  have e_c_1 : x.toInt ≠ (0) := h_ne (y := 0) c_1
  have e_c_2 : x.toInt ≠ (1) := h_ne (y := 1) c_2
  have e_c_3 : x.toInt ≠ (2) := h_ne (y := 2) c_3
  have e_c_4 : x.toInt ≠ (3) := h_ne (y := 3) c_4
  have e_c_5 : x.toInt ≠ (4) := h_ne (y := 4) c_5
  refine lv_tableOut (tgt := 51) hx hb dX4_signOf_1 (by omega) (by decide) ?_
  refine lv_bipush (v := 32) hx hb dX4_signOf_51 (by decide) ?_
  exact hr_i hQ hx hb hr hlk rfl (by simp [sgo, *]) dX4_signOf_53
theorem kX4_character : hkV RX4 yX4_character cX4_character 2 (some .char) 1 := ⟨q2696, q2697, q78, q2698, rfl, by decide +kernel⟩
set_option maxHeartbeats 4000000 in
theorem mX4_character (l : Launch) (g : hG) (E : hEnv) (ho : mOk g E) (h0 : Nat) (a : Nat → Nat) (I : Nat → Int32) (F : Nat → Nat → Int32) (p0 : Int32) (ln : Nat) (hln : I 12 = nI ln) (hl26 : ln ≤ 260) : MM l yX4_character cX4_character 2 (some .char) 1 22 0 0 [.ref h0, .int p0] g E (mW g h0 a I F) (S := Unit) (fun _ => (some (.int ((gChar I (F 6) p0).2)))) (fun _ => True) (fun _ => mW g h0 a (upd I 1 (gChar I (F 6) p0).1) F) := by
  refine MM.mk (by decide) (Nat.le_of_ble_eq_true rfl) ?_
  intro p e R s m args below meth c Q A H locs ls hX hRc hRs hP hD hE hS hA hnm hl hQ
  obtain ⟨hx, hb, hr, hlk, hml, hown, hts, hRf, hRl⟩ := hX
  have hown : s.vm.findClass RX4 = some m.cls := hown
  have hK := ho.2 _ _ _ hE
  have hl : lv_has ls 2 [(0, .ref h0), (1, .int p0)] := hl
  refine lv_aload_n hx hb dX4_character_0 rfl (lv_at hl 0 rfl) ?_
  refine lv_iload_n hx hb dX4_character_1 rfl (lv_at hl 1 rfl) ?_
  refine lv_iconst (v := 0) hx hb dX4_character_2 (by decide) ?_
  refine lv_aload_n hx hb dX4_character_3 rfl (lv_at hl 0 rfl) ?_
  refine va_get (D := gD g) (ci := 0) (v := .int (I 12)) (C := RX4) (T := TX4) (N := 21) hx hb hts in_X4 hown hK hP 0 rfl rfl 20 (by decide) (hts _ q2334) (fun _ h9 => h9) rfl dX4_character_4 ?_
  refine h_topi (v := nI ln) (hln) ?_
  refine lv_iconst (v := 1) hx hb dX4_character_7 (by decide) ?_
  refine lv_isub hx hb dX4_character_8 ?_
  refine rcS (As := [.int p0, .int 0, .int ((nI ln) - 1)]) (rest := [.ref h0]) (st1 := [.int (if inR p0 0 ((nI ln) - 1) then 1 else 0), .ref h0]) (mX4_isIn l g E ho p0 0 ((nI ln) - 1)) kX4_isIn q2397 hx hb hml hown hts hRf hRl ho.1 hE hS (hP.sub [] rfl) ⟨Nat.zero_le _, Nat.zero_le _⟩ hl ⟨rfl, rfl⟩ rfl rfl (Nat.le_of_ble_eq_true rfl) rfl dX4_character_9 ?_
  refine h_ifne_b (tgt := 19) hx hb dX4_character_12 (by decide) (fun c_1 => ?_) (fun c_1 => ?_)
  · refine lv_iconst (v := 0) hx hb dX4_character_19 (by decide) ?_
    refine lv_iconst (v := 1) hx hb dX4_character_20 (by decide) ?_
    refine mcV (As := [.int 0, .int 1]) (rest := []) (wr := []) (mX4_isThrown0 l g E ho h0 a I F 1) kX4_isThrown q2574 hx hb hml hown hts hRf hRl ho.1 hE hS hP hD hA [0, 1, 2, 3, 4, 5, 6, 7, 8] [] rfl (by decide) rfl (by decide) (by decide) ⟨Nat.zero_le _, Nat.zero_le _⟩ (va_recv hK hP (ci := 0) (q0 := 0) rfl rfl) hl ⟨rfl, rfl⟩ rfl rfl (Nat.le_of_ble_eq_true rfl) dX4_character_21 (fun _ H locs _ hP hD hS _ _ => ?_)
    have hP : va_P (gD g) Cl (mW g h0 a (upd I 1 0) F) H := hP
    have hD : va_D A (mW g h0 a (upd I 1 0) F) := hD
    refine lv_if_eq (tgt := 31) hx hb dX4_character_24 (by decide) (fun _ => ?_) (fun c => absurd c (by decide))
    have hrj := c_1
    obtain ⟨j, hj, rfl⟩ := inR_ix hrj rfl (by omega)
    have hjc : (nI j).toNatClampNeg = j := nI_clamp (by omega)
    refine lv_aload_n hx hb dX4_character_31 rfl (lv_at hl 0 rfl) ?_
    refine va_get (D := gD g) (ci := 0) (v := .ref (a 7)) (C := RX4) (T := TX4) (N := 21) hx hb hts in_X4 hown hK hP 0 rfl rfl 19 (by decide) (hts _ q2333) (fun _ h9 => h9) rfl dX4_character_32 ?_
    refine lv_iload_n hx hb dX4_character_35 rfl (lv_at hl 1 rfl) ?_
    refine h_iald (f := (F 6)) hx hb hK hP 7 0 rfl rfl j rfl (by omega) (by decide) dX4_character_36 ?_
    refine lv_i2c (v := ((F 6 j).toUInt32 % 65536).toInt32) hx hb dX4_character_37 rfl ?_
    have hop : gChar I (F 6) (nI j) = (0, ((F 6 j).toUInt32 % 65536).toInt32) := by simp only [gChar, hln, hjc, eq_true c_1, if_true, if_false, not_true_eq_false, not_false_eq_true, ite_true, ite_false, reduceIte, Nat.add_zero, Nat.add_sub_cancel]
    have hW1 : (mW g h0 a (upd I 1 0) F) = mW g h0 a (upd I 1 (gChar I (F 6) (nI j)).1) F := by
      rw [hop]
    rw [hW1] at hP hD
    exact hm_i hQ hx hb hr hlk (congrArg Value.int (h_char _)) () (by rw [hop]) trivial hP hD hS (by decide) (by decide) dX4_character_38
  refine lv_iconst (v := 1) hx hb dX4_character_15 (by decide) ?_
  refine lv_goto (tgt := 20) hx hb dX4_character_16 (by decide) ?_
  refine lv_iconst (v := 1) hx hb dX4_character_20 (by decide) ?_
  refine mcV (As := [.int 1, .int 1]) (rest := []) (wr := []) (mX4_isThrown1 l g E ho h0 a I F 1) kX4_isThrown q2574 hx hb hml hown hts hRf hRl ho.1 hE hS hP hD hA [0, 1, 2, 3, 4, 5, 6, 7, 8] [] rfl (by decide) rfl (by decide) (by decide) ⟨Nat.zero_le _, Nat.zero_le _⟩ (va_recv hK hP (ci := 0) (q0 := 0) rfl rfl) hl ⟨rfl, rfl⟩ rfl rfl (Nat.le_of_ble_eq_true rfl) dX4_character_21 (fun _ H locs _ hP hD hS _ _ => ?_)
  have hP : va_P (gD g) Cl (mW g h0 a (upd I 1 1) F) H := hP
  have hD : va_D A (mW g h0 a (upd I 1 1) F) := hD
  refine lv_if_eq (tgt := 31) hx hb dX4_character_24 (by decide) (fun c => absurd c (by decide)) (fun _ => ?_)
  refine lv_iconst (v := 0) hx hb dX4_character_27 (by decide) ?_
  refine lv_goto (tgt := 38) hx hb dX4_character_28 (by decide) ?_
  have hop : gChar I (F 6) p0 = (1, 0) := by simp only [gChar, hln, eq_false c_1, if_true, if_false, not_true_eq_false, not_false_eq_true, ite_true, ite_false, reduceIte, Nat.add_zero, Nat.add_sub_cancel]
  have hW1 : (mW g h0 a (upd I 1 1) F) = mW g h0 a (upd I 1 (gChar I (F 6) p0).1) F := by
    rw [hop]
  rw [hW1] at hP hD
  exact hm_i hQ hx hb hr hlk rfl () (by rw [hop]) trivial hP hD hS (by decide) (by decide) dX4_character_38
theorem kX4_isNumber : hkV RX4 yX4_isNumber cX4_isNumber 3 (some .boolean) 1 := ⟨q2658, qs55, q78, q2659, rfl, by decide +kernel⟩
set_option maxHeartbeats 4000000 in
theorem mX4_isNumber (l : Launch) (g : hG) (E : hEnv) (ho : mOk g E) (h0 : Nat) (a : Nat → Nat) (I : Nat → Int32) (F : Nat → Nat → Int32) (d : Nat) (tp : Nat) (hr0 : Nat) (T : Nat → Int32) (hI7 : I 7 = nI tp) (ht60 : tp ≤ 60) (hI8 : I 8 = nI hr0) (hh60 : hr0 ≤ 60) (hT : F 4 = T) (hd3 : d ≤ 3) : MM l yX4_isNumber cX4_isNumber 3 (some .boolean) 1 22 0 0 [.ref h0, .int (nI d)] g E (mW g h0 a I F) (S := Unit) (fun _ => (some (.int (if 0 < dgN T tp hr0 d then 1 else 0)))) (fun _ => True) (fun _ => mW g h0 a (upd (upd I 8 (nI (hr0 + dgN T tp hr0 d))) 10 (toldK T hr0 (dgN T tp hr0 d))) F) := by
  refine MM.mk (by decide) (Nat.le_of_ble_eq_true rfl) ?_
  intro p e R s m args below meth c Q A H locs ls hX hRc hRs hP hD hE hS hA hnm hl hQ
  obtain ⟨hx, hb, hr, hlk, hml, hown, hts, hRf, hRl⟩ := hX
  have hown : s.vm.findClass RX4 = some m.cls := hown
  have hK := ho.2 _ _ _ hE
  have hl : lv_has ls 3 [(0, .ref h0), (1, .int (nI d))] := hl
  subst hT
  refine lv_aload_n hx hb dX4_isNumber_0 rfl (lv_at hl 0 rfl) ?_
  refine lv_iconst (v := 0) hx hb dX4_isNumber_1 (by decide) ?_
  refine va_put (D := gD g) (ci := 0) (v := .int 0) (ty := .int) (C := RX4) (T := TX4) (N := 21) hx hb hts in_X4 tyX4 tyX4_ok nmX4 hown hK hP hD hS 0 rfl rfl 17 (by decide) (hts _ q2331) (fun _ h9 => h9) rfl (by decide +kernel) rfl rfl (Nat.le_of_ble_eq_true rfl) dX4_isNumber_2 (fun H locs hP hD hS => ?_)
  have hP : va_P (gD g) Cl (mW g h0 a (upd I 10 0) F) H := hP
  have hD : va_D A (mW g h0 a (upd I 10 0) F) := hD
  refine lv_iconst (v := 0) hx hb dX4_isNumber_5 (by decide) ?_
  refine lv_istore_n (lv' := [(2, .int 0), (0, .ref h0), (1, .int (nI d))]) hx hb dX4_isNumber_6 rfl hl (by decide) rfl (fun ls hl => ?_)
  have loop_7 : ∀ (k : Nat) (i : Nat), (d < i + k ∧ i ≤ d ∧ dgN (F 4) tp hr0 i = i ∧ hr0 + i ≤ 60) → ∀ (H : Heap) (locs : List Loc), va_P (gD g) Cl (mW g h0 a (upd (upd I 8 (nI (hr0 + i))) 10 (toldK (F 4) hr0 i)) F) H → va_D A (mW g h0 a (upd (upd I 8 (nI (hr0 + i))) 10 (toldK (F 4) hr0 i)) F) → va_S A s.heap H locs → ∀ (ls : Array Slot), lv_has ls 3 [(2, .int (nI i)), (0, .ref h0), (1, .int (nI d))] → W p l e R s m args below meth c H locs 0 0 Q (F0 m 7 ls []) := by
    intro k
    induction k with
    | zero =>
      intro i hi H locs hP hD hS ls hl
      exact absurd hi.1 (by omega)
    | succ k ih_7 =>
      intro i hi H locs hP hD hS ls hl
      obtain ⟨hi1, hi2, hi3, hi4⟩ := hi
      refine lv_iload_n hx hb dX4_isNumber_7 rfl (lv_at hl 0 rfl) ?_
      refine lv_iload_n hx hb dX4_isNumber_8 rfl (lv_at hl 2 rfl) ?_
      refine lv_icmp_ge (tgt := 61) hx hb dX4_isNumber_9 (by decide) (fun c_1 => ?_) (fun c_1 => ?_)
      · have hiq : i = d := by
          rcases Nat.lt_or_ge i d with z | z
          · exact absurd c_1 (nI_ge (a := i) (b := d) z (by omega))
          · omega
        have hdg : dgN (F 4) tp hr0 d = i := by rw [← hiq]; exact hi3
        refine lv_iload_n hx hb dX4_isNumber_61 rfl (lv_at hl 0 rfl) ?_
        refine lv_if_le (tgt := 69) hx hb dX4_isNumber_62 (by decide) (fun c_2 => ?_) (fun c_2 => ?_)
        · have h0i : ¬ 0 < i := fun z => absurd (nI_lt (a := 0) (b := i) z (by omega)) (Int32.not_lt.mpr c_2)
          refine lv_iconst (v := 0) hx hb dX4_isNumber_69 (by decide) ?_
          have hW1 : (mW g h0 a (upd (upd I 8 (nI (hr0 + i))) 10 (toldK (F 4) hr0 i)) F) = mW g h0 a (upd (upd I 8 (nI (hr0 + dgN (F 4) tp hr0 d))) 10 (toldK (F 4) hr0 (dgN (F 4) tp hr0 d))) F := by rw [hdg]
          rw [hW1] at hP hD
          exact hm_i hQ hx hb hr hlk rfl () (by rw [hdg]; first | rw [if_pos h0i] | rw [if_neg h0i]) trivial hP hD hS (by decide) (by decide) dX4_isNumber_70
        have h0i : 0 < i := by
          rcases Nat.eq_zero_or_pos i with z | z
          · exact absurd (by rw [z]; decide) c_2
          · exact z
        refine lv_iconst (v := 1) hx hb dX4_isNumber_65 (by decide) ?_
        refine lv_goto (tgt := 70) hx hb dX4_isNumber_66 (by decide) ?_
        have hW1 : (mW g h0 a (upd (upd I 8 (nI (hr0 + i))) 10 (toldK (F 4) hr0 i)) F) = mW g h0 a (upd (upd I 8 (nI (hr0 + dgN (F 4) tp hr0 d))) 10 (toldK (F 4) hr0 (dgN (F 4) tp hr0 d))) F := by rw [hdg]
        rw [hW1] at hP hD
        exact hm_i hQ hx hb hr hlk rfl () (by rw [hdg]; first | rw [if_pos h0i] | rw [if_neg h0i]) trivial hP hD hS (by decide) (by decide) dX4_isNumber_70
      have hlt : i < d := by
        rcases Nat.lt_or_ge i d with z | z
        · exact z
        · exact absurd (nI_le (a := d) (b := i) z (by omega)) c_1
      refine lv_aload_n hx hb dX4_isNumber_12 rfl (lv_at hl 1 rfl) ?_
      refine rcV (As := []) (rest := []) (st1 := [.int (sgn (F 4) tp (hr0 + i))]) (mX4_sign l g E ho h0 a (upd (upd I 8 (nI (hr0 + i))) 10 (toldK (F 4) hr0 i)) F tp (hr0 + i) (F 4) (by first | exact hI7 | rfl) ht60 (by first | exact hI8 | rfl) hi4 rfl) kX4_sign q2660 hx hb hml hown hts hRf hRl ho.1 hE hS hP (va_recv hK hP (ci := 0) (q0 := 0) rfl rfl) ⟨Nat.zero_le _, Nat.zero_le _⟩ hl ⟨rfl, rfl⟩ rfl rfl (Nat.le_of_ble_eq_true rfl) rfl dX4_isNumber_13 ?_
      refine lv_bipush (v := 48) hx hb dX4_isNumber_16 (by decide) ?_
      refine lv_bipush (v := 57) hx hb dX4_isNumber_18 (by decide) ?_
      refine rcS (As := [.int (sgn (F 4) tp (hr0 + i)), .int 48, .int 57]) (rest := []) (st1 := [.int (if inR (sgn (F 4) tp (hr0 + i)) 48 57 then 1 else 0)]) (mX4_isIn l g E ho (sgn (F 4) tp (hr0 + i)) 48 57) kX4_isIn q2397 hx hb hml hown hts hRf hRl ho.1 hE hS (hP.sub [] rfl) ⟨Nat.zero_le _, Nat.zero_le _⟩ hl ⟨rfl, rfl⟩ rfl rfl (Nat.le_of_ble_eq_true rfl) rfl dX4_isNumber_20 ?_
      refine h_ifeq_b (tgt := 61) hx hb dX4_isNumber_23 (by decide) (fun c_3 => ?_) (fun c_3 => ?_)
      · have hdg : dgN (F 4) tp hr0 d = i := by
          obtain ⟨e9, he9⟩ : ∃ e9, d = i + e9 := ⟨d - i, by omega⟩
          rw [he9]
          exact dgN_stop hi3 c_3 e9
        refine lv_iload_n hx hb dX4_isNumber_61 rfl (lv_at hl 0 rfl) ?_
        refine lv_if_le (tgt := 69) hx hb dX4_isNumber_62 (by decide) (fun c_4 => ?_) (fun c_4 => ?_)
        · have h0i : ¬ 0 < i := fun z => absurd (nI_lt (a := 0) (b := i) z (by omega)) (Int32.not_lt.mpr c_4)
          refine lv_iconst (v := 0) hx hb dX4_isNumber_69 (by decide) ?_
          have hW1 : (mW g h0 a (upd (upd I 8 (nI (hr0 + i))) 10 (toldK (F 4) hr0 i)) F) = mW g h0 a (upd (upd I 8 (nI (hr0 + dgN (F 4) tp hr0 d))) 10 (toldK (F 4) hr0 (dgN (F 4) tp hr0 d))) F := by rw [hdg]
          rw [hW1] at hP hD
          exact hm_i hQ hx hb hr hlk rfl () (by rw [hdg]; first | rw [if_pos h0i] | rw [if_neg h0i]) trivial hP hD hS (by decide) (by decide) dX4_isNumber_70
        have h0i : 0 < i := by
          rcases Nat.eq_zero_or_pos i with z | z
          · exact absurd (by rw [z]; decide) c_4
          · exact z
        refine lv_iconst (v := 1) hx hb dX4_isNumber_65 (by decide) ?_
        refine lv_goto (tgt := 70) hx hb dX4_isNumber_66 (by decide) ?_
        have hW1 : (mW g h0 a (upd (upd I 8 (nI (hr0 + i))) 10 (toldK (F 4) hr0 i)) F) = mW g h0 a (upd (upd I 8 (nI (hr0 + dgN (F 4) tp hr0 d))) 10 (toldK (F 4) hr0 (dgN (F 4) tp hr0 d))) F := by rw [hdg]
        rw [hW1] at hP hD
        exact hm_i hQ hx hb hr hlk rfl () (by rw [hdg]; first | rw [if_pos h0i] | rw [if_neg h0i]) trivial hP hD hS (by decide) (by decide) dX4_isNumber_70
      have hdl := sgn_dg c_3
      refine lv_aload_n hx hb dX4_isNumber_26 rfl (lv_at hl 1 rfl) ?_
      refine lv_bipush (v := 10) hx hb dX4_isNumber_27 (by decide) ?_
      refine lv_aload_n hx hb dX4_isNumber_29 rfl (lv_at hl 1 rfl) ?_
      refine va_get (D := gD g) (ci := 0) (v := .int (toldK (F 4) hr0 i)) (C := RX4) (T := TX4) (N := 21) hx hb hts in_X4 hown hK hP 0 rfl rfl 17 (by decide) (hts _ q2331) (fun _ h9 => h9) rfl dX4_isNumber_30 ?_
      refine lv_imul hx hb dX4_isNumber_33 ?_
      refine lv_aload_n hx hb dX4_isNumber_34 rfl (lv_at hl 1 rfl) ?_
      refine rcV (As := []) (rest := [.int (10 * (toldK (F 4) hr0 i)), .ref h0]) (st1 := [.int (sgn (F 4) tp (hr0 + i)), .int (10 * (toldK (F 4) hr0 i)), .ref h0]) (mX4_sign l g E ho h0 a (upd (upd I 8 (nI (hr0 + i))) 10 (toldK (F 4) hr0 i)) F tp (hr0 + i) (F 4) (by first | exact hI7 | rfl) ht60 (by first | exact hI8 | rfl) hi4 rfl) kX4_sign q2660 hx hb hml hown hts hRf hRl ho.1 hE hS hP (va_recv hK hP (ci := 0) (q0 := 0) rfl rfl) ⟨Nat.zero_le _, Nat.zero_le _⟩ hl ⟨rfl, rfl⟩ rfl rfl (Nat.le_of_ble_eq_true rfl) rfl dX4_isNumber_35 ?_
      refine h_topi (v := F 4 (hr0 + i)) (if_pos hdl) ?_
      refine lv_iadd hx hb dX4_isNumber_38 ?_
      refine lv_bipush (v := 48) hx hb dX4_isNumber_39 (by decide) ?_
      refine lv_isub hx hb dX4_isNumber_41 ?_
      refine va_put (D := gD g) (ci := 0) (v := .int (((10 * (toldK (F 4) hr0 i)) + (F 4 (hr0 + i))) - 48)) (ty := .int) (C := RX4) (T := TX4) (N := 21) hx hb hts in_X4 tyX4 tyX4_ok nmX4 hown hK hP hD hS 0 rfl rfl 17 (by decide) (hts _ q2331) (fun _ h9 => h9) rfl (by decide +kernel) rfl rfl (Nat.le_of_ble_eq_true rfl) dX4_isNumber_42 (fun H locs hP hD hS => ?_)
      have hP : va_P (gD g) Cl (mW g h0 a (upd (upd I 8 (nI (hr0 + i))) 10 (((10 * (toldK (F 4) hr0 i)) + (F 4 (hr0 + i))) - 48)) F) H := hP
      have hD : va_D A (mW g h0 a (upd (upd I 8 (nI (hr0 + i))) 10 (((10 * (toldK (F 4) hr0 i)) + (F 4 (hr0 + i))) - 48)) F) := hD
      refine lv_aload_n hx hb dX4_isNumber_45 rfl (lv_at hl 1 rfl) ?_
      refine lv_dup hx hb dX4_isNumber_46 rfl ?_
      refine va_get (D := gD g) (ci := 0) (v := .int (nI (hr0 + i))) (C := RX4) (T := TX4) (N := 21) hx hb hts in_X4 hown hK hP 0 rfl rfl 15 (by decide) (hts _ q2329) (fun _ h9 => h9) rfl dX4_isNumber_47 ?_
      refine lv_iconst (v := 1) hx hb dX4_isNumber_50 (by decide) ?_
      refine lv_iadd hx hb dX4_isNumber_51 ?_
      refine h_topi (v := nI (hr0 + i + 1)) (h_nadd (a := hr0 + i) (b := 1) (rfl) (rfl)) ?_
      refine va_put (D := gD g) (ci := 0) (v := .int (nI (hr0 + i + 1))) (ty := .int) (C := RX4) (T := TX4) (N := 21) hx hb hts in_X4 tyX4 tyX4_ok nmX4 hown hK hP hD hS 0 rfl rfl 15 (by decide) (hts _ q2329) (fun _ h9 => h9) rfl (by decide +kernel) rfl rfl (Nat.le_of_ble_eq_true rfl) dX4_isNumber_52 (fun H locs hP hD hS => ?_)
      have hP : va_P (gD g) Cl (mW g h0 a (upd (upd I 10 (((10 * (toldK (F 4) hr0 i)) + (F 4 (hr0 + i))) - 48)) 8 (nI (hr0 + i + 1))) F) H := hP
      have hD : va_D A (mW g h0 a (upd (upd I 10 (((10 * (toldK (F 4) hr0 i)) + (F 4 (hr0 + i))) - 48)) 8 (nI (hr0 + i + 1))) F) := hD
      refine lv_iinc (v := nI (i + 1)) (lv' := [(2, .int (nI (i + 1))), (0, .ref h0), (1, .int (nI d))]) hx hb dX4_isNumber_55 hl (k := 0) rfl (h_ninc (a := i) (k := 1) (rfl)) (by decide) rfl (fun ls hl => ?_)
      refine lv_goto (tgt := 7) hx hb dX4_isNumber_58 (by decide) ?_
      exact ih_7 (i + 1) ⟨by omega, by omega, if_pos ⟨hi3, c_3⟩, by omega⟩ H locs hP hD hS ls (lv_sub hl [0, 1, 2] rfl)
  rw [← (h_usame hI8 : upd I 8 (nI hr0) = I)] at hP hD
  exact loop_7 (d + 1) 0 ⟨by omega, by omega, rfl, by omega⟩ H locs hP hD hS ls (lv_sub hl [0, 1, 2] rfl)
theorem kX4_does : hkV RX4 yX4_does cX4_does 4 (some .int) 1 := ⟨q2673, qs58, q78, q2674, rfl, by decide +kernel⟩
set_option maxHeartbeats 4000000 in
theorem mX4_does (l : Launch) (g : hG) (E : hEnv) (ho : mOk g E) (h0 : Nat) (a : Nat → Nat) (I : Nat → Int32) (F : Nat → Nat → Int32) (pt : Nat) (nt : Nat) (nh : Nat) (nb : Nat) (nc : Nat) (tw : Nat) (hc : Cn (F 0) nt nh nb nc tw) (hpt : pt + 2 < 36) : MM l yX4_does cX4_does 4 (some .int) 4 90 0 0 [.ref h0, .int (nI pt)] g E (mW g h0 a I F) (S := Unit) (fun _ => (some (.int ((opDoes (F 0) (F 5 pt) (F 5 (pt + 1)) (F 5 (pt + 2))).2.2.1)))) (fun _ => True) (fun _ => mW g h0 a (opI I (opDoes (F 0) (F 5 pt) (F 5 (pt + 1)) (F 5 (pt + 2)))) (va_up F 0 (opDoes (F 0) (F 5 pt) (F 5 (pt + 1)) (F 5 (pt + 2))).2.2.2)) := by
  refine MM.mk (by decide) (Nat.le_of_ble_eq_true rfl) ?_
  intro p e R s m args below meth c Q A H locs ls hX hRc hRs hP hD hE hS hA hnm hl hQ
  obtain ⟨hx, hb, hr, hlk, hml, hown, hts, hRf, hRl⟩ := hX
  have hown : s.vm.findClass RX4 = some m.cls := hown
  have hK := ho.2 _ _ _ hE
  have hl : lv_has ls 4 [(0, .ref h0), (1, .int (nI pt))] := hl
  have hc0 := hc
  obtain ⟨htw, htw6, ht, ht10, hh, hh20, hb6, hb6l, hk5, hk5l⟩ := hc
  have htc : (nI nt).toNatClampNeg = nt := nI_clamp (by omega)
  have hhc : (nI nh).toNatClampNeg = nh := nI_clamp (by omega)
  have hbc : (nI nb).toNatClampNeg = nb := nI_clamp (by omega)
  have hkc : (nI nc).toNatClampNeg = nc := nI_clamp (by omega)
  have htwc : (nI tw).toNatClampNeg = tw := nI_clamp (by omega)
  refine lv_aload_n hx hb dX4_does_0 rfl (lv_at hl 0 rfl) ?_
  refine va_get (D := gD g) (ci := 0) (v := .ref (a 6)) (C := RX4) (T := TX4) (N := 21) hx hb hts in_X4 hown hK hP 0 rfl rfl 13 (by decide) (hts _ q2327) (fun _ h9 => h9) rfl dX4_does_1 ?_
  refine lv_iload_n hx hb dX4_does_4 rfl (lv_at hl 1 rfl) ?_
  refine lv_iconst (v := 1) hx hb dX4_does_5 (by decide) ?_
  refine lv_iadd hx hb dX4_does_6 ?_
  refine h_topi (v := nI (pt + 1)) (h_nadd (a := pt) (b := 1) (rfl) (rfl)) ?_
  refine h_iald (f := (F 5)) hx hb hK hP 6 0 rfl rfl (pt + 1) rfl (by omega) (by decide) dX4_does_7 ?_
  refine lv_istore_n (lv' := [(2, .int (F 5 (pt + 1))), (0, .ref h0), (1, .int (nI pt))]) hx hb dX4_does_8 rfl hl (by decide) rfl (fun ls hl => ?_)
  refine lv_aload_n hx hb dX4_does_9 rfl (lv_at hl 1 rfl) ?_
  refine va_get (D := gD g) (ci := 0) (v := .ref (a 6)) (C := RX4) (T := TX4) (N := 21) hx hb hts in_X4 hown hK hP 0 rfl rfl 13 (by decide) (hts _ q2327) (fun _ h9 => h9) rfl dX4_does_10 ?_
  refine lv_iload_n hx hb dX4_does_13 rfl (lv_at hl 2 rfl) ?_
  refine lv_iconst (v := 2) hx hb dX4_does_14 (by decide) ?_
  refine lv_iadd hx hb dX4_does_15 ?_
  refine h_topi (v := nI (pt + 2)) (h_nadd (a := pt) (b := 2) (rfl) (rfl)) ?_
  refine h_iald (f := (F 5)) hx hb hK hP 6 0 rfl rfl (pt + 2) rfl (by omega) (by decide) dX4_does_16 ?_
  refine lv_istore_n (lv' := [(3, .int (F 5 (pt + 2))), (2, .int (F 5 (pt + 1))), (0, .ref h0), (1, .int (nI pt))]) hx hb dX4_does_17 rfl hl (by decide) rfl (fun ls hl => ?_)
  refine lv_aload_n hx hb dX4_does_18 rfl (lv_at hl 2 rfl) ?_
  refine va_get (D := gD g) (ci := 0) (v := .ref (a 6)) (C := RX4) (T := TX4) (N := 21) hx hb hts in_X4 hown hK hP 0 rfl rfl 13 (by decide) (hts _ q2327) (fun _ h9 => h9) rfl dX4_does_19 ?_
  refine lv_iload_n hx hb dX4_does_22 rfl (lv_at hl 3 rfl) ?_
  refine h_iald (f := (F 5)) hx hb hK hP 6 0 rfl rfl pt rfl (by omega) (by decide) dX4_does_23 ?_
  by_cases c_1 : (F 5 pt) = 0
  · refine h_tsw (x := F 5 pt) (k := 0) (off := 44) (tgt := 68) hx hb dX4_does_24 (by rw [c_1]; decide) (by decide) (by decide) rfl (by decide) ?_
    refine lv_aload_n hx hb dX4_does_68 rfl (lv_at hl 2 rfl) ?_
    refine lv_iload_n hx hb dX4_does_69 rfl (lv_at hl 1 rfl) ?_
    refine lv_iload_n hx hb dX4_does_70 rfl (lv_at hl 0 rfl) ?_
    refine mcV (As := [.int (F 5 (pt + 1)), .int (F 5 (pt + 2))]) (rest := []) (wr := []) (mX4_combs l g E ho h0 a I F (F 5 (pt + 1)) (F 5 (pt + 2)) nt nh nb nc tw hc0) kX4_combs q2423 hx hb hml hown hts hRf hRl ho.1 hE hS hP hD hA [0, 1, 2, 3, 4, 5, 6, 7, 8] [] rfl (by decide) rfl (by decide) (by decide) ⟨Nat.zero_le _, Nat.zero_le _⟩ (va_recv hK hP (ci := 0) (q0 := 0) rfl rfl) hl ⟨rfl, rfl⟩ rfl rfl (Nat.le_of_ble_eq_true rfl) dX4_does_71 (fun _ H locs _ hP hD hS _ _ => ?_)
    have hP : va_P (gD g) Cl (mW g h0 a (opI I (opComb (F 0) (F 5 (pt + 1)) (F 5 (pt + 2)))) (va_up F 0 ((opComb (F 0) (F 5 (pt + 1)) (F 5 (pt + 2))).2.2.2))) H := hP
    have hD : va_D A (mW g h0 a (opI I (opComb (F 0) (F 5 (pt + 1)) (F 5 (pt + 2)))) (va_up F 0 ((opComb (F 0) (F 5 (pt + 1)) (F 5 (pt + 2))).2.2.2))) := hD
    have hop : opDoes (F 0) (F 5 pt) (F 5 (pt + 1)) (F 5 (pt + 2)) = opComb (F 0) (F 5 (pt + 1)) (F 5 (pt + 2)) := by simp only [opDoes, eq_true c_1, if_true, if_false, not_true_eq_false, not_false_eq_true, ite_true, ite_false, reduceIte, Nat.add_zero, Nat.add_sub_cancel]
    have hW1 : (mW g h0 a (opI I (opComb (F 0) (F 5 (pt + 1)) (F 5 (pt + 2)))) (va_up F 0 ((opComb (F 0) (F 5 (pt + 1)) (F 5 (pt + 2))).2.2.2))) = mW g h0 a (opI I (opDoes (F 0) (F 5 pt) (F 5 (pt + 1)) (F 5 (pt + 2)))) (va_up F 0 (opDoes (F 0) (F 5 pt) (F 5 (pt + 1)) (F 5 (pt + 2))).2.2.2) := by
      rw [hop]
    rw [hW1] at hP hD
    exact hm_i hQ hx hb hr hlk rfl () (by rw [hop]) trivial hP hD hS (by decide) (by decide) dX4_does_74
  by_cases c_2 : (F 5 pt) = 1
  · refine h_tsw (x := F 5 pt) (k := 1) (off := 51) (tgt := 75) hx hb dX4_does_24 (by rw [c_2]; decide) (by decide) (by decide) rfl (by decide) ?_
    refine lv_aload_n hx hb dX4_does_75 rfl (lv_at hl 2 rfl) ?_
    refine lv_iload_n hx hb dX4_does_76 rfl (lv_at hl 1 rfl) ?_
    refine lv_iload_n hx hb dX4_does_77 rfl (lv_at hl 0 rfl) ?_
    refine mcV (As := [.int (F 5 (pt + 1)), .int (F 5 (pt + 2))]) (rest := []) (wr := []) (mX4_ties l g E ho h0 a I F (F 5 (pt + 1)) (F 5 (pt + 2)) nt nh nb nc tw hc0) kX4_ties q2445 hx hb hml hown hts hRf hRl ho.1 hE hS hP hD hA [0, 1, 2, 3, 4, 5, 6, 7, 8] [] rfl (by decide) rfl (by decide) (by decide) ⟨Nat.zero_le _, Nat.zero_le _⟩ (va_recv hK hP (ci := 0) (q0 := 0) rfl rfl) hl ⟨rfl, rfl⟩ rfl rfl (Nat.le_of_ble_eq_true rfl) dX4_does_78 (fun _ H locs _ hP hD hS _ _ => ?_)
    have hP : va_P (gD g) Cl (mW g h0 a (opI I (opTie (F 0) (F 5 (pt + 1)) (F 5 (pt + 2)))) (va_up F 0 ((opTie (F 0) (F 5 (pt + 1)) (F 5 (pt + 2))).2.2.2))) H := hP
    have hD : va_D A (mW g h0 a (opI I (opTie (F 0) (F 5 (pt + 1)) (F 5 (pt + 2)))) (va_up F 0 ((opTie (F 0) (F 5 (pt + 1)) (F 5 (pt + 2))).2.2.2))) := hD
    have hop : opDoes (F 0) (F 5 pt) (F 5 (pt + 1)) (F 5 (pt + 2)) = opTie (F 0) (F 5 (pt + 1)) (F 5 (pt + 2)) := by simp only [opDoes, eq_false c_1, eq_true c_2, if_true, if_false, not_true_eq_false, not_false_eq_true, ite_true, ite_false, reduceIte, Nat.add_zero, Nat.add_sub_cancel]
    have hW1 : (mW g h0 a (opI I (opTie (F 0) (F 5 (pt + 1)) (F 5 (pt + 2)))) (va_up F 0 ((opTie (F 0) (F 5 (pt + 1)) (F 5 (pt + 2))).2.2.2))) = mW g h0 a (opI I (opDoes (F 0) (F 5 pt) (F 5 (pt + 1)) (F 5 (pt + 2)))) (va_up F 0 (opDoes (F 0) (F 5 pt) (F 5 (pt + 1)) (F 5 (pt + 2))).2.2.2) := by
      rw [hop]
    rw [hW1] at hP hD
    exact hm_i hQ hx hb hr hlk rfl () (by rw [hop]) trivial hP hD hS (by decide) (by decide) dX4_does_81
  by_cases c_3 : (F 5 pt) = 2
  · refine h_tsw (x := F 5 pt) (k := 2) (off := 58) (tgt := 82) hx hb dX4_does_24 (by rw [c_3]; decide) (by decide) (by decide) rfl (by decide) ?_
    refine lv_aload_n hx hb dX4_does_82 rfl (lv_at hl 2 rfl) ?_
    refine lv_iload_n hx hb dX4_does_83 rfl (lv_at hl 1 rfl) ?_
    refine lv_iload_n hx hb dX4_does_84 rfl (lv_at hl 0 rfl) ?_
    refine mcV (As := [.int (F 5 (pt + 1)), .int (F 5 (pt + 2))]) (rest := []) (wr := []) (mX4_weaves l g E ho h0 a I F (F 5 (pt + 1)) (F 5 (pt + 2)) nt nh nb nc tw hc0) kX4_weaves q2468 hx hb hml hown hts hRf hRl ho.1 hE hS hP hD hA [0, 1, 2, 3, 4, 5, 6, 7, 8] [] rfl (by decide) rfl (by decide) (by decide) ⟨Nat.zero_le _, Nat.zero_le _⟩ (va_recv hK hP (ci := 0) (q0 := 0) rfl rfl) hl ⟨rfl, rfl⟩ rfl rfl (Nat.le_of_ble_eq_true rfl) dX4_does_85 (fun _ H locs _ hP hD hS _ _ => ?_)
    have hP : va_P (gD g) Cl (mW g h0 a (opI I (opWeave (F 0) (F 5 (pt + 1)) (F 5 (pt + 2)))) (va_up F 0 ((opWeave (F 0) (F 5 (pt + 1)) (F 5 (pt + 2))).2.2.2))) H := hP
    have hD : va_D A (mW g h0 a (opI I (opWeave (F 0) (F 5 (pt + 1)) (F 5 (pt + 2)))) (va_up F 0 ((opWeave (F 0) (F 5 (pt + 1)) (F 5 (pt + 2))).2.2.2))) := hD
    have hop : opDoes (F 0) (F 5 pt) (F 5 (pt + 1)) (F 5 (pt + 2)) = opWeave (F 0) (F 5 (pt + 1)) (F 5 (pt + 2)) := by simp only [opDoes, eq_false c_1, eq_false c_2, eq_true c_3, if_true, if_false, not_true_eq_false, not_false_eq_true, ite_true, ite_false, reduceIte, Nat.add_zero, Nat.add_sub_cancel]
    have hW1 : (mW g h0 a (opI I (opWeave (F 0) (F 5 (pt + 1)) (F 5 (pt + 2)))) (va_up F 0 ((opWeave (F 0) (F 5 (pt + 1)) (F 5 (pt + 2))).2.2.2))) = mW g h0 a (opI I (opDoes (F 0) (F 5 pt) (F 5 (pt + 1)) (F 5 (pt + 2)))) (va_up F 0 (opDoes (F 0) (F 5 pt) (F 5 (pt + 1)) (F 5 (pt + 2))).2.2.2) := by
      rw [hop]
    rw [hW1] at hP hD
    exact hm_i hQ hx hb hr hlk rfl () (by rw [hop]) trivial hP hD hS (by decide) (by decide) dX4_does_88
  by_cases c_4 : (F 5 pt) = 3
  · refine h_tsw (x := F 5 pt) (k := 3) (off := 65) (tgt := 89) hx hb dX4_does_24 (by rw [c_4]; decide) (by decide) (by decide) rfl (by decide) ?_
    refine lv_aload_n hx hb dX4_does_89 rfl (lv_at hl 2 rfl) ?_
    refine lv_iload_n hx hb dX4_does_90 rfl (lv_at hl 1 rfl) ?_
    refine lv_iload_n hx hb dX4_does_91 rfl (lv_at hl 0 rfl) ?_
    refine mcV (As := [.int (F 5 (pt + 1)), .int (F 5 (pt + 2))]) (rest := []) (wr := []) (mX4_hairsBow l g E ho h0 a I F (F 5 (pt + 1)) (F 5 (pt + 2)) nt nh nb nc tw hc0) kX4_hairsBow q2490 hx hb hml hown hts hRf hRl ho.1 hE hS hP hD hA [0, 1, 2, 3, 4, 5, 6, 7, 8] [] rfl (by decide) rfl (by decide) (by decide) ⟨Nat.zero_le _, Nat.zero_le _⟩ (va_recv hK hP (ci := 0) (q0 := 0) rfl rfl) hl ⟨rfl, rfl⟩ rfl rfl (Nat.le_of_ble_eq_true rfl) dX4_does_92 (fun _ H locs _ hP hD hS _ _ => ?_)
    have hP : va_P (gD g) Cl (mW g h0 a (opI I (opHair (F 0) (F 5 (pt + 1)) (F 5 (pt + 2)))) (va_up F 0 ((opHair (F 0) (F 5 (pt + 1)) (F 5 (pt + 2))).2.2.2))) H := hP
    have hD : va_D A (mW g h0 a (opI I (opHair (F 0) (F 5 (pt + 1)) (F 5 (pt + 2)))) (va_up F 0 ((opHair (F 0) (F 5 (pt + 1)) (F 5 (pt + 2))).2.2.2))) := hD
    have hop : opDoes (F 0) (F 5 pt) (F 5 (pt + 1)) (F 5 (pt + 2)) = opHair (F 0) (F 5 (pt + 1)) (F 5 (pt + 2)) := by simp only [opDoes, eq_false c_1, eq_false c_2, eq_false c_3, eq_true c_4, if_true, if_false, not_true_eq_false, not_false_eq_true, ite_true, ite_false, reduceIte, Nat.add_zero, Nat.add_sub_cancel]
    have hW1 : (mW g h0 a (opI I (opHair (F 0) (F 5 (pt + 1)) (F 5 (pt + 2)))) (va_up F 0 ((opHair (F 0) (F 5 (pt + 1)) (F 5 (pt + 2))).2.2.2))) = mW g h0 a (opI I (opDoes (F 0) (F 5 pt) (F 5 (pt + 1)) (F 5 (pt + 2)))) (va_up F 0 (opDoes (F 0) (F 5 pt) (F 5 (pt + 1)) (F 5 (pt + 2))).2.2.2) := by
      rw [hop]
    rw [hW1] at hP hD
    exact hm_i hQ hx hb hr hlk rfl () (by rw [hop]) trivial hP hD hS (by decide) (by decide) dX4_does_95
  by_cases c_5 : (F 5 pt) = 4
  · refine h_tsw (x := F 5 pt) (k := 4) (off := 72) (tgt := 96) hx hb dX4_does_24 (by rw [c_5]; decide) (by decide) (by decide) rfl (by decide) ?_
    refine lv_aload_n hx hb dX4_does_96 rfl (lv_at hl 2 rfl) ?_
    refine lv_iload_n hx hb dX4_does_97 rfl (lv_at hl 1 rfl) ?_
    refine lv_iload_n hx hb dX4_does_98 rfl (lv_at hl 0 rfl) ?_
    refine mcV (As := [.int (F 5 (pt + 1)), .int (F 5 (pt + 2))]) (rest := []) (wr := []) (mX4_rosins l g E ho h0 a I F (F 5 (pt + 1)) (F 5 (pt + 2)) nt nh nb nc tw hc0) kX4_rosins q2520 hx hb hml hown hts hRf hRl ho.1 hE hS hP hD hA [0, 1, 2, 3, 4, 5, 6, 7, 8] [] rfl (by decide) rfl (by decide) (by decide) ⟨Nat.zero_le _, Nat.zero_le _⟩ (va_recv hK hP (ci := 0) (q0 := 0) rfl rfl) hl ⟨rfl, rfl⟩ rfl rfl (Nat.le_of_ble_eq_true rfl) dX4_does_99 (fun _ H locs _ hP hD hS _ _ => ?_)
    have hP : va_P (gD g) Cl (mW g h0 a (opI I (opRosin (F 0) (F 5 (pt + 1)) (F 5 (pt + 2)))) (va_up F 0 ((opRosin (F 0) (F 5 (pt + 1)) (F 5 (pt + 2))).2.2.2))) H := hP
    have hD : va_D A (mW g h0 a (opI I (opRosin (F 0) (F 5 (pt + 1)) (F 5 (pt + 2)))) (va_up F 0 ((opRosin (F 0) (F 5 (pt + 1)) (F 5 (pt + 2))).2.2.2))) := hD
    have hop : opDoes (F 0) (F 5 pt) (F 5 (pt + 1)) (F 5 (pt + 2)) = opRosin (F 0) (F 5 (pt + 1)) (F 5 (pt + 2)) := by simp only [opDoes, eq_false c_1, eq_false c_2, eq_false c_3, eq_false c_4, eq_true c_5, if_true, if_false, not_true_eq_false, not_false_eq_true, ite_true, ite_false, reduceIte, Nat.add_zero, Nat.add_sub_cancel]
    have hW1 : (mW g h0 a (opI I (opRosin (F 0) (F 5 (pt + 1)) (F 5 (pt + 2)))) (va_up F 0 ((opRosin (F 0) (F 5 (pt + 1)) (F 5 (pt + 2))).2.2.2))) = mW g h0 a (opI I (opDoes (F 0) (F 5 pt) (F 5 (pt + 1)) (F 5 (pt + 2)))) (va_up F 0 (opDoes (F 0) (F 5 pt) (F 5 (pt + 1)) (F 5 (pt + 2))).2.2.2) := by
      rw [hop]
    rw [hW1] at hP hD
    exact hm_i hQ hx hb hr hlk rfl () (by rw [hop]) trivial hP hD hS (by decide) (by decide) dX4_does_102
  by_cases c_6 : (F 5 pt) = 5
  · refine h_tsw (x := F 5 pt) (k := 5) (off := 79) (tgt := 103) hx hb dX4_does_24 (by rw [c_6]; decide) (by decide) (by decide) rfl (by decide) ?_
    refine lv_aload_n hx hb dX4_does_103 rfl (lv_at hl 2 rfl) ?_
    refine lv_iload_n hx hb dX4_does_104 rfl (lv_at hl 1 rfl) ?_
    refine lv_iload_n hx hb dX4_does_105 rfl (lv_at hl 0 rfl) ?_
    refine mcV (As := [.int (F 5 (pt + 1)), .int (F 5 (pt + 2))]) (rest := []) (wr := []) (mX4_plays l g E ho h0 a I F (F 5 (pt + 1)) (F 5 (pt + 2)) nt nh nb nc tw hc0) kX4_plays q2532 hx hb hml hown hts hRf hRl ho.1 hE hS hP hD hA [0, 1, 2, 3, 4, 5, 6, 7, 8] [] rfl (by decide) rfl (by decide) (by decide) ⟨Nat.zero_le _, Nat.zero_le _⟩ (va_recv hK hP (ci := 0) (q0 := 0) rfl rfl) hl ⟨rfl, rfl⟩ rfl rfl (Nat.le_of_ble_eq_true rfl) dX4_does_106 (fun _ H locs _ hP hD hS _ _ => ?_)
    have hP : va_P (gD g) Cl (mW g h0 a (opI I (opPlay (F 0) (F 5 (pt + 1)) (F 5 (pt + 2)))) (va_up F 0 ((opPlay (F 0) (F 5 (pt + 1)) (F 5 (pt + 2))).2.2.2))) H := hP
    have hD : va_D A (mW g h0 a (opI I (opPlay (F 0) (F 5 (pt + 1)) (F 5 (pt + 2)))) (va_up F 0 ((opPlay (F 0) (F 5 (pt + 1)) (F 5 (pt + 2))).2.2.2))) := hD
    have hop : opDoes (F 0) (F 5 pt) (F 5 (pt + 1)) (F 5 (pt + 2)) = opPlay (F 0) (F 5 (pt + 1)) (F 5 (pt + 2)) := by simp only [opDoes, eq_false c_1, eq_false c_2, eq_false c_3, eq_false c_4, eq_false c_5, eq_true c_6, if_true, if_false, not_true_eq_false, not_false_eq_true, ite_true, ite_false, reduceIte, Nat.add_zero, Nat.add_sub_cancel]
    have hW1 : (mW g h0 a (opI I (opPlay (F 0) (F 5 (pt + 1)) (F 5 (pt + 2)))) (va_up F 0 ((opPlay (F 0) (F 5 (pt + 1)) (F 5 (pt + 2))).2.2.2))) = mW g h0 a (opI I (opDoes (F 0) (F 5 pt) (F 5 (pt + 1)) (F 5 (pt + 2)))) (va_up F 0 (opDoes (F 0) (F 5 pt) (F 5 (pt + 1)) (F 5 (pt + 2))).2.2.2) := by
      rw [hop]
    rw [hW1] at hP hD
    exact hm_i hQ hx hb hr hlk rfl () (by rw [hop]) trivial hP hD hS (by decide) (by decide) dX4_does_109
  by_cases c_7 : (F 5 pt) = 6
  · refine h_tsw (x := F 5 pt) (k := 6) (off := 86) (tgt := 110) hx hb dX4_does_24 (by rw [c_7]; decide) (by decide) (by decide) rfl (by decide) ?_
    refine lv_aload_n hx hb dX4_does_110 rfl (lv_at hl 2 rfl) ?_
    refine lv_iload_n hx hb dX4_does_111 rfl (lv_at hl 1 rfl) ?_
    refine mcV (As := [.int (F 5 (pt + 1))]) (rest := []) (wr := []) (mX4_walks l g E ho h0 a I F (F 5 (pt + 1)) nt nh nb nc tw hc0) kX4_walks q2550 hx hb hml hown hts hRf hRl ho.1 hE hS hP hD hA [0, 1, 2, 3, 4, 5, 6, 7, 8] [] rfl (by decide) rfl (by decide) (by decide) ⟨Nat.zero_le _, Nat.zero_le _⟩ (va_recv hK hP (ci := 0) (q0 := 0) rfl rfl) hl ⟨rfl, rfl⟩ rfl rfl (Nat.le_of_ble_eq_true rfl) dX4_does_112 (fun _ H locs _ hP hD hS _ _ => ?_)
    have hP : va_P (gD g) Cl (mW g h0 a (opI I (opWalk (F 0) (F 5 (pt + 1)))) (va_up F 0 ((opWalk (F 0) (F 5 (pt + 1))).2.2.2))) H := hP
    have hD : va_D A (mW g h0 a (opI I (opWalk (F 0) (F 5 (pt + 1)))) (va_up F 0 ((opWalk (F 0) (F 5 (pt + 1))).2.2.2))) := hD
    have hop : opDoes (F 0) (F 5 pt) (F 5 (pt + 1)) (F 5 (pt + 2)) = opWalk (F 0) (F 5 (pt + 1)) := by simp only [opDoes, eq_false c_1, eq_false c_2, eq_false c_3, eq_false c_4, eq_false c_5, eq_false c_6, eq_true c_7, if_true, if_false, not_true_eq_false, not_false_eq_true, ite_true, ite_false, reduceIte, Nat.add_zero, Nat.add_sub_cancel]
    have hW1 : (mW g h0 a (opI I (opWalk (F 0) (F 5 (pt + 1)))) (va_up F 0 ((opWalk (F 0) (F 5 (pt + 1))).2.2.2))) = mW g h0 a (opI I (opDoes (F 0) (F 5 pt) (F 5 (pt + 1)) (F 5 (pt + 2)))) (va_up F 0 (opDoes (F 0) (F 5 pt) (F 5 (pt + 1)) (F 5 (pt + 2))).2.2.2) := by
      rw [hop]
    rw [hW1] at hP hD
    exact hm_i hQ hx hb hr hlk rfl () (by rw [hop]) trivial hP hD hS (by decide) (by decide) dX4_does_115
  have e_c_1 : (F 5 pt).toInt ≠ (0) := h_ne (y := 0) c_1
  have e_c_2 : (F 5 pt).toInt ≠ (1) := h_ne (y := 1) c_2
  have e_c_3 : (F 5 pt).toInt ≠ (2) := h_ne (y := 2) c_3
  have e_c_4 : (F 5 pt).toInt ≠ (3) := h_ne (y := 3) c_4
  have e_c_5 : (F 5 pt).toInt ≠ (4) := h_ne (y := 4) c_5
  have e_c_6 : (F 5 pt).toInt ≠ (5) := h_ne (y := 5) c_6
  have e_c_7 : (F 5 pt).toInt ≠ (6) := h_ne (y := 6) c_7
  refine lv_tableOut (tgt := 116) hx hb dX4_does_24 (by omega) (by decide) ?_
  refine lv_aload_n hx hb dX4_does_116 rfl (lv_at hl 2 rfl) ?_
  refine lv_iload_n hx hb dX4_does_117 rfl (lv_at hl 1 rfl) ?_
  refine mcV (As := [.int (F 5 (pt + 1))]) (rest := []) (wr := []) (mX4_sells l g E ho h0 a I F (F 5 (pt + 1)) nt nh nb nc tw hc0) kX4_sells q2558 hx hb hml hown hts hRf hRl ho.1 hE hS hP hD hA [0, 1, 2, 3, 4, 5, 6, 7, 8] [] rfl (by decide) rfl (by decide) (by decide) ⟨Nat.zero_le _, Nat.zero_le _⟩ (va_recv hK hP (ci := 0) (q0 := 0) rfl rfl) hl ⟨rfl, rfl⟩ rfl rfl (Nat.le_of_ble_eq_true rfl) dX4_does_118 (fun _ H locs _ hP hD hS _ _ => ?_)
  have hP : va_P (gD g) Cl (mW g h0 a (opI I (opSell (F 0) (F 5 (pt + 1)))) (va_up F 0 ((opSell (F 0) (F 5 (pt + 1))).2.2.2))) H := hP
  have hD : va_D A (mW g h0 a (opI I (opSell (F 0) (F 5 (pt + 1)))) (va_up F 0 ((opSell (F 0) (F 5 (pt + 1))).2.2.2))) := hD
  have hop : opDoes (F 0) (F 5 pt) (F 5 (pt + 1)) (F 5 (pt + 2)) = opSell (F 0) (F 5 (pt + 1)) := by simp only [opDoes, eq_false c_1, eq_false c_2, eq_false c_3, eq_false c_4, eq_false c_5, eq_false c_6, eq_false c_7, if_true, if_false, not_true_eq_false, not_false_eq_true, ite_true, ite_false, reduceIte, Nat.add_zero, Nat.add_sub_cancel]
  have hW1 : (mW g h0 a (opI I (opSell (F 0) (F 5 (pt + 1)))) (va_up F 0 ((opSell (F 0) (F 5 (pt + 1))).2.2.2))) = mW g h0 a (opI I (opDoes (F 0) (F 5 pt) (F 5 (pt + 1)) (F 5 (pt + 2)))) (va_up F 0 (opDoes (F 0) (F 5 pt) (F 5 (pt + 1)) (F 5 (pt + 2))).2.2.2) := by
    rw [hop]
  rw [hW1] at hP hD
  exact hm_i hQ hx hb hr hlk rfl () (by rw [hop]) trivial hP hD hS (by decide) (by decide) dX4_does_121
