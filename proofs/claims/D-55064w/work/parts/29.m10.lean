/-! THE REFERENCE: lines -/
set_option maxRecDepth 100000
/-! the line of the hanks -/
abbrev colS (x : Int32) : Int32 := if x = 0 then 119 else if x = 1 then 98 else if x = 2 then 114 else 109
def lineQ (s f : Nat → Int32) : Nat → lnR
  | 0 => (f, 0)
  | k + 1 => if s (73 + 4 * k + 3) < 0 then wrL (numL (wrL (numL (wrL (if 0 < k then wrL (lineQ s f k) 32 else lineQ s f k) (colS (s (73 + 4 * k)))) (s (73 + 4 * k + 2)).toNatClampNeg) 47) (s (73 + 4 * k + 1)).toNatClampNeg) 42 else numL (wrL (numL (wrL (if 0 < k then wrL (lineQ s f k) 32 else lineQ s f k) (colS (s (73 + 4 * k)))) (s (73 + 4 * k + 2)).toNatClampNeg) 47) (s (73 + 4 * k + 1)).toNatClampNeg
theorem numL_lt {q : lnR} {n v : Nat} (h : q.2 ≤ n) : (numL q v).2 ≤ n + 3 := Nat.le_trans (numL_le q v) (by omega)
theorem wrL_lt {q : lnR} {n : Nat} {c : Int32} (h : q.2 ≤ n) : (wrL q c).2 ≤ n + 1 := Nat.succ_le_succ h

theorem kX4_writes : hkV RX4 yX4_writes cX4_writes 2 none 1 := ⟨q2689, qs59, q78, q2690, rfl, by decide +kernel⟩
set_option maxHeartbeats 4000000 in
theorem mX4_writes (l : Launch) (g : hG) (E : hEnv) (ho : mOk g E) (h0 : Nat) (a : Nat → Nat) (I : Nat → Int32) (F : Nat → Nat → Int32) (ch : Int32) (ln : Nat) (hln : I 12 = nI ln) (hl26 : ln < 260) : MM l yX4_writes cX4_writes 2 none 0 0 0 0 [.ref h0, .int ch] g E (mW g h0 a I F) (S := Unit) (fun _ => none) (fun _ => True) (fun _ => mW g h0 a (lnI I (wrL (F 6, ln) ch)) (lnF F (wrL (F 6, ln) ch))) := by
  refine MM.mk (by decide) (Nat.le_of_ble_eq_true rfl) ?_
  intro p e R s m args below meth c Q A H locs ls hX hRc hRs hP hD hE hS hA hnm hl hQ
  obtain ⟨hx, hb, hr, hlk, hml, hown, hts, hRf, hRl⟩ := hX
  have hown : s.vm.findClass RX4 = some m.cls := hown
  have hK := ho.2 _ _ _ hE
  have hl : lv_has ls 2 [(0, .ref h0), (1, .int ch)] := hl
  refine lv_aload_n hx hb dX4_writes_0 rfl (lv_at hl 0 rfl) ?_
  refine va_get (D := gD g) (ci := 0) (v := .ref (a 7)) (C := RX4) (T := TX4) (N := 21) hx hb hts in_X4 hown hK hP 0 rfl rfl 19 (by decide) (hts _ q2333) (fun _ h9 => h9) rfl dX4_writes_1 ?_
  refine lv_aload_n hx hb dX4_writes_4 rfl (lv_at hl 0 rfl) ?_
  refine va_get (D := gD g) (ci := 0) (v := .int (I 12)) (C := RX4) (T := TX4) (N := 21) hx hb hts in_X4 hown hK hP 0 rfl rfl 20 (by decide) (hts _ q2334) (fun _ h9 => h9) rfl dX4_writes_5 ?_
  refine h_topi (v := nI ln) (hln) ?_
  refine lv_iload_n hx hb dX4_writes_8 rfl (lv_at hl 1 rfl) ?_
  refine h_iast (f := (F 6)) hx hb hK hP hD hS 7 0 rfl rfl ln rfl (by omega) (by decide) dX4_writes_9 (fun H locs hP hD hS => ?_)
  have hP : va_P (gD g) Cl (mW g h0 a I (va_up F 6 (upd (F 6) ln ch))) H := hP
  have hD : va_D A (mW g h0 a I (va_up F 6 (upd (F 6) ln ch))) := hD
  refine lv_aload_n hx hb dX4_writes_10 rfl (lv_at hl 0 rfl) ?_
  refine lv_dup hx hb dX4_writes_11 rfl ?_
  refine va_get (D := gD g) (ci := 0) (v := .int (I 12)) (C := RX4) (T := TX4) (N := 21) hx hb hts in_X4 hown hK hP 0 rfl rfl 20 (by decide) (hts _ q2334) (fun _ h9 => h9) rfl dX4_writes_12 ?_
  refine h_topi (v := nI ln) (hln) ?_
  refine lv_iconst (v := 1) hx hb dX4_writes_15 (by decide) ?_
  refine lv_iadd hx hb dX4_writes_16 ?_
  refine h_topi (v := nI (ln + 1)) (h_nadd (a := ln) (b := 1) (rfl) (rfl)) ?_
  refine va_put (D := gD g) (ci := 0) (v := .int (nI (ln + 1))) (ty := .int) (C := RX4) (T := TX4) (N := 21) hx hb hts in_X4 tyX4 tyX4_ok nmX4 hown hK hP hD hS 0 rfl rfl 20 (by decide) (hts _ q2334) (fun _ h9 => h9) rfl (by decide +kernel) rfl rfl (Nat.le_of_ble_eq_true rfl) dX4_writes_17 (fun H locs hP hD hS => ?_)
  have hP : va_P (gD g) Cl (mW g h0 a (upd I 12 (nI (ln + 1))) (va_up F 6 (upd (F 6) ln ch))) H := hP
  have hD : va_D A (mW g h0 a (upd I 12 (nI (ln + 1))) (va_up F 6 (upd (F 6) ln ch))) := hD
  have hW1 : (mW g h0 a (upd I 12 (nI (ln + 1))) (va_up F 6 (upd (F 6) ln ch))) = mW g h0 a (lnI I (wrL (F 6, ln) ch)) (lnF F (wrL (F 6, ln) ch)) := by simp only [*, if_true, if_false, not_true_eq_false, not_false_eq_true, reduceIte]
  rw [hW1] at hP hD
  exact hm_v hQ hx hb hr hlk () rfl trivial hP hD hS (by decide) (by decide) dX4_writes_20
theorem kX4_number : hkV RX4 yX4_number cX4_number 2 none 1 := ⟨q2693, qs60, q78, q2694, rfl, by decide +kernel⟩
set_option maxHeartbeats 4000000 in
theorem mX4_number1 (l : Launch) (g : hG) (E : hEnv) (ho : mOk g E) (h0 : Nat) (a : Nat → Nat) (I : Nat → Int32) (F : Nat → Nat → Int32) (v : Nat) (ln : Nat) (hln : I 12 = nI ln) (hl26 : ln < 257) (hv : 0 ≤ v ∧ v < 10) : MM l yX4_number cX4_number 2 none 1 21 0 0 [.ref h0, .int (nI v)] g E (mW g h0 a I F) (S := Unit) (fun _ => none) (fun _ => True) (fun _ => mW g h0 a (lnI I (numL (F 6, ln) v)) (lnF F (numL (F 6, ln) v))) := by
  refine MM.mk (by decide) (Nat.le_of_ble_eq_true rfl) ?_
  intro p e R s m args below meth c Q A H locs ls hX hRc hRs hP hD hE hS hA hnm hl hQ
  obtain ⟨hx, hb, hr, hlk, hml, hown, hts, hRf, hRl⟩ := hX
  have hown : s.vm.findClass RX4 = some m.cls := hown
  have hK := ho.2 _ _ _ hE
  have hl : lv_has ls 2 [(0, .ref h0), (1, .int (nI v))] := hl
  obtain ⟨hv1, hv2⟩ := hv
  refine lv_iload_n hx hb dX4_number_0 rfl (lv_at hl 1 rfl) ?_
  refine lv_bipush (v := 10) hx hb dX4_number_1 (by decide) ?_
  refine lv_icmp_lt (tgt := 14) hx hb dX4_number_3 (by decide) (fun c_1 => ?_) (fun c_1 => ?_)
  · refine lv_aload_n hx hb dX4_number_14 rfl (lv_at hl 0 rfl) ?_
    refine lv_bipush (v := 48) hx hb dX4_number_15 (by decide) ?_
    refine lv_iload_n hx hb dX4_number_17 rfl (lv_at hl 1 rfl) ?_
    refine lv_bipush (v := 10) hx hb dX4_number_18 (by decide) ?_
    refine lv_irem hx hb dX4_number_20 (by decide) ?_
    refine h_topi (v := nI (v % 10)) (h_nrem (a := v) (b := 10) (rfl) (rfl) (by omega) (by omega) (by omega)) ?_
    refine lv_iadd hx hb dX4_number_21 ?_
    refine h_topi (v := nI (48 + (v % 10))) (h_nadd (a := 48) (b := v % 10) (rfl) (rfl)) ?_
    refine mcV (As := [.int (nI (48 + (v % 10)))]) (rest := []) (wr := []) (mX4_writes l g E ho h0 a I F (nI (48 + (v % 10))) (((F 6, ln)).2) (by first | exact hln | rfl) (by omega)) kX4_writes q2687 hx hb hml hown hts hRf hRl ho.1 hE hS hP hD hA [0, 1, 2, 3, 4, 5, 6, 7, 8] [] rfl (by decide) rfl (by decide) (by decide) ⟨Nat.zero_le _, Nat.zero_le _⟩ (va_recv hK hP (ci := 0) (q0 := 0) rfl rfl) hl ⟨rfl, rfl⟩ rfl rfl (Nat.le_of_ble_eq_true rfl) dX4_number_22 (fun _ H locs _ hP hD hS _ _ => ?_)
    have hP : va_P (gD g) Cl (mW g h0 a (upd I 12 (nI ((wrL (F 6, ln) (nI (48 + (v % 10)))).2))) (va_up F 6 ((wrL (F 6, ln) (nI (48 + (v % 10)))).1))) H := hP
    have hD : va_D A (mW g h0 a (upd I 12 (nI ((wrL (F 6, ln) (nI (48 + (v % 10)))).2))) (va_up F 6 ((wrL (F 6, ln) (nI (48 + (v % 10)))).1))) := hD
    have hW1 : (mW g h0 a (upd I 12 (nI ((wrL (F 6, ln) (nI (48 + (v % 10)))).2))) (va_up F 6 ((wrL (F 6, ln) (nI (48 + (v % 10)))).1))) = mW g h0 a (lnI I (numL (F 6, ln) v)) (lnF F (numL (F 6, ln) v)) := by rw [numL_1 (v := v) _ (by omega)]
    rw [hW1] at hP hD
    exact hm_v hQ hx hb hr hlk () rfl trivial hP hD hS (by decide) (by decide) dX4_number_25
  exact (show False by have z := nI_lt (a := v) (b := 10) (by omega) (by omega); exact c_1 z).elim
set_option maxHeartbeats 4000000 in
theorem mX4_number2 (l : Launch) (g : hG) (E : hEnv) (ho : mOk g E) (h0 : Nat) (a : Nat → Nat) (I : Nat → Int32) (F : Nat → Nat → Int32) (v : Nat) (ln : Nat) (hln : I 12 = nI ln) (hl26 : ln < 257) (hv : 10 ≤ v ∧ v < 100) : MM l yX4_number cX4_number 2 none 2 42 0 0 [.ref h0, .int (nI v)] g E (mW g h0 a I F) (S := Unit) (fun _ => none) (fun _ => True) (fun _ => mW g h0 a (lnI I (numL (F 6, ln) v)) (lnF F (numL (F 6, ln) v))) := by
  refine MM.mk (by decide) (Nat.le_of_ble_eq_true rfl) ?_
  intro p e R s m args below meth c Q A H locs ls hX hRc hRs hP hD hE hS hA hnm hl hQ
  obtain ⟨hx, hb, hr, hlk, hml, hown, hts, hRf, hRl⟩ := hX
  have hown : s.vm.findClass RX4 = some m.cls := hown
  have hK := ho.2 _ _ _ hE
  have hl : lv_has ls 2 [(0, .ref h0), (1, .int (nI v))] := hl
  obtain ⟨hv1, hv2⟩ := hv
  refine lv_iload_n hx hb dX4_number_0 rfl (lv_at hl 1 rfl) ?_
  refine lv_bipush (v := 10) hx hb dX4_number_1 (by decide) ?_
  refine lv_icmp_lt (tgt := 14) hx hb dX4_number_3 (by decide) (fun c_1 => ?_) (fun c_1 => ?_)
  · exact (show False by have z := nI_le (a := 10) (b := v) (by omega) (by omega); exact Int32.not_lt.mpr z c_1).elim
  refine lv_aload_n hx hb dX4_number_6 rfl (lv_at hl 0 rfl) ?_
  refine lv_iload_n hx hb dX4_number_7 rfl (lv_at hl 1 rfl) ?_
  refine lv_bipush (v := 10) hx hb dX4_number_8 (by decide) ?_
  refine lv_idiv hx hb dX4_number_10 (by decide) ?_
  refine h_topi (v := nI (v / 10)) (h_ndiv (a := v) (b := 10) (rfl) (rfl) (by omega) (by omega) (by omega)) ?_
  refine mcV (As := [.int (nI (v / 10))]) (rest := []) (wr := []) (mX4_number1 l g E ho h0 a I F (v / 10) (((F 6, ln)).2) (by first | exact hln | rfl) (by omega) (⟨by omega, by omega⟩)) kX4_number q2691 hx hb hml hown hts hRf hRl ho.1 hE hS hP hD hA [0, 1, 2, 3, 4, 5, 6, 7, 8] [] rfl (by decide) rfl (by decide) (by decide) ⟨Nat.zero_le _, Nat.zero_le _⟩ (va_recv hK hP (ci := 0) (q0 := 0) rfl rfl) hl ⟨rfl, rfl⟩ rfl rfl (Nat.le_of_ble_eq_true rfl) dX4_number_11 (fun _ H locs _ hP hD hS _ _ => ?_)
  have hP : va_P (gD g) Cl (mW g h0 a (upd I 12 (nI ((numL (F 6, ln) (v / 10)).2))) (va_up F 6 ((numL (F 6, ln) (v / 10)).1))) H := hP
  have hD : va_D A (mW g h0 a (upd I 12 (nI ((numL (F 6, ln) (v / 10)).2))) (va_up F 6 ((numL (F 6, ln) (v / 10)).1))) := hD
  refine lv_aload_n hx hb dX4_number_14 rfl (lv_at hl 0 rfl) ?_
  refine lv_bipush (v := 48) hx hb dX4_number_15 (by decide) ?_
  refine lv_iload_n hx hb dX4_number_17 rfl (lv_at hl 1 rfl) ?_
  refine lv_bipush (v := 10) hx hb dX4_number_18 (by decide) ?_
  refine lv_irem hx hb dX4_number_20 (by decide) ?_
  refine h_topi (v := nI (v % 10)) (h_nrem (a := v) (b := 10) (rfl) (rfl) (by omega) (by omega) (by omega)) ?_
  refine lv_iadd hx hb dX4_number_21 ?_
  refine h_topi (v := nI (48 + (v % 10))) (h_nadd (a := 48) (b := v % 10) (rfl) (rfl)) ?_
  refine mcV (As := [.int (nI (48 + (v % 10)))]) (rest := []) (wr := []) (mX4_writes l g E ho h0 a (upd I 12 (nI ((numL (F 6, ln) (v / 10)).2))) (va_up F 6 ((numL (F 6, ln) (v / 10)).1)) (nI (48 + (v % 10))) ((numL (F 6, ln) (v / 10)).2) (by first | exact hln | rfl) (by have : (numL (F 6, ln) (v / 10)).2 ≤ ln + 3 := numL_le _ _; show (numL (F 6, ln) (v / 10)).2 < 260; omega)) kX4_writes q2687 hx hb hml hown hts hRf hRl ho.1 hE hS hP hD hA [0, 1, 2, 3, 4, 5, 6, 7, 8] [] rfl (by decide) rfl (by decide) (by decide) ⟨Nat.zero_le _, Nat.zero_le _⟩ (va_recv hK hP (ci := 0) (q0 := 0) rfl rfl) hl ⟨rfl, rfl⟩ rfl rfl (Nat.le_of_ble_eq_true rfl) dX4_number_22 (fun _ H locs _ hP hD hS _ _ => ?_)
  have hP : va_P (gD g) Cl (mW g h0 a (upd I 12 (nI ((wrL (numL (F 6, ln) (v / 10)) (nI (48 + (v % 10)))).2))) (va_up F 6 ((wrL (numL (F 6, ln) (v / 10)) (nI (48 + (v % 10)))).1))) H := hP
  have hD : va_D A (mW g h0 a (upd I 12 (nI ((wrL (numL (F 6, ln) (v / 10)) (nI (48 + (v % 10)))).2))) (va_up F 6 ((wrL (numL (F 6, ln) (v / 10)) (nI (48 + (v % 10)))).1))) := hD
  have hW1 : (mW g h0 a (upd I 12 (nI ((wrL (numL (F 6, ln) (v / 10)) (nI (48 + (v % 10)))).2))) (va_up F 6 ((wrL (numL (F 6, ln) (v / 10)) (nI (48 + (v % 10)))).1))) = mW g h0 a (lnI I (numL (F 6, ln) v)) (lnF F (numL (F 6, ln) v)) := by rw [numL_2 (v := v) _ (by omega) (by omega)]
  rw [hW1] at hP hD
  exact hm_v hQ hx hb hr hlk () rfl trivial hP hD hS (by decide) (by decide) dX4_number_25
set_option maxHeartbeats 4000000 in
theorem mX4_number3 (l : Launch) (g : hG) (E : hEnv) (ho : mOk g E) (h0 : Nat) (a : Nat → Nat) (I : Nat → Int32) (F : Nat → Nat → Int32) (v : Nat) (ln : Nat) (hln : I 12 = nI ln) (hl26 : ln < 257) (hv : 100 ≤ v ∧ v < 1000) : MM l yX4_number cX4_number 2 none 3 63 0 0 [.ref h0, .int (nI v)] g E (mW g h0 a I F) (S := Unit) (fun _ => none) (fun _ => True) (fun _ => mW g h0 a (lnI I (numL (F 6, ln) v)) (lnF F (numL (F 6, ln) v))) := by
  refine MM.mk (by decide) (Nat.le_of_ble_eq_true rfl) ?_
  intro p e R s m args below meth c Q A H locs ls hX hRc hRs hP hD hE hS hA hnm hl hQ
  obtain ⟨hx, hb, hr, hlk, hml, hown, hts, hRf, hRl⟩ := hX
  have hown : s.vm.findClass RX4 = some m.cls := hown
  have hK := ho.2 _ _ _ hE
  have hl : lv_has ls 2 [(0, .ref h0), (1, .int (nI v))] := hl
  obtain ⟨hv1, hv2⟩ := hv
  refine lv_iload_n hx hb dX4_number_0 rfl (lv_at hl 1 rfl) ?_
  refine lv_bipush (v := 10) hx hb dX4_number_1 (by decide) ?_
  refine lv_icmp_lt (tgt := 14) hx hb dX4_number_3 (by decide) (fun c_1 => ?_) (fun c_1 => ?_)
  · exact (show False by have z := nI_le (a := 10) (b := v) (by omega) (by omega); exact Int32.not_lt.mpr z c_1).elim
  refine lv_aload_n hx hb dX4_number_6 rfl (lv_at hl 0 rfl) ?_
  refine lv_iload_n hx hb dX4_number_7 rfl (lv_at hl 1 rfl) ?_
  refine lv_bipush (v := 10) hx hb dX4_number_8 (by decide) ?_
  refine lv_idiv hx hb dX4_number_10 (by decide) ?_
  refine h_topi (v := nI (v / 10)) (h_ndiv (a := v) (b := 10) (rfl) (rfl) (by omega) (by omega) (by omega)) ?_
  refine mcV (As := [.int (nI (v / 10))]) (rest := []) (wr := []) (mX4_number2 l g E ho h0 a I F (v / 10) (((F 6, ln)).2) (by first | exact hln | rfl) (by omega) (⟨by omega, by omega⟩)) kX4_number q2691 hx hb hml hown hts hRf hRl ho.1 hE hS hP hD hA [0, 1, 2, 3, 4, 5, 6, 7, 8] [] rfl (by decide) rfl (by decide) (by decide) ⟨Nat.zero_le _, Nat.zero_le _⟩ (va_recv hK hP (ci := 0) (q0 := 0) rfl rfl) hl ⟨rfl, rfl⟩ rfl rfl (Nat.le_of_ble_eq_true rfl) dX4_number_11 (fun _ H locs _ hP hD hS _ _ => ?_)
  have hP : va_P (gD g) Cl (mW g h0 a (upd I 12 (nI ((numL (F 6, ln) (v / 10)).2))) (va_up F 6 ((numL (F 6, ln) (v / 10)).1))) H := hP
  have hD : va_D A (mW g h0 a (upd I 12 (nI ((numL (F 6, ln) (v / 10)).2))) (va_up F 6 ((numL (F 6, ln) (v / 10)).1))) := hD
  refine lv_aload_n hx hb dX4_number_14 rfl (lv_at hl 0 rfl) ?_
  refine lv_bipush (v := 48) hx hb dX4_number_15 (by decide) ?_
  refine lv_iload_n hx hb dX4_number_17 rfl (lv_at hl 1 rfl) ?_
  refine lv_bipush (v := 10) hx hb dX4_number_18 (by decide) ?_
  refine lv_irem hx hb dX4_number_20 (by decide) ?_
  refine h_topi (v := nI (v % 10)) (h_nrem (a := v) (b := 10) (rfl) (rfl) (by omega) (by omega) (by omega)) ?_
  refine lv_iadd hx hb dX4_number_21 ?_
  refine h_topi (v := nI (48 + (v % 10))) (h_nadd (a := 48) (b := v % 10) (rfl) (rfl)) ?_
  refine mcV (As := [.int (nI (48 + (v % 10)))]) (rest := []) (wr := []) (mX4_writes l g E ho h0 a (upd I 12 (nI ((numL (F 6, ln) (v / 10)).2))) (va_up F 6 ((numL (F 6, ln) (v / 10)).1)) (nI (48 + (v % 10))) ((numL (F 6, ln) (v / 10)).2) (by first | exact hln | rfl) (by have : (numL (F 6, ln) (v / 10)).2 ≤ ln + 3 := numL_le _ _; show (numL (F 6, ln) (v / 10)).2 < 260; omega)) kX4_writes q2687 hx hb hml hown hts hRf hRl ho.1 hE hS hP hD hA [0, 1, 2, 3, 4, 5, 6, 7, 8] [] rfl (by decide) rfl (by decide) (by decide) ⟨Nat.zero_le _, Nat.zero_le _⟩ (va_recv hK hP (ci := 0) (q0 := 0) rfl rfl) hl ⟨rfl, rfl⟩ rfl rfl (Nat.le_of_ble_eq_true rfl) dX4_number_22 (fun _ H locs _ hP hD hS _ _ => ?_)
  have hP : va_P (gD g) Cl (mW g h0 a (upd I 12 (nI ((wrL (numL (F 6, ln) (v / 10)) (nI (48 + (v % 10)))).2))) (va_up F 6 ((wrL (numL (F 6, ln) (v / 10)) (nI (48 + (v % 10)))).1))) H := hP
  have hD : va_D A (mW g h0 a (upd I 12 (nI ((wrL (numL (F 6, ln) (v / 10)) (nI (48 + (v % 10)))).2))) (va_up F 6 ((wrL (numL (F 6, ln) (v / 10)) (nI (48 + (v % 10)))).1))) := hD
  have hW1 : (mW g h0 a (upd I 12 (nI ((wrL (numL (F 6, ln) (v / 10)) (nI (48 + (v % 10)))).2))) (va_up F 6 ((wrL (numL (F 6, ln) (v / 10)) (nI (48 + (v % 10)))).1))) = mW g h0 a (lnI I (numL (F 6, ln) v)) (lnF F (numL (F 6, ln) v)) := by rw [numL_2 (v := v) _ (by omega) (by omega)]
  rw [hW1] at hP hD
  exact hm_v hQ hx hb hr hlk () rfl trivial hP hD hS (by decide) (by decide) dX4_number_25
set_option maxHeartbeats 4000000 in
theorem mX4_number1b (l : Launch) (g : hG) (E : hEnv) (ho : mOk g E) (h0 : Nat) (a : Nat → Nat) (I : Nat → Int32) (F : Nat → Nat → Int32) (v : Nat) (ln : Nat) (hln : I 12 = nI ln) (hl26 : ln < 257) (hv : 0 ≤ v ∧ v < 10) : MM l yX4_number cX4_number 2 none 3 63 0 0 [.ref h0, .int (nI v)] g E (mW g h0 a I F) (S := Unit) (fun _ => none) (fun _ => True) (fun _ => mW g h0 a (lnI I (numL (F 6, ln) v)) (lnF F (numL (F 6, ln) v))) := by
  refine MM.mk (by decide) (Nat.le_of_ble_eq_true rfl) ?_
  intro p e R s m args below meth c Q A H locs ls hX hRc hRs hP hD hE hS hA hnm hl hQ
  obtain ⟨hx, hb, hr, hlk, hml, hown, hts, hRf, hRl⟩ := hX
  have hown : s.vm.findClass RX4 = some m.cls := hown
  have hK := ho.2 _ _ _ hE
  have hl : lv_has ls 2 [(0, .ref h0), (1, .int (nI v))] := hl
  obtain ⟨hv1, hv2⟩ := hv
  refine lv_iload_n hx hb dX4_number_0 rfl (lv_at hl 1 rfl) ?_
  refine lv_bipush (v := 10) hx hb dX4_number_1 (by decide) ?_
  refine lv_icmp_lt (tgt := 14) hx hb dX4_number_3 (by decide) (fun c_1 => ?_) (fun c_1 => ?_)
  · refine lv_aload_n hx hb dX4_number_14 rfl (lv_at hl 0 rfl) ?_
    refine lv_bipush (v := 48) hx hb dX4_number_15 (by decide) ?_
    refine lv_iload_n hx hb dX4_number_17 rfl (lv_at hl 1 rfl) ?_
    refine lv_bipush (v := 10) hx hb dX4_number_18 (by decide) ?_
    refine lv_irem hx hb dX4_number_20 (by decide) ?_
    refine h_topi (v := nI (v % 10)) (h_nrem (a := v) (b := 10) (rfl) (rfl) (by omega) (by omega) (by omega)) ?_
    refine lv_iadd hx hb dX4_number_21 ?_
    refine h_topi (v := nI (48 + (v % 10))) (h_nadd (a := 48) (b := v % 10) (rfl) (rfl)) ?_
    refine mcV (As := [.int (nI (48 + (v % 10)))]) (rest := []) (wr := []) (mX4_writes l g E ho h0 a I F (nI (48 + (v % 10))) (((F 6, ln)).2) (by first | exact hln | rfl) (by omega)) kX4_writes q2687 hx hb hml hown hts hRf hRl ho.1 hE hS hP hD hA [0, 1, 2, 3, 4, 5, 6, 7, 8] [] rfl (by decide) rfl (by decide) (by decide) ⟨Nat.zero_le _, Nat.zero_le _⟩ (va_recv hK hP (ci := 0) (q0 := 0) rfl rfl) hl ⟨rfl, rfl⟩ rfl rfl (Nat.le_of_ble_eq_true rfl) dX4_number_22 (fun _ H locs _ hP hD hS _ _ => ?_)
    have hP : va_P (gD g) Cl (mW g h0 a (upd I 12 (nI ((wrL (F 6, ln) (nI (48 + (v % 10)))).2))) (va_up F 6 ((wrL (F 6, ln) (nI (48 + (v % 10)))).1))) H := hP
    have hD : va_D A (mW g h0 a (upd I 12 (nI ((wrL (F 6, ln) (nI (48 + (v % 10)))).2))) (va_up F 6 ((wrL (F 6, ln) (nI (48 + (v % 10)))).1))) := hD
    have hW1 : (mW g h0 a (upd I 12 (nI ((wrL (F 6, ln) (nI (48 + (v % 10)))).2))) (va_up F 6 ((wrL (F 6, ln) (nI (48 + (v % 10)))).1))) = mW g h0 a (lnI I (numL (F 6, ln) v)) (lnF F (numL (F 6, ln) v)) := by rw [numL_1 (v := v) _ (by omega)]
    rw [hW1] at hP hD
    exact hm_v hQ hx hb hr hlk () rfl trivial hP hD hS (by decide) (by decide) dX4_number_25
  exact (show False by have z := nI_lt (a := v) (b := 10) (by omega) (by omega); exact c_1 z).elim
set_option maxHeartbeats 4000000 in
theorem mX4_number2b (l : Launch) (g : hG) (E : hEnv) (ho : mOk g E) (h0 : Nat) (a : Nat → Nat) (I : Nat → Int32) (F : Nat → Nat → Int32) (v : Nat) (ln : Nat) (hln : I 12 = nI ln) (hl26 : ln < 257) (hv : 10 ≤ v ∧ v < 100) : MM l yX4_number cX4_number 2 none 3 63 0 0 [.ref h0, .int (nI v)] g E (mW g h0 a I F) (S := Unit) (fun _ => none) (fun _ => True) (fun _ => mW g h0 a (lnI I (numL (F 6, ln) v)) (lnF F (numL (F 6, ln) v))) := by
  refine MM.mk (by decide) (Nat.le_of_ble_eq_true rfl) ?_
  intro p e R s m args below meth c Q A H locs ls hX hRc hRs hP hD hE hS hA hnm hl hQ
  obtain ⟨hx, hb, hr, hlk, hml, hown, hts, hRf, hRl⟩ := hX
  have hown : s.vm.findClass RX4 = some m.cls := hown
  have hK := ho.2 _ _ _ hE
  have hl : lv_has ls 2 [(0, .ref h0), (1, .int (nI v))] := hl
  obtain ⟨hv1, hv2⟩ := hv
  refine lv_iload_n hx hb dX4_number_0 rfl (lv_at hl 1 rfl) ?_
  refine lv_bipush (v := 10) hx hb dX4_number_1 (by decide) ?_
  refine lv_icmp_lt (tgt := 14) hx hb dX4_number_3 (by decide) (fun c_1 => ?_) (fun c_1 => ?_)
  · exact (show False by have z := nI_le (a := 10) (b := v) (by omega) (by omega); exact Int32.not_lt.mpr z c_1).elim
  refine lv_aload_n hx hb dX4_number_6 rfl (lv_at hl 0 rfl) ?_
  refine lv_iload_n hx hb dX4_number_7 rfl (lv_at hl 1 rfl) ?_
  refine lv_bipush (v := 10) hx hb dX4_number_8 (by decide) ?_
  refine lv_idiv hx hb dX4_number_10 (by decide) ?_
  refine h_topi (v := nI (v / 10)) (h_ndiv (a := v) (b := 10) (rfl) (rfl) (by omega) (by omega) (by omega)) ?_
  refine mcV (As := [.int (nI (v / 10))]) (rest := []) (wr := []) (mX4_number1 l g E ho h0 a I F (v / 10) (((F 6, ln)).2) (by first | exact hln | rfl) (by omega) (⟨by omega, by omega⟩)) kX4_number q2691 hx hb hml hown hts hRf hRl ho.1 hE hS hP hD hA [0, 1, 2, 3, 4, 5, 6, 7, 8] [] rfl (by decide) rfl (by decide) (by decide) ⟨Nat.zero_le _, Nat.zero_le _⟩ (va_recv hK hP (ci := 0) (q0 := 0) rfl rfl) hl ⟨rfl, rfl⟩ rfl rfl (Nat.le_of_ble_eq_true rfl) dX4_number_11 (fun _ H locs _ hP hD hS _ _ => ?_)
  have hP : va_P (gD g) Cl (mW g h0 a (upd I 12 (nI ((numL (F 6, ln) (v / 10)).2))) (va_up F 6 ((numL (F 6, ln) (v / 10)).1))) H := hP
  have hD : va_D A (mW g h0 a (upd I 12 (nI ((numL (F 6, ln) (v / 10)).2))) (va_up F 6 ((numL (F 6, ln) (v / 10)).1))) := hD
  refine lv_aload_n hx hb dX4_number_14 rfl (lv_at hl 0 rfl) ?_
  refine lv_bipush (v := 48) hx hb dX4_number_15 (by decide) ?_
  refine lv_iload_n hx hb dX4_number_17 rfl (lv_at hl 1 rfl) ?_
  refine lv_bipush (v := 10) hx hb dX4_number_18 (by decide) ?_
  refine lv_irem hx hb dX4_number_20 (by decide) ?_
  refine h_topi (v := nI (v % 10)) (h_nrem (a := v) (b := 10) (rfl) (rfl) (by omega) (by omega) (by omega)) ?_
  refine lv_iadd hx hb dX4_number_21 ?_
  refine h_topi (v := nI (48 + (v % 10))) (h_nadd (a := 48) (b := v % 10) (rfl) (rfl)) ?_
  refine mcV (As := [.int (nI (48 + (v % 10)))]) (rest := []) (wr := []) (mX4_writes l g E ho h0 a (upd I 12 (nI ((numL (F 6, ln) (v / 10)).2))) (va_up F 6 ((numL (F 6, ln) (v / 10)).1)) (nI (48 + (v % 10))) ((numL (F 6, ln) (v / 10)).2) (by first | exact hln | rfl) (by have : (numL (F 6, ln) (v / 10)).2 ≤ ln + 3 := numL_le _ _; show (numL (F 6, ln) (v / 10)).2 < 260; omega)) kX4_writes q2687 hx hb hml hown hts hRf hRl ho.1 hE hS hP hD hA [0, 1, 2, 3, 4, 5, 6, 7, 8] [] rfl (by decide) rfl (by decide) (by decide) ⟨Nat.zero_le _, Nat.zero_le _⟩ (va_recv hK hP (ci := 0) (q0 := 0) rfl rfl) hl ⟨rfl, rfl⟩ rfl rfl (Nat.le_of_ble_eq_true rfl) dX4_number_22 (fun _ H locs _ hP hD hS _ _ => ?_)
  have hP : va_P (gD g) Cl (mW g h0 a (upd I 12 (nI ((wrL (numL (F 6, ln) (v / 10)) (nI (48 + (v % 10)))).2))) (va_up F 6 ((wrL (numL (F 6, ln) (v / 10)) (nI (48 + (v % 10)))).1))) H := hP
  have hD : va_D A (mW g h0 a (upd I 12 (nI ((wrL (numL (F 6, ln) (v / 10)) (nI (48 + (v % 10)))).2))) (va_up F 6 ((wrL (numL (F 6, ln) (v / 10)) (nI (48 + (v % 10)))).1))) := hD
  have hW1 : (mW g h0 a (upd I 12 (nI ((wrL (numL (F 6, ln) (v / 10)) (nI (48 + (v % 10)))).2))) (va_up F 6 ((wrL (numL (F 6, ln) (v / 10)) (nI (48 + (v % 10)))).1))) = mW g h0 a (lnI I (numL (F 6, ln) v)) (lnF F (numL (F 6, ln) v)) := by rw [numL_2 (v := v) _ (by omega) (by omega)]
  rw [hW1] at hP hD
  exact hm_v hQ hx hb hr hlk () rfl trivial hP hD hS (by decide) (by decide) dX4_number_25
theorem mX4_numberA (l : Launch) (g : hG) (E : hEnv) (ho : mOk g E) (h0 : Nat) (a : Nat → Nat) (I : Nat → Int32) (F : Nat → Nat → Int32) (v : Nat) (ln : Nat) (hln : I 12 = nI ln) (hl26 : ln < 257) (hv : v < 1000) : MM l yX4_number cX4_number 2 none 3 63 0 0 [.ref h0, .int (nI v)] g E (mW g h0 a I F) (S := Unit) (fun _ => none) (fun _ => True) (fun _ => mW g h0 a (lnI I (numL (F 6, ln) v)) (lnF F (numL (F 6, ln) v))) := by
  by_cases q : v < 10
  · exact mX4_number1b l g E ho h0 a I F v ln hln hl26 ⟨by omega, q⟩
  · by_cases q2 : v < 100
    · exact mX4_number2b l g E ho h0 a I F v ln hln hl26 ⟨by omega, q2⟩
    · exact mX4_number3 l g E ho h0 a I F v ln hln hl26 ⟨by omega, hv⟩
theorem kX4_line : hkV RX4 yX4_line cX4_line 3 (some .int) 0 := ⟨q2684, q2685, q78, q2686, rfl, by decide +kernel⟩
set_option maxHeartbeats 4000000 in
theorem mX4_line (l : Launch) (g : hG) (E : hEnv) (ho : mOk g E) (h0 : Nat) (a : Nat → Nat) (I : Nat → Int32) (F : Nat → Nat → Int32) (nt : Nat) (nh : Nat) (nb : Nat) (nc : Nat) (tw : Nat) (hc : Cn (F 0) nt nh nb nc tw) (hhr : ∀ j : Nat, j < nh → ∃ h l9 : Nat, h < 1000 ∧ F 0 (73 + 4 * j + 2) = nI h ∧ l9 < 1000 ∧ F 0 (73 + 4 * j + 1) = nI l9) : MM l yX4_line cX4_line 3 (some .int) 4 84 0 0 [.ref h0] g E (mW g h0 a I F) (S := Unit) (fun _ => (some (.int (nI ((lineQ (F 0) (F 6) nh).2))))) (fun _ => True) (fun _ => mW g h0 a (lnI (upd I 1 0) (lineQ (F 0) (F 6) nh)) (lnF F (lineQ (F 0) (F 6) nh))) := by
  refine MM.mk (by decide) (Nat.le_of_ble_eq_true rfl) ?_
  intro p e R s m args below meth c Q A H locs ls hX hRc hRs hP hD hE hS hA hnm hl hQ
  obtain ⟨hx, hb, hr, hlk, hml, hown, hts, hRf, hRl⟩ := hX
  have hown : s.vm.findClass RX4 = some m.cls := hown
  have hK := ho.2 _ _ _ hE
  have hl : lv_has ls 3 [(0, .ref h0)] := hl
  have hc0 := hc
  obtain ⟨htw, htw6, ht, ht10, hh, hh20, hb6, hb6l, hk5, hk5l⟩ := hc
  have htc : (nI nt).toNatClampNeg = nt := nI_clamp (by omega)
  have hhc : (nI nh).toNatClampNeg = nh := nI_clamp (by omega)
  have hbc : (nI nb).toNatClampNeg = nb := nI_clamp (by omega)
  have hkc : (nI nc).toNatClampNeg = nc := nI_clamp (by omega)
  have htwc : (nI tw).toNatClampNeg = tw := nI_clamp (by omega)
  refine lv_aload_n hx hb dX4_line_0 rfl (lv_at hl 0 rfl) ?_
  refine lv_iconst (v := 0) hx hb dX4_line_1 (by decide) ?_
  refine va_put (D := gD g) (ci := 0) (v := .int 0) (ty := .int) (C := RX4) (T := TX4) (N := 21) hx hb hts in_X4 tyX4 tyX4_ok nmX4 hown hK hP hD hS 0 rfl rfl 5 (by decide) (hts _ q2319) (fun _ h9 => h9) rfl (by decide +kernel) rfl rfl (Nat.le_of_ble_eq_true rfl) dX4_line_2 (fun H locs hP hD hS => ?_)
  have hP : va_P (gD g) Cl (mW g h0 a (upd I 1 0) F) H := hP
  have hD : va_D A (mW g h0 a (upd I 1 0) F) := hD
  refine lv_aload_n hx hb dX4_line_5 rfl (lv_at hl 0 rfl) ?_
  refine lv_iconst (v := 0) hx hb dX4_line_6 (by decide) ?_
  refine va_put (D := gD g) (ci := 0) (v := .int 0) (ty := .int) (C := RX4) (T := TX4) (N := 21) hx hb hts in_X4 tyX4 tyX4_ok nmX4 hown hK hP hD hS 0 rfl rfl 20 (by decide) (hts _ q2334) (fun _ h9 => h9) rfl (by decide +kernel) rfl rfl (Nat.le_of_ble_eq_true rfl) dX4_line_7 (fun H locs hP hD hS => ?_)
  have hP : va_P (gD g) Cl (mW g h0 a (upd (upd I 1 0) 12 0) F) H := hP
  have hD : va_D A (mW g h0 a (upd (upd I 1 0) 12 0) F) := hD
  refine lv_iconst (v := 0) hx hb dX4_line_10 (by decide) ?_
  refine lv_istore_n (lv' := [(1, .int 0), (0, .ref h0)]) hx hb dX4_line_11 rfl hl (by decide) rfl (fun ls hl => ?_)
  have loop_12 : ∀ (k : Nat) (i : Nat) (q : lnR), (nh < i + k ∧ i ≤ nh ∧ q = lineQ (F 0) (F 6) i ∧ q.2 ≤ 10 * i) → ∀ (H : Heap) (locs : List Loc), va_P (gD g) Cl (mW g h0 a (upd (upd I 1 0) 12 (nI q.2)) (va_up F 6 q.1)) H → va_D A (mW g h0 a (upd (upd I 1 0) 12 (nI q.2)) (va_up F 6 q.1)) → va_S A s.heap H locs → ∀ (ls : Array Slot), lv_has ls 3 [(1, .int (nI i)), (0, .ref h0)] → W p l e R s m args below meth c H locs 0 0 Q (F0 m 12 ls []) := by
    intro k
    induction k with
    | zero =>
      intro i q hi H locs hP hD hS ls hl
      exact absurd hi.1 (by omega)
    | succ k ih_12 =>
      intro i q hi H locs hP hD hS ls hl
      obtain ⟨hi1, hi2, hi3, hi4⟩ := hi
      refine lv_iload_n hx hb dX4_line_12 rfl (lv_at hl 0 rfl) ?_
      refine lv_aload_n hx hb dX4_line_13 rfl (lv_at hl 1 rfl) ?_
      refine va_get (D := gD g) (ci := 0) (v := .ref (a 0)) (C := RX4) (T := TX4) (N := 21) hx hb hts in_X4 hown hK hP 0 rfl rfl 0 (by decide) (hts _ q2314) (fun _ h9 => h9) rfl dX4_line_14 ?_
      refine lv_iconst (v := 4) hx hb dX4_line_17 (by decide) ?_
      refine h_iald (f := (F 0)) hx hb hK hP 1 0 rfl rfl 4 rfl (by decide) (by decide) dX4_line_18 ?_
      refine h_topi (v := nI nh) (hh) ?_
      refine lv_icmp_ge (tgt := 121) hx hb dX4_line_19 (by decide) (fun c_1 => ?_) (fun c_1 => ?_)
      · have hiq : i = nh := by
          rcases Nat.lt_or_ge i nh with z | z
          · exact absurd c_1 (nI_ge (a := i) (b := nh) z (by first | decide | omega))
          · omega
        rw [hiq] at hi3
        refine lv_aload_n hx hb dX4_line_121 rfl (lv_at hl 1 rfl) ?_
        refine va_get (D := gD g) (ci := 0) (v := .int (nI q.2)) (C := RX4) (T := TX4) (N := 21) hx hb hts in_X4 hown hK hP 0 rfl rfl 20 (by decide) (hts _ q2334) (fun _ h9 => h9) rfl dX4_line_122 ?_
        have hW1 : (mW g h0 a (upd (upd I 1 0) 12 (nI q.2)) (va_up F 6 q.1)) = mW g h0 a (lnI (upd I 1 0) (lineQ (F 0) (F 6) nh)) (lnF F (lineQ (F 0) (F 6) nh)) := by rw [hi3]
        rw [hW1] at hP hD
        exact hm_i hQ hx hb hr hlk rfl () (by rw [hi3]) trivial hP hD hS (by decide) (by decide) dX4_line_125
      have hlt : i < nh := by
        rcases Nat.lt_or_ge i nh with z | z
        · exact z
        · exact absurd (nI_le (a := nh) (b := i) z (by omega)) c_1
      obtain ⟨hh9, hl9, hhb, hhn, hlb, hln9⟩ := hhr i hlt
      have hhe : (F 0 (73 + 4 * i + 2)).toNatClampNeg = hh9 := by rw [hhn]; exact nI_clamp (by omega)
      have hle : (F 0 (73 + 4 * i + 1)).toNatClampNeg = hl9 := by rw [hln9]; exact nI_clamp (by omega)
      refine lv_aload_n hx hb dX4_line_22 rfl (lv_at hl 1 rfl) ?_
      refine lv_iload_n hx hb dX4_line_23 rfl (lv_at hl 0 rfl) ?_
      refine lv_iconst (v := 0) hx hb dX4_line_24 (by decide) ?_
      refine rcV (As := [.int (nI i), .int 0]) (rest := []) (st1 := [.int (F 0 (73 + 4 * i))]) (mX4_ofHank l g E ho h0 a (upd (upd I 1 0) 12 (nI q.2)) (va_up F 6 q.1) i 0 (by omega)) kX4_ofHank q2453 hx hb hml hown hts hRf hRl ho.1 hE hS hP (va_recv hK hP (ci := 0) (q0 := 0) rfl rfl) ⟨Nat.zero_le _, Nat.zero_le _⟩ hl ⟨rfl, rfl⟩ rfl rfl (Nat.le_of_ble_eq_true rfl) rfl dX4_line_25 ?_
      refine lv_istore_n (lv' := [(2, .int (F 0 (73 + 4 * i))), (1, .int (nI i)), (0, .ref h0)]) hx hb dX4_line_28 rfl hl (by decide) rfl (fun ls hl => ?_)
      refine lv_iload_n hx hb dX4_line_29 rfl (lv_at hl 1 rfl) ?_
      refine lv_if_le (tgt := 39) hx hb dX4_line_30 (by decide) (fun c_2 => ?_) (fun c_2 => ?_)
      · have hi0 : ¬ 0 < i := fun z => absurd (nI_lt (a := 0) (b := i) z (by omega)) (Int32.not_lt.mpr c_2)
        refine lv_aload_n hx hb dX4_line_39 rfl (lv_at hl 2 rfl) ?_
        refine lv_iload_n hx hb dX4_line_40 rfl (lv_at hl 0 rfl) ?_
        refine h_join (J := 71) (v := if (F 0 (73 + 4 * i)) = 0 then 119 else (if (F 0 (73 + 4 * i)) = 1 then 98 else (if (F 0 (73 + 4 * i)) = 2 then 114 else 109))) (rest := [.ref h0]) ?_ ?_
        rotate_left
        · intro hJ
          refine lv_if_ne (tgt := 49) hx hb dX4_line_41 (by decide) (fun c_3 => ?_) (fun c_3 => ?_)
          · refine lv_iload_n hx hb dX4_line_49 rfl (lv_at hl 0 rfl) ?_
            refine lv_iconst (v := 1) hx hb dX4_line_50 (by decide) ?_
            refine h_join (J := 71) (v := if (F 0 (73 + 4 * i)) = 1 then 98 else (if (F 0 (73 + 4 * i)) = 2 then 114 else 109)) (rest := [.ref h0]) ?_ ?_
            rotate_left
            · intro hJ
              refine lv_icmp_ne (tgt := 59) hx hb dX4_line_51 (by decide) (fun c_4 => ?_) (fun c_4 => ?_)
              · refine lv_iload_n hx hb dX4_line_59 rfl (lv_at hl 0 rfl) ?_
                refine lv_iconst (v := 2) hx hb dX4_line_60 (by decide) ?_
                refine h_join (J := 71) (v := if (F 0 (73 + 4 * i)) = 2 then 114 else 109) (rest := [.ref h0]) ?_ ?_
                rotate_left
                · intro hJ
                  refine lv_icmp_ne (tgt := 69) hx hb dX4_line_61 (by decide) (fun c_5 => ?_) (fun c_5 => ?_)
                  · refine lv_bipush (v := 109) hx hb dX4_line_69 (by decide) ?_
                    exact h_topi (if_neg c_5).symm hJ
                  refine lv_bipush (v := 114) hx hb dX4_line_64 (by decide) ?_
                  refine lv_goto (tgt := 71) hx hb dX4_line_66 (by decide) ?_
                  exact h_topi (if_pos c_5).symm hJ
                exact h_topi (if_neg c_4).symm hJ
              refine lv_bipush (v := 98) hx hb dX4_line_54 (by decide) ?_
              refine lv_goto (tgt := 71) hx hb dX4_line_56 (by decide) ?_
              exact h_topi (if_pos c_4).symm hJ
            exact h_topi (if_neg c_3).symm hJ
          refine lv_bipush (v := 119) hx hb dX4_line_44 (by decide) ?_
          refine lv_goto (tgt := 71) hx hb dX4_line_46 (by decide) ?_
          exact h_topi (if_pos c_3).symm hJ
        refine mcV (As := [.int (if (F 0 (73 + 4 * i)) = 0 then 119 else (if (F 0 (73 + 4 * i)) = 1 then 98 else (if (F 0 (73 + 4 * i)) = 2 then 114 else 109)))]) (rest := []) (wr := []) (mX4_writes l g E ho h0 a (upd (upd I 1 0) 12 (nI q.2)) (va_up F 6 q.1) (if (F 0 (73 + 4 * i)) = 0 then 119 else (if (F 0 (73 + 4 * i)) = 1 then 98 else (if (F 0 (73 + 4 * i)) = 2 then 114 else 109))) ((q).2) (by first | exact hln | rfl) (by have := (show (q).2 ≤ 10 * i + 20 from Nat.le_trans hi4 (by omega)); omega)) kX4_writes q2687 hx hb hml hown hts hRf hRl ho.1 hE hS hP hD hA [0, 1, 2, 3, 4, 5, 6, 7, 8] [] rfl (by decide) rfl (by decide) (by decide) ⟨Nat.zero_le _, Nat.zero_le _⟩ (va_recv hK hP (ci := 0) (q0 := 0) rfl rfl) hl ⟨rfl, rfl⟩ rfl rfl (Nat.le_of_ble_eq_true rfl) dX4_line_71 (fun _ H locs _ hP hD hS _ _ => ?_)
        have hP : va_P (gD g) Cl (mW g h0 a (upd (upd I 1 0) 12 (nI ((wrL q (if (F 0 (73 + 4 * i)) = 0 then 119 else (if (F 0 (73 + 4 * i)) = 1 then 98 else (if (F 0 (73 + 4 * i)) = 2 then 114 else 109)))).2))) (va_up F 6 ((wrL q (if (F 0 (73 + 4 * i)) = 0 then 119 else (if (F 0 (73 + 4 * i)) = 1 then 98 else (if (F 0 (73 + 4 * i)) = 2 then 114 else 109)))).1))) H := hP
        have hD : va_D A (mW g h0 a (upd (upd I 1 0) 12 (nI ((wrL q (if (F 0 (73 + 4 * i)) = 0 then 119 else (if (F 0 (73 + 4 * i)) = 1 then 98 else (if (F 0 (73 + 4 * i)) = 2 then 114 else 109)))).2))) (va_up F 6 ((wrL q (if (F 0 (73 + 4 * i)) = 0 then 119 else (if (F 0 (73 + 4 * i)) = 1 then 98 else (if (F 0 (73 + 4 * i)) = 2 then 114 else 109)))).1))) := hD
        refine lv_aload_n hx hb dX4_line_74 rfl (lv_at hl 2 rfl) ?_
        refine lv_aload_n hx hb dX4_line_75 rfl (lv_at hl 2 rfl) ?_
        refine lv_iload_n hx hb dX4_line_76 rfl (lv_at hl 1 rfl) ?_
        refine lv_iconst (v := 2) hx hb dX4_line_77 (by decide) ?_
        refine rcV (As := [.int (nI i), .int 2]) (rest := [.ref h0]) (st1 := [.int (F 0 (73 + 4 * i + 2)), .ref h0]) (mX4_ofHank l g E ho h0 a (upd (upd I 1 0) 12 (nI ((wrL q (if (F 0 (73 + 4 * i)) = 0 then 119 else (if (F 0 (73 + 4 * i)) = 1 then 98 else (if (F 0 (73 + 4 * i)) = 2 then 114 else 109)))).2))) (va_up F 6 ((wrL q (if (F 0 (73 + 4 * i)) = 0 then 119 else (if (F 0 (73 + 4 * i)) = 1 then 98 else (if (F 0 (73 + 4 * i)) = 2 then 114 else 109)))).1)) i 2 (by omega)) kX4_ofHank q2453 hx hb hml hown hts hRf hRl ho.1 hE hS hP (va_recv hK hP (ci := 0) (q0 := 0) rfl rfl) ⟨Nat.zero_le _, Nat.zero_le _⟩ hl ⟨rfl, rfl⟩ rfl rfl (Nat.le_of_ble_eq_true rfl) rfl dX4_line_78 ?_
        refine h_topi (v := nI hh9) (hhn) ?_
        refine mcV (As := [.int (nI hh9)]) (rest := []) (wr := []) (mX4_numberA l g E ho h0 a (upd (upd I 1 0) 12 (nI ((wrL q (if (F 0 (73 + 4 * i)) = 0 then 119 else (if (F 0 (73 + 4 * i)) = 1 then 98 else (if (F 0 (73 + 4 * i)) = 2 then 114 else 109)))).2))) (va_up F 6 ((wrL q (if (F 0 (73 + 4 * i)) = 0 then 119 else (if (F 0 (73 + 4 * i)) = 1 then 98 else (if (F 0 (73 + 4 * i)) = 2 then 114 else 109)))).1)) hh9 ((wrL q (if (F 0 (73 + 4 * i)) = 0 then 119 else (if (F 0 (73 + 4 * i)) = 1 then 98 else (if (F 0 (73 + 4 * i)) = 2 then 114 else 109)))).2) (by first | exact hln | rfl) (by have := (show (wrL q (if (F 0 (73 + 4 * i)) = 0 then 119 else (if (F 0 (73 + 4 * i)) = 1 then 98 else (if (F 0 (73 + 4 * i)) = 2 then 114 else 109)))).2 ≤ 10 * i + 20 from Nat.le_trans (wrL_lt (hi4)) (by omega)); omega) (by omega)) kX4_number q2691 hx hb hml hown hts hRf hRl ho.1 hE hS hP hD hA [0, 1, 2, 3, 4, 5, 6, 7, 8] [] rfl (by decide) rfl (by decide) (by decide) ⟨Nat.zero_le _, Nat.zero_le _⟩ (va_recv hK hP (ci := 0) (q0 := 0) rfl rfl) hl ⟨rfl, rfl⟩ rfl rfl (Nat.le_of_ble_eq_true rfl) dX4_line_81 (fun _ H locs _ hP hD hS _ _ => ?_)
        have hP : va_P (gD g) Cl (mW g h0 a (upd (upd I 1 0) 12 (nI ((numL (wrL q (if (F 0 (73 + 4 * i)) = 0 then 119 else (if (F 0 (73 + 4 * i)) = 1 then 98 else (if (F 0 (73 + 4 * i)) = 2 then 114 else 109)))) hh9).2))) (va_up F 6 ((numL (wrL q (if (F 0 (73 + 4 * i)) = 0 then 119 else (if (F 0 (73 + 4 * i)) = 1 then 98 else (if (F 0 (73 + 4 * i)) = 2 then 114 else 109)))) hh9).1))) H := hP
        have hD : va_D A (mW g h0 a (upd (upd I 1 0) 12 (nI ((numL (wrL q (if (F 0 (73 + 4 * i)) = 0 then 119 else (if (F 0 (73 + 4 * i)) = 1 then 98 else (if (F 0 (73 + 4 * i)) = 2 then 114 else 109)))) hh9).2))) (va_up F 6 ((numL (wrL q (if (F 0 (73 + 4 * i)) = 0 then 119 else (if (F 0 (73 + 4 * i)) = 1 then 98 else (if (F 0 (73 + 4 * i)) = 2 then 114 else 109)))) hh9).1))) := hD
        refine lv_aload_n hx hb dX4_line_84 rfl (lv_at hl 2 rfl) ?_
        refine lv_bipush (v := 47) hx hb dX4_line_85 (by decide) ?_
        refine mcV (As := [.int 47]) (rest := []) (wr := []) (mX4_writes l g E ho h0 a (upd (upd I 1 0) 12 (nI ((numL (wrL q (if (F 0 (73 + 4 * i)) = 0 then 119 else (if (F 0 (73 + 4 * i)) = 1 then 98 else (if (F 0 (73 + 4 * i)) = 2 then 114 else 109)))) hh9).2))) (va_up F 6 ((numL (wrL q (if (F 0 (73 + 4 * i)) = 0 then 119 else (if (F 0 (73 + 4 * i)) = 1 then 98 else (if (F 0 (73 + 4 * i)) = 2 then 114 else 109)))) hh9).1)) 47 ((numL (wrL q (if (F 0 (73 + 4 * i)) = 0 then 119 else (if (F 0 (73 + 4 * i)) = 1 then 98 else (if (F 0 (73 + 4 * i)) = 2 then 114 else 109)))) hh9).2) (by first | exact hln | rfl) (by have := (show (numL (wrL q (if (F 0 (73 + 4 * i)) = 0 then 119 else (if (F 0 (73 + 4 * i)) = 1 then 98 else (if (F 0 (73 + 4 * i)) = 2 then 114 else 109)))) hh9).2 ≤ 10 * i + 20 from Nat.le_trans (numL_lt ((wrL_lt (hi4)))) (by omega)); omega)) kX4_writes q2687 hx hb hml hown hts hRf hRl ho.1 hE hS hP hD hA [0, 1, 2, 3, 4, 5, 6, 7, 8] [] rfl (by decide) rfl (by decide) (by decide) ⟨Nat.zero_le _, Nat.zero_le _⟩ (va_recv hK hP (ci := 0) (q0 := 0) rfl rfl) hl ⟨rfl, rfl⟩ rfl rfl (Nat.le_of_ble_eq_true rfl) dX4_line_87 (fun _ H locs _ hP hD hS _ _ => ?_)
        have hP : va_P (gD g) Cl (mW g h0 a (upd (upd I 1 0) 12 (nI ((wrL (numL (wrL q (if (F 0 (73 + 4 * i)) = 0 then 119 else (if (F 0 (73 + 4 * i)) = 1 then 98 else (if (F 0 (73 + 4 * i)) = 2 then 114 else 109)))) hh9) 47).2))) (va_up F 6 ((wrL (numL (wrL q (if (F 0 (73 + 4 * i)) = 0 then 119 else (if (F 0 (73 + 4 * i)) = 1 then 98 else (if (F 0 (73 + 4 * i)) = 2 then 114 else 109)))) hh9) 47).1))) H := hP
        have hD : va_D A (mW g h0 a (upd (upd I 1 0) 12 (nI ((wrL (numL (wrL q (if (F 0 (73 + 4 * i)) = 0 then 119 else (if (F 0 (73 + 4 * i)) = 1 then 98 else (if (F 0 (73 + 4 * i)) = 2 then 114 else 109)))) hh9) 47).2))) (va_up F 6 ((wrL (numL (wrL q (if (F 0 (73 + 4 * i)) = 0 then 119 else (if (F 0 (73 + 4 * i)) = 1 then 98 else (if (F 0 (73 + 4 * i)) = 2 then 114 else 109)))) hh9) 47).1))) := hD
        refine lv_aload_n hx hb dX4_line_90 rfl (lv_at hl 2 rfl) ?_
        refine lv_aload_n hx hb dX4_line_91 rfl (lv_at hl 2 rfl) ?_
        refine lv_iload_n hx hb dX4_line_92 rfl (lv_at hl 1 rfl) ?_
        refine lv_iconst (v := 1) hx hb dX4_line_93 (by decide) ?_
        refine rcV (As := [.int (nI i), .int 1]) (rest := [.ref h0]) (st1 := [.int (F 0 (73 + 4 * i + 1)), .ref h0]) (mX4_ofHank l g E ho h0 a (upd (upd I 1 0) 12 (nI ((wrL (numL (wrL q (if (F 0 (73 + 4 * i)) = 0 then 119 else (if (F 0 (73 + 4 * i)) = 1 then 98 else (if (F 0 (73 + 4 * i)) = 2 then 114 else 109)))) hh9) 47).2))) (va_up F 6 ((wrL (numL (wrL q (if (F 0 (73 + 4 * i)) = 0 then 119 else (if (F 0 (73 + 4 * i)) = 1 then 98 else (if (F 0 (73 + 4 * i)) = 2 then 114 else 109)))) hh9) 47).1)) i 1 (by omega)) kX4_ofHank q2453 hx hb hml hown hts hRf hRl ho.1 hE hS hP (va_recv hK hP (ci := 0) (q0 := 0) rfl rfl) ⟨Nat.zero_le _, Nat.zero_le _⟩ hl ⟨rfl, rfl⟩ rfl rfl (Nat.le_of_ble_eq_true rfl) rfl dX4_line_94 ?_
        refine h_topi (v := nI hl9) (hln9) ?_
        refine mcV (As := [.int (nI hl9)]) (rest := []) (wr := []) (mX4_numberA l g E ho h0 a (upd (upd I 1 0) 12 (nI ((wrL (numL (wrL q (if (F 0 (73 + 4 * i)) = 0 then 119 else (if (F 0 (73 + 4 * i)) = 1 then 98 else (if (F 0 (73 + 4 * i)) = 2 then 114 else 109)))) hh9) 47).2))) (va_up F 6 ((wrL (numL (wrL q (if (F 0 (73 + 4 * i)) = 0 then 119 else (if (F 0 (73 + 4 * i)) = 1 then 98 else (if (F 0 (73 + 4 * i)) = 2 then 114 else 109)))) hh9) 47).1)) hl9 ((wrL (numL (wrL q (if (F 0 (73 + 4 * i)) = 0 then 119 else (if (F 0 (73 + 4 * i)) = 1 then 98 else (if (F 0 (73 + 4 * i)) = 2 then 114 else 109)))) hh9) 47).2) (by first | exact hln | rfl) (by have := (show (wrL (numL (wrL q (if (F 0 (73 + 4 * i)) = 0 then 119 else (if (F 0 (73 + 4 * i)) = 1 then 98 else (if (F 0 (73 + 4 * i)) = 2 then 114 else 109)))) hh9) 47).2 ≤ 10 * i + 20 from Nat.le_trans (wrL_lt ((numL_lt ((wrL_lt (hi4)))))) (by omega)); omega) (by omega)) kX4_number q2691 hx hb hml hown hts hRf hRl ho.1 hE hS hP hD hA [0, 1, 2, 3, 4, 5, 6, 7, 8] [] rfl (by decide) rfl (by decide) (by decide) ⟨Nat.zero_le _, Nat.zero_le _⟩ (va_recv hK hP (ci := 0) (q0 := 0) rfl rfl) hl ⟨rfl, rfl⟩ rfl rfl (Nat.le_of_ble_eq_true rfl) dX4_line_97 (fun _ H locs _ hP hD hS _ _ => ?_)
        have hP : va_P (gD g) Cl (mW g h0 a (upd (upd I 1 0) 12 (nI ((numL (wrL (numL (wrL q (if (F 0 (73 + 4 * i)) = 0 then 119 else (if (F 0 (73 + 4 * i)) = 1 then 98 else (if (F 0 (73 + 4 * i)) = 2 then 114 else 109)))) hh9) 47) hl9).2))) (va_up F 6 ((numL (wrL (numL (wrL q (if (F 0 (73 + 4 * i)) = 0 then 119 else (if (F 0 (73 + 4 * i)) = 1 then 98 else (if (F 0 (73 + 4 * i)) = 2 then 114 else 109)))) hh9) 47) hl9).1))) H := hP
        have hD : va_D A (mW g h0 a (upd (upd I 1 0) 12 (nI ((numL (wrL (numL (wrL q (if (F 0 (73 + 4 * i)) = 0 then 119 else (if (F 0 (73 + 4 * i)) = 1 then 98 else (if (F 0 (73 + 4 * i)) = 2 then 114 else 109)))) hh9) 47) hl9).2))) (va_up F 6 ((numL (wrL (numL (wrL q (if (F 0 (73 + 4 * i)) = 0 then 119 else (if (F 0 (73 + 4 * i)) = 1 then 98 else (if (F 0 (73 + 4 * i)) = 2 then 114 else 109)))) hh9) 47) hl9).1))) := hD
        refine lv_aload_n hx hb dX4_line_100 rfl (lv_at hl 2 rfl) ?_
        refine lv_iload_n hx hb dX4_line_101 rfl (lv_at hl 1 rfl) ?_
        refine lv_iconst (v := 3) hx hb dX4_line_102 (by decide) ?_
        refine rcV (As := [.int (nI i), .int 3]) (rest := []) (st1 := [.int (F 0 (73 + 4 * i + 3))]) (mX4_ofHank l g E ho h0 a (upd (upd I 1 0) 12 (nI ((numL (wrL (numL (wrL q (if (F 0 (73 + 4 * i)) = 0 then 119 else (if (F 0 (73 + 4 * i)) = 1 then 98 else (if (F 0 (73 + 4 * i)) = 2 then 114 else 109)))) hh9) 47) hl9).2))) (va_up F 6 ((numL (wrL (numL (wrL q (if (F 0 (73 + 4 * i)) = 0 then 119 else (if (F 0 (73 + 4 * i)) = 1 then 98 else (if (F 0 (73 + 4 * i)) = 2 then 114 else 109)))) hh9) 47) hl9).1)) i 3 (by omega)) kX4_ofHank q2453 hx hb hml hown hts hRf hRl ho.1 hE hS hP (va_recv hK hP (ci := 0) (q0 := 0) rfl rfl) ⟨Nat.zero_le _, Nat.zero_le _⟩ hl ⟨rfl, rfl⟩ rfl rfl (Nat.le_of_ble_eq_true rfl) rfl dX4_line_103 ?_
        refine lv_if_ge (tgt := 115) hx hb dX4_line_106 (by decide) (fun c_6 => ?_) (fun c_6 => ?_)
        · refine lv_iinc (v := nI (i + 1)) (lv' := [(1, .int (nI (i + 1))), (2, .int (F 0 (73 + 4 * i))), (0, .ref h0)]) hx hb dX4_line_115 hl (k := 1) rfl (h_ninc (a := i) (k := 1) (rfl)) (by decide) rfl (fun ls hl => ?_)
          refine lv_goto (tgt := 12) hx hb dX4_line_118 (by decide) ?_
          exact ih_12 (i + 1) (numL (wrL (numL (wrL q (if (F 0 (73 + 4 * i)) = 0 then 119 else (if (F 0 (73 + 4 * i)) = 1 then 98 else (if (F 0 (73 + 4 * i)) = 2 then 114 else 109)))) hh9) 47) hl9) ⟨by omega, by omega, by simp only [lineQ, ← hi3, hhe, hle, eq_false c_1, eq_true (Int32.not_le.mp c_1), eq_true c_2, eq_false (Int32.not_lt.mpr c_2), eq_true c_6, eq_false (Int32.not_lt.mpr c_6), eq_false hi0, if_true, if_false, not_true_eq_false, not_false_eq_true, ite_true, ite_false, reduceIte, Nat.add_zero, Nat.add_sub_cancel], by exact Nat.le_trans (numL_lt ((wrL_lt ((numL_lt ((wrL_lt (hi4)))))))) (by omega)⟩ H locs hP hD hS ls (lv_sub hl [0, 2] rfl)
        refine lv_aload_n hx hb dX4_line_109 rfl (lv_at hl 2 rfl) ?_
        refine lv_bipush (v := 42) hx hb dX4_line_110 (by decide) ?_
        refine mcV (As := [.int 42]) (rest := []) (wr := []) (mX4_writes l g E ho h0 a (upd (upd I 1 0) 12 (nI ((numL (wrL (numL (wrL q (if (F 0 (73 + 4 * i)) = 0 then 119 else (if (F 0 (73 + 4 * i)) = 1 then 98 else (if (F 0 (73 + 4 * i)) = 2 then 114 else 109)))) hh9) 47) hl9).2))) (va_up F 6 ((numL (wrL (numL (wrL q (if (F 0 (73 + 4 * i)) = 0 then 119 else (if (F 0 (73 + 4 * i)) = 1 then 98 else (if (F 0 (73 + 4 * i)) = 2 then 114 else 109)))) hh9) 47) hl9).1)) 42 ((numL (wrL (numL (wrL q (if (F 0 (73 + 4 * i)) = 0 then 119 else (if (F 0 (73 + 4 * i)) = 1 then 98 else (if (F 0 (73 + 4 * i)) = 2 then 114 else 109)))) hh9) 47) hl9).2) (by first | exact hln | rfl) (by have := (show (numL (wrL (numL (wrL q (if (F 0 (73 + 4 * i)) = 0 then 119 else (if (F 0 (73 + 4 * i)) = 1 then 98 else (if (F 0 (73 + 4 * i)) = 2 then 114 else 109)))) hh9) 47) hl9).2 ≤ 10 * i + 20 from Nat.le_trans (numL_lt ((wrL_lt ((numL_lt ((wrL_lt (hi4)))))))) (by omega)); omega)) kX4_writes q2687 hx hb hml hown hts hRf hRl ho.1 hE hS hP hD hA [0, 1, 2, 3, 4, 5, 6, 7, 8] [] rfl (by decide) rfl (by decide) (by decide) ⟨Nat.zero_le _, Nat.zero_le _⟩ (va_recv hK hP (ci := 0) (q0 := 0) rfl rfl) hl ⟨rfl, rfl⟩ rfl rfl (Nat.le_of_ble_eq_true rfl) dX4_line_112 (fun _ H locs _ hP hD hS _ _ => ?_)
        have hP : va_P (gD g) Cl (mW g h0 a (upd (upd I 1 0) 12 (nI ((wrL (numL (wrL (numL (wrL q (if (F 0 (73 + 4 * i)) = 0 then 119 else (if (F 0 (73 + 4 * i)) = 1 then 98 else (if (F 0 (73 + 4 * i)) = 2 then 114 else 109)))) hh9) 47) hl9) 42).2))) (va_up F 6 ((wrL (numL (wrL (numL (wrL q (if (F 0 (73 + 4 * i)) = 0 then 119 else (if (F 0 (73 + 4 * i)) = 1 then 98 else (if (F 0 (73 + 4 * i)) = 2 then 114 else 109)))) hh9) 47) hl9) 42).1))) H := hP
        have hD : va_D A (mW g h0 a (upd (upd I 1 0) 12 (nI ((wrL (numL (wrL (numL (wrL q (if (F 0 (73 + 4 * i)) = 0 then 119 else (if (F 0 (73 + 4 * i)) = 1 then 98 else (if (F 0 (73 + 4 * i)) = 2 then 114 else 109)))) hh9) 47) hl9) 42).2))) (va_up F 6 ((wrL (numL (wrL (numL (wrL q (if (F 0 (73 + 4 * i)) = 0 then 119 else (if (F 0 (73 + 4 * i)) = 1 then 98 else (if (F 0 (73 + 4 * i)) = 2 then 114 else 109)))) hh9) 47) hl9) 42).1))) := hD
        refine lv_iinc (v := nI (i + 1)) (lv' := [(1, .int (nI (i + 1))), (2, .int (F 0 (73 + 4 * i))), (0, .ref h0)]) hx hb dX4_line_115 hl (k := 1) rfl (h_ninc (a := i) (k := 1) (rfl)) (by decide) rfl (fun ls hl => ?_)
        refine lv_goto (tgt := 12) hx hb dX4_line_118 (by decide) ?_
        exact ih_12 (i + 1) (wrL (numL (wrL (numL (wrL q (if (F 0 (73 + 4 * i)) = 0 then 119 else (if (F 0 (73 + 4 * i)) = 1 then 98 else (if (F 0 (73 + 4 * i)) = 2 then 114 else 109)))) hh9) 47) hl9) 42) ⟨by omega, by omega, by simp only [lineQ, ← hi3, hhe, hle, eq_false c_1, eq_true (Int32.not_le.mp c_1), eq_true c_2, eq_false (Int32.not_lt.mpr c_2), eq_false c_6, eq_true (Int32.not_le.mp c_6), eq_false hi0, if_true, if_false, not_true_eq_false, not_false_eq_true, ite_true, ite_false, reduceIte, Nat.add_zero, Nat.add_sub_cancel], by exact Nat.le_trans (wrL_lt ((numL_lt ((wrL_lt ((numL_lt ((wrL_lt (hi4)))))))))) (by omega)⟩ H locs hP hD hS ls (lv_sub hl [0, 2] rfl)
      have hi0 : 0 < i := by
        rcases Nat.eq_zero_or_pos i with z | z
        · exact absurd (by rw [z]; decide) c_2
        · exact z
      refine lv_aload_n hx hb dX4_line_33 rfl (lv_at hl 2 rfl) ?_
      refine lv_bipush (v := 32) hx hb dX4_line_34 (by decide) ?_
      refine mcV (As := [.int 32]) (rest := []) (wr := []) (mX4_writes l g E ho h0 a (upd (upd I 1 0) 12 (nI q.2)) (va_up F 6 q.1) 32 ((q).2) (by first | exact hln | rfl) (by have := (show (q).2 ≤ 10 * i + 20 from Nat.le_trans hi4 (by omega)); omega)) kX4_writes q2687 hx hb hml hown hts hRf hRl ho.1 hE hS hP hD hA [0, 1, 2, 3, 4, 5, 6, 7, 8] [] rfl (by decide) rfl (by decide) (by decide) ⟨Nat.zero_le _, Nat.zero_le _⟩ (va_recv hK hP (ci := 0) (q0 := 0) rfl rfl) hl ⟨rfl, rfl⟩ rfl rfl (Nat.le_of_ble_eq_true rfl) dX4_line_36 (fun _ H locs _ hP hD hS _ _ => ?_)
      have hP : va_P (gD g) Cl (mW g h0 a (upd (upd I 1 0) 12 (nI ((wrL q 32).2))) (va_up F 6 ((wrL q 32).1))) H := hP
      have hD : va_D A (mW g h0 a (upd (upd I 1 0) 12 (nI ((wrL q 32).2))) (va_up F 6 ((wrL q 32).1))) := hD
      refine lv_aload_n hx hb dX4_line_39 rfl (lv_at hl 2 rfl) ?_
      refine lv_iload_n hx hb dX4_line_40 rfl (lv_at hl 0 rfl) ?_
      refine h_join (J := 71) (v := if (F 0 (73 + 4 * i)) = 0 then 119 else (if (F 0 (73 + 4 * i)) = 1 then 98 else (if (F 0 (73 + 4 * i)) = 2 then 114 else 109))) (rest := [.ref h0]) ?_ ?_
      rotate_left
      · intro hJ
        refine lv_if_ne (tgt := 49) hx hb dX4_line_41 (by decide) (fun c_7 => ?_) (fun c_7 => ?_)
        · refine lv_iload_n hx hb dX4_line_49 rfl (lv_at hl 0 rfl) ?_
          refine lv_iconst (v := 1) hx hb dX4_line_50 (by decide) ?_
          refine h_join (J := 71) (v := if (F 0 (73 + 4 * i)) = 1 then 98 else (if (F 0 (73 + 4 * i)) = 2 then 114 else 109)) (rest := [.ref h0]) ?_ ?_
          rotate_left
          · intro hJ
            refine lv_icmp_ne (tgt := 59) hx hb dX4_line_51 (by decide) (fun c_8 => ?_) (fun c_8 => ?_)
            · refine lv_iload_n hx hb dX4_line_59 rfl (lv_at hl 0 rfl) ?_
              refine lv_iconst (v := 2) hx hb dX4_line_60 (by decide) ?_
              refine h_join (J := 71) (v := if (F 0 (73 + 4 * i)) = 2 then 114 else 109) (rest := [.ref h0]) ?_ ?_
              rotate_left
              · intro hJ
                refine lv_icmp_ne (tgt := 69) hx hb dX4_line_61 (by decide) (fun c_9 => ?_) (fun c_9 => ?_)
                · refine lv_bipush (v := 109) hx hb dX4_line_69 (by decide) ?_
                  exact h_topi (if_neg c_9).symm hJ
                refine lv_bipush (v := 114) hx hb dX4_line_64 (by decide) ?_
                refine lv_goto (tgt := 71) hx hb dX4_line_66 (by decide) ?_
                exact h_topi (if_pos c_9).symm hJ
              exact h_topi (if_neg c_8).symm hJ
            refine lv_bipush (v := 98) hx hb dX4_line_54 (by decide) ?_
            refine lv_goto (tgt := 71) hx hb dX4_line_56 (by decide) ?_
            exact h_topi (if_pos c_8).symm hJ
          exact h_topi (if_neg c_7).symm hJ
        refine lv_bipush (v := 119) hx hb dX4_line_44 (by decide) ?_
        refine lv_goto (tgt := 71) hx hb dX4_line_46 (by decide) ?_
        exact h_topi (if_pos c_7).symm hJ
      refine mcV (As := [.int (if (F 0 (73 + 4 * i)) = 0 then 119 else (if (F 0 (73 + 4 * i)) = 1 then 98 else (if (F 0 (73 + 4 * i)) = 2 then 114 else 109)))]) (rest := []) (wr := []) (mX4_writes l g E ho h0 a (upd (upd I 1 0) 12 (nI ((wrL q 32).2))) (va_up F 6 ((wrL q 32).1)) (if (F 0 (73 + 4 * i)) = 0 then 119 else (if (F 0 (73 + 4 * i)) = 1 then 98 else (if (F 0 (73 + 4 * i)) = 2 then 114 else 109))) ((wrL q 32).2) (by first | exact hln | rfl) (by have := (show (wrL q 32).2 ≤ 10 * i + 20 from Nat.le_trans (wrL_lt (hi4)) (by omega)); omega)) kX4_writes q2687 hx hb hml hown hts hRf hRl ho.1 hE hS hP hD hA [0, 1, 2, 3, 4, 5, 6, 7, 8] [] rfl (by decide) rfl (by decide) (by decide) ⟨Nat.zero_le _, Nat.zero_le _⟩ (va_recv hK hP (ci := 0) (q0 := 0) rfl rfl) hl ⟨rfl, rfl⟩ rfl rfl (Nat.le_of_ble_eq_true rfl) dX4_line_71 (fun _ H locs _ hP hD hS _ _ => ?_)
      have hP : va_P (gD g) Cl (mW g h0 a (upd (upd I 1 0) 12 (nI ((wrL (wrL q 32) (if (F 0 (73 + 4 * i)) = 0 then 119 else (if (F 0 (73 + 4 * i)) = 1 then 98 else (if (F 0 (73 + 4 * i)) = 2 then 114 else 109)))).2))) (va_up F 6 ((wrL (wrL q 32) (if (F 0 (73 + 4 * i)) = 0 then 119 else (if (F 0 (73 + 4 * i)) = 1 then 98 else (if (F 0 (73 + 4 * i)) = 2 then 114 else 109)))).1))) H := hP
      have hD : va_D A (mW g h0 a (upd (upd I 1 0) 12 (nI ((wrL (wrL q 32) (if (F 0 (73 + 4 * i)) = 0 then 119 else (if (F 0 (73 + 4 * i)) = 1 then 98 else (if (F 0 (73 + 4 * i)) = 2 then 114 else 109)))).2))) (va_up F 6 ((wrL (wrL q 32) (if (F 0 (73 + 4 * i)) = 0 then 119 else (if (F 0 (73 + 4 * i)) = 1 then 98 else (if (F 0 (73 + 4 * i)) = 2 then 114 else 109)))).1))) := hD
      refine lv_aload_n hx hb dX4_line_74 rfl (lv_at hl 2 rfl) ?_
      refine lv_aload_n hx hb dX4_line_75 rfl (lv_at hl 2 rfl) ?_
      refine lv_iload_n hx hb dX4_line_76 rfl (lv_at hl 1 rfl) ?_
      refine lv_iconst (v := 2) hx hb dX4_line_77 (by decide) ?_
      refine rcV (As := [.int (nI i), .int 2]) (rest := [.ref h0]) (st1 := [.int (F 0 (73 + 4 * i + 2)), .ref h0]) (mX4_ofHank l g E ho h0 a (upd (upd I 1 0) 12 (nI ((wrL (wrL q 32) (if (F 0 (73 + 4 * i)) = 0 then 119 else (if (F 0 (73 + 4 * i)) = 1 then 98 else (if (F 0 (73 + 4 * i)) = 2 then 114 else 109)))).2))) (va_up F 6 ((wrL (wrL q 32) (if (F 0 (73 + 4 * i)) = 0 then 119 else (if (F 0 (73 + 4 * i)) = 1 then 98 else (if (F 0 (73 + 4 * i)) = 2 then 114 else 109)))).1)) i 2 (by omega)) kX4_ofHank q2453 hx hb hml hown hts hRf hRl ho.1 hE hS hP (va_recv hK hP (ci := 0) (q0 := 0) rfl rfl) ⟨Nat.zero_le _, Nat.zero_le _⟩ hl ⟨rfl, rfl⟩ rfl rfl (Nat.le_of_ble_eq_true rfl) rfl dX4_line_78 ?_
      refine h_topi (v := nI hh9) (hhn) ?_
      refine mcV (As := [.int (nI hh9)]) (rest := []) (wr := []) (mX4_numberA l g E ho h0 a (upd (upd I 1 0) 12 (nI ((wrL (wrL q 32) (if (F 0 (73 + 4 * i)) = 0 then 119 else (if (F 0 (73 + 4 * i)) = 1 then 98 else (if (F 0 (73 + 4 * i)) = 2 then 114 else 109)))).2))) (va_up F 6 ((wrL (wrL q 32) (if (F 0 (73 + 4 * i)) = 0 then 119 else (if (F 0 (73 + 4 * i)) = 1 then 98 else (if (F 0 (73 + 4 * i)) = 2 then 114 else 109)))).1)) hh9 ((wrL (wrL q 32) (if (F 0 (73 + 4 * i)) = 0 then 119 else (if (F 0 (73 + 4 * i)) = 1 then 98 else (if (F 0 (73 + 4 * i)) = 2 then 114 else 109)))).2) (by first | exact hln | rfl) (by have := (show (wrL (wrL q 32) (if (F 0 (73 + 4 * i)) = 0 then 119 else (if (F 0 (73 + 4 * i)) = 1 then 98 else (if (F 0 (73 + 4 * i)) = 2 then 114 else 109)))).2 ≤ 10 * i + 20 from Nat.le_trans (wrL_lt ((wrL_lt (hi4)))) (by omega)); omega) (by omega)) kX4_number q2691 hx hb hml hown hts hRf hRl ho.1 hE hS hP hD hA [0, 1, 2, 3, 4, 5, 6, 7, 8] [] rfl (by decide) rfl (by decide) (by decide) ⟨Nat.zero_le _, Nat.zero_le _⟩ (va_recv hK hP (ci := 0) (q0 := 0) rfl rfl) hl ⟨rfl, rfl⟩ rfl rfl (Nat.le_of_ble_eq_true rfl) dX4_line_81 (fun _ H locs _ hP hD hS _ _ => ?_)
      have hP : va_P (gD g) Cl (mW g h0 a (upd (upd I 1 0) 12 (nI ((numL (wrL (wrL q 32) (if (F 0 (73 + 4 * i)) = 0 then 119 else (if (F 0 (73 + 4 * i)) = 1 then 98 else (if (F 0 (73 + 4 * i)) = 2 then 114 else 109)))) hh9).2))) (va_up F 6 ((numL (wrL (wrL q 32) (if (F 0 (73 + 4 * i)) = 0 then 119 else (if (F 0 (73 + 4 * i)) = 1 then 98 else (if (F 0 (73 + 4 * i)) = 2 then 114 else 109)))) hh9).1))) H := hP
      have hD : va_D A (mW g h0 a (upd (upd I 1 0) 12 (nI ((numL (wrL (wrL q 32) (if (F 0 (73 + 4 * i)) = 0 then 119 else (if (F 0 (73 + 4 * i)) = 1 then 98 else (if (F 0 (73 + 4 * i)) = 2 then 114 else 109)))) hh9).2))) (va_up F 6 ((numL (wrL (wrL q 32) (if (F 0 (73 + 4 * i)) = 0 then 119 else (if (F 0 (73 + 4 * i)) = 1 then 98 else (if (F 0 (73 + 4 * i)) = 2 then 114 else 109)))) hh9).1))) := hD
      refine lv_aload_n hx hb dX4_line_84 rfl (lv_at hl 2 rfl) ?_
      refine lv_bipush (v := 47) hx hb dX4_line_85 (by decide) ?_
      refine mcV (As := [.int 47]) (rest := []) (wr := []) (mX4_writes l g E ho h0 a (upd (upd I 1 0) 12 (nI ((numL (wrL (wrL q 32) (if (F 0 (73 + 4 * i)) = 0 then 119 else (if (F 0 (73 + 4 * i)) = 1 then 98 else (if (F 0 (73 + 4 * i)) = 2 then 114 else 109)))) hh9).2))) (va_up F 6 ((numL (wrL (wrL q 32) (if (F 0 (73 + 4 * i)) = 0 then 119 else (if (F 0 (73 + 4 * i)) = 1 then 98 else (if (F 0 (73 + 4 * i)) = 2 then 114 else 109)))) hh9).1)) 47 ((numL (wrL (wrL q 32) (if (F 0 (73 + 4 * i)) = 0 then 119 else (if (F 0 (73 + 4 * i)) = 1 then 98 else (if (F 0 (73 + 4 * i)) = 2 then 114 else 109)))) hh9).2) (by first | exact hln | rfl) (by have := (show (numL (wrL (wrL q 32) (if (F 0 (73 + 4 * i)) = 0 then 119 else (if (F 0 (73 + 4 * i)) = 1 then 98 else (if (F 0 (73 + 4 * i)) = 2 then 114 else 109)))) hh9).2 ≤ 10 * i + 20 from Nat.le_trans (numL_lt ((wrL_lt ((wrL_lt (hi4)))))) (by omega)); omega)) kX4_writes q2687 hx hb hml hown hts hRf hRl ho.1 hE hS hP hD hA [0, 1, 2, 3, 4, 5, 6, 7, 8] [] rfl (by decide) rfl (by decide) (by decide) ⟨Nat.zero_le _, Nat.zero_le _⟩ (va_recv hK hP (ci := 0) (q0 := 0) rfl rfl) hl ⟨rfl, rfl⟩ rfl rfl (Nat.le_of_ble_eq_true rfl) dX4_line_87 (fun _ H locs _ hP hD hS _ _ => ?_)
      have hP : va_P (gD g) Cl (mW g h0 a (upd (upd I 1 0) 12 (nI ((wrL (numL (wrL (wrL q 32) (if (F 0 (73 + 4 * i)) = 0 then 119 else (if (F 0 (73 + 4 * i)) = 1 then 98 else (if (F 0 (73 + 4 * i)) = 2 then 114 else 109)))) hh9) 47).2))) (va_up F 6 ((wrL (numL (wrL (wrL q 32) (if (F 0 (73 + 4 * i)) = 0 then 119 else (if (F 0 (73 + 4 * i)) = 1 then 98 else (if (F 0 (73 + 4 * i)) = 2 then 114 else 109)))) hh9) 47).1))) H := hP
      have hD : va_D A (mW g h0 a (upd (upd I 1 0) 12 (nI ((wrL (numL (wrL (wrL q 32) (if (F 0 (73 + 4 * i)) = 0 then 119 else (if (F 0 (73 + 4 * i)) = 1 then 98 else (if (F 0 (73 + 4 * i)) = 2 then 114 else 109)))) hh9) 47).2))) (va_up F 6 ((wrL (numL (wrL (wrL q 32) (if (F 0 (73 + 4 * i)) = 0 then 119 else (if (F 0 (73 + 4 * i)) = 1 then 98 else (if (F 0 (73 + 4 * i)) = 2 then 114 else 109)))) hh9) 47).1))) := hD
      refine lv_aload_n hx hb dX4_line_90 rfl (lv_at hl 2 rfl) ?_
      refine lv_aload_n hx hb dX4_line_91 rfl (lv_at hl 2 rfl) ?_
      refine lv_iload_n hx hb dX4_line_92 rfl (lv_at hl 1 rfl) ?_
      refine lv_iconst (v := 1) hx hb dX4_line_93 (by decide) ?_
      refine rcV (As := [.int (nI i), .int 1]) (rest := [.ref h0]) (st1 := [.int (F 0 (73 + 4 * i + 1)), .ref h0]) (mX4_ofHank l g E ho h0 a (upd (upd I 1 0) 12 (nI ((wrL (numL (wrL (wrL q 32) (if (F 0 (73 + 4 * i)) = 0 then 119 else (if (F 0 (73 + 4 * i)) = 1 then 98 else (if (F 0 (73 + 4 * i)) = 2 then 114 else 109)))) hh9) 47).2))) (va_up F 6 ((wrL (numL (wrL (wrL q 32) (if (F 0 (73 + 4 * i)) = 0 then 119 else (if (F 0 (73 + 4 * i)) = 1 then 98 else (if (F 0 (73 + 4 * i)) = 2 then 114 else 109)))) hh9) 47).1)) i 1 (by omega)) kX4_ofHank q2453 hx hb hml hown hts hRf hRl ho.1 hE hS hP (va_recv hK hP (ci := 0) (q0 := 0) rfl rfl) ⟨Nat.zero_le _, Nat.zero_le _⟩ hl ⟨rfl, rfl⟩ rfl rfl (Nat.le_of_ble_eq_true rfl) rfl dX4_line_94 ?_
      refine h_topi (v := nI hl9) (hln9) ?_
      refine mcV (As := [.int (nI hl9)]) (rest := []) (wr := []) (mX4_numberA l g E ho h0 a (upd (upd I 1 0) 12 (nI ((wrL (numL (wrL (wrL q 32) (if (F 0 (73 + 4 * i)) = 0 then 119 else (if (F 0 (73 + 4 * i)) = 1 then 98 else (if (F 0 (73 + 4 * i)) = 2 then 114 else 109)))) hh9) 47).2))) (va_up F 6 ((wrL (numL (wrL (wrL q 32) (if (F 0 (73 + 4 * i)) = 0 then 119 else (if (F 0 (73 + 4 * i)) = 1 then 98 else (if (F 0 (73 + 4 * i)) = 2 then 114 else 109)))) hh9) 47).1)) hl9 ((wrL (numL (wrL (wrL q 32) (if (F 0 (73 + 4 * i)) = 0 then 119 else (if (F 0 (73 + 4 * i)) = 1 then 98 else (if (F 0 (73 + 4 * i)) = 2 then 114 else 109)))) hh9) 47).2) (by first | exact hln | rfl) (by have := (show (wrL (numL (wrL (wrL q 32) (if (F 0 (73 + 4 * i)) = 0 then 119 else (if (F 0 (73 + 4 * i)) = 1 then 98 else (if (F 0 (73 + 4 * i)) = 2 then 114 else 109)))) hh9) 47).2 ≤ 10 * i + 20 from Nat.le_trans (wrL_lt ((numL_lt ((wrL_lt ((wrL_lt (hi4)))))))) (by omega)); omega) (by omega)) kX4_number q2691 hx hb hml hown hts hRf hRl ho.1 hE hS hP hD hA [0, 1, 2, 3, 4, 5, 6, 7, 8] [] rfl (by decide) rfl (by decide) (by decide) ⟨Nat.zero_le _, Nat.zero_le _⟩ (va_recv hK hP (ci := 0) (q0 := 0) rfl rfl) hl ⟨rfl, rfl⟩ rfl rfl (Nat.le_of_ble_eq_true rfl) dX4_line_97 (fun _ H locs _ hP hD hS _ _ => ?_)
      have hP : va_P (gD g) Cl (mW g h0 a (upd (upd I 1 0) 12 (nI ((numL (wrL (numL (wrL (wrL q 32) (if (F 0 (73 + 4 * i)) = 0 then 119 else (if (F 0 (73 + 4 * i)) = 1 then 98 else (if (F 0 (73 + 4 * i)) = 2 then 114 else 109)))) hh9) 47) hl9).2))) (va_up F 6 ((numL (wrL (numL (wrL (wrL q 32) (if (F 0 (73 + 4 * i)) = 0 then 119 else (if (F 0 (73 + 4 * i)) = 1 then 98 else (if (F 0 (73 + 4 * i)) = 2 then 114 else 109)))) hh9) 47) hl9).1))) H := hP
      have hD : va_D A (mW g h0 a (upd (upd I 1 0) 12 (nI ((numL (wrL (numL (wrL (wrL q 32) (if (F 0 (73 + 4 * i)) = 0 then 119 else (if (F 0 (73 + 4 * i)) = 1 then 98 else (if (F 0 (73 + 4 * i)) = 2 then 114 else 109)))) hh9) 47) hl9).2))) (va_up F 6 ((numL (wrL (numL (wrL (wrL q 32) (if (F 0 (73 + 4 * i)) = 0 then 119 else (if (F 0 (73 + 4 * i)) = 1 then 98 else (if (F 0 (73 + 4 * i)) = 2 then 114 else 109)))) hh9) 47) hl9).1))) := hD
      refine lv_aload_n hx hb dX4_line_100 rfl (lv_at hl 2 rfl) ?_
      refine lv_iload_n hx hb dX4_line_101 rfl (lv_at hl 1 rfl) ?_
      refine lv_iconst (v := 3) hx hb dX4_line_102 (by decide) ?_
      refine rcV (As := [.int (nI i), .int 3]) (rest := []) (st1 := [.int (F 0 (73 + 4 * i + 3))]) (mX4_ofHank l g E ho h0 a (upd (upd I 1 0) 12 (nI ((numL (wrL (numL (wrL (wrL q 32) (if (F 0 (73 + 4 * i)) = 0 then 119 else (if (F 0 (73 + 4 * i)) = 1 then 98 else (if (F 0 (73 + 4 * i)) = 2 then 114 else 109)))) hh9) 47) hl9).2))) (va_up F 6 ((numL (wrL (numL (wrL (wrL q 32) (if (F 0 (73 + 4 * i)) = 0 then 119 else (if (F 0 (73 + 4 * i)) = 1 then 98 else (if (F 0 (73 + 4 * i)) = 2 then 114 else 109)))) hh9) 47) hl9).1)) i 3 (by omega)) kX4_ofHank q2453 hx hb hml hown hts hRf hRl ho.1 hE hS hP (va_recv hK hP (ci := 0) (q0 := 0) rfl rfl) ⟨Nat.zero_le _, Nat.zero_le _⟩ hl ⟨rfl, rfl⟩ rfl rfl (Nat.le_of_ble_eq_true rfl) rfl dX4_line_103 ?_
      refine lv_if_ge (tgt := 115) hx hb dX4_line_106 (by decide) (fun c_10 => ?_) (fun c_10 => ?_)
      · refine lv_iinc (v := nI (i + 1)) (lv' := [(1, .int (nI (i + 1))), (2, .int (F 0 (73 + 4 * i))), (0, .ref h0)]) hx hb dX4_line_115 hl (k := 1) rfl (h_ninc (a := i) (k := 1) (rfl)) (by decide) rfl (fun ls hl => ?_)
        refine lv_goto (tgt := 12) hx hb dX4_line_118 (by decide) ?_
        exact ih_12 (i + 1) (numL (wrL (numL (wrL (wrL q 32) (if (F 0 (73 + 4 * i)) = 0 then 119 else (if (F 0 (73 + 4 * i)) = 1 then 98 else (if (F 0 (73 + 4 * i)) = 2 then 114 else 109)))) hh9) 47) hl9) ⟨by omega, by omega, by simp only [lineQ, ← hi3, hhe, hle, eq_false c_1, eq_true (Int32.not_le.mp c_1), eq_false c_2, eq_true (Int32.not_le.mp c_2), eq_true c_10, eq_false (Int32.not_lt.mpr c_10), eq_true hi0, if_true, if_false, not_true_eq_false, not_false_eq_true, ite_true, ite_false, reduceIte, Nat.add_zero, Nat.add_sub_cancel], by exact Nat.le_trans (numL_lt ((wrL_lt ((numL_lt ((wrL_lt ((wrL_lt (hi4)))))))))) (by omega)⟩ H locs hP hD hS ls (lv_sub hl [0, 2] rfl)
      refine lv_aload_n hx hb dX4_line_109 rfl (lv_at hl 2 rfl) ?_
      refine lv_bipush (v := 42) hx hb dX4_line_110 (by decide) ?_
      refine mcV (As := [.int 42]) (rest := []) (wr := []) (mX4_writes l g E ho h0 a (upd (upd I 1 0) 12 (nI ((numL (wrL (numL (wrL (wrL q 32) (if (F 0 (73 + 4 * i)) = 0 then 119 else (if (F 0 (73 + 4 * i)) = 1 then 98 else (if (F 0 (73 + 4 * i)) = 2 then 114 else 109)))) hh9) 47) hl9).2))) (va_up F 6 ((numL (wrL (numL (wrL (wrL q 32) (if (F 0 (73 + 4 * i)) = 0 then 119 else (if (F 0 (73 + 4 * i)) = 1 then 98 else (if (F 0 (73 + 4 * i)) = 2 then 114 else 109)))) hh9) 47) hl9).1)) 42 ((numL (wrL (numL (wrL (wrL q 32) (if (F 0 (73 + 4 * i)) = 0 then 119 else (if (F 0 (73 + 4 * i)) = 1 then 98 else (if (F 0 (73 + 4 * i)) = 2 then 114 else 109)))) hh9) 47) hl9).2) (by first | exact hln | rfl) (by have := (show (numL (wrL (numL (wrL (wrL q 32) (if (F 0 (73 + 4 * i)) = 0 then 119 else (if (F 0 (73 + 4 * i)) = 1 then 98 else (if (F 0 (73 + 4 * i)) = 2 then 114 else 109)))) hh9) 47) hl9).2 ≤ 10 * i + 20 from Nat.le_trans (numL_lt ((wrL_lt ((numL_lt ((wrL_lt ((wrL_lt (hi4)))))))))) (by omega)); omega)) kX4_writes q2687 hx hb hml hown hts hRf hRl ho.1 hE hS hP hD hA [0, 1, 2, 3, 4, 5, 6, 7, 8] [] rfl (by decide) rfl (by decide) (by decide) ⟨Nat.zero_le _, Nat.zero_le _⟩ (va_recv hK hP (ci := 0) (q0 := 0) rfl rfl) hl ⟨rfl, rfl⟩ rfl rfl (Nat.le_of_ble_eq_true rfl) dX4_line_112 (fun _ H locs _ hP hD hS _ _ => ?_)
      have hP : va_P (gD g) Cl (mW g h0 a (upd (upd I 1 0) 12 (nI ((wrL (numL (wrL (numL (wrL (wrL q 32) (if (F 0 (73 + 4 * i)) = 0 then 119 else (if (F 0 (73 + 4 * i)) = 1 then 98 else (if (F 0 (73 + 4 * i)) = 2 then 114 else 109)))) hh9) 47) hl9) 42).2))) (va_up F 6 ((wrL (numL (wrL (numL (wrL (wrL q 32) (if (F 0 (73 + 4 * i)) = 0 then 119 else (if (F 0 (73 + 4 * i)) = 1 then 98 else (if (F 0 (73 + 4 * i)) = 2 then 114 else 109)))) hh9) 47) hl9) 42).1))) H := hP
      have hD : va_D A (mW g h0 a (upd (upd I 1 0) 12 (nI ((wrL (numL (wrL (numL (wrL (wrL q 32) (if (F 0 (73 + 4 * i)) = 0 then 119 else (if (F 0 (73 + 4 * i)) = 1 then 98 else (if (F 0 (73 + 4 * i)) = 2 then 114 else 109)))) hh9) 47) hl9) 42).2))) (va_up F 6 ((wrL (numL (wrL (numL (wrL (wrL q 32) (if (F 0 (73 + 4 * i)) = 0 then 119 else (if (F 0 (73 + 4 * i)) = 1 then 98 else (if (F 0 (73 + 4 * i)) = 2 then 114 else 109)))) hh9) 47) hl9) 42).1))) := hD
      refine lv_iinc (v := nI (i + 1)) (lv' := [(1, .int (nI (i + 1))), (2, .int (F 0 (73 + 4 * i))), (0, .ref h0)]) hx hb dX4_line_115 hl (k := 1) rfl (h_ninc (a := i) (k := 1) (rfl)) (by decide) rfl (fun ls hl => ?_)
      refine lv_goto (tgt := 12) hx hb dX4_line_118 (by decide) ?_
      exact ih_12 (i + 1) (wrL (numL (wrL (numL (wrL (wrL q 32) (if (F 0 (73 + 4 * i)) = 0 then 119 else (if (F 0 (73 + 4 * i)) = 1 then 98 else (if (F 0 (73 + 4 * i)) = 2 then 114 else 109)))) hh9) 47) hl9) 42) ⟨by omega, by omega, by simp only [lineQ, ← hi3, hhe, hle, eq_false c_1, eq_true (Int32.not_le.mp c_1), eq_false c_2, eq_true (Int32.not_le.mp c_2), eq_false c_10, eq_true (Int32.not_le.mp c_10), eq_true hi0, if_true, if_false, not_true_eq_false, not_false_eq_true, ite_true, ite_false, reduceIte, Nat.add_zero, Nat.add_sub_cancel], by exact Nat.le_trans (wrL_lt ((numL_lt ((wrL_lt ((numL_lt ((wrL_lt ((wrL_lt (hi4)))))))))))) (by omega)⟩ H locs hP hD hS ls (lv_sub hl [0, 2] rfl)
  have hq6 : F = va_up F 6 (F 6) := (hup_id F 6).symm
  rw [hq6] at hP hD
  exact loop_12 (nh + 1) 0 (F 6, 0) ⟨by omega, by omega, rfl, by omega⟩ H locs hP hD hS ls (lv_sub hl [0, 1] rfl)
