/-! THE REFERENCE: small methods -/
set_option maxRecDepth 100000
theorem kX4_thrown : hkV RX4 yX4_thrown cX4_thrown 1 (some .int) 0 := ⟨q2379, q2380, q78, q2381, rfl, by decide +kernel⟩
set_option maxHeartbeats 4000000 in
theorem mX4_thrown (l : Launch) (g : hG) (E : hEnv) (ho : mOk g E) (h0 : Nat) (a : Nat → Nat) (I : Nat → Int32) (F : Nat → Nat → Int32) : RM l yX4_thrown cX4_thrown 1 (some .int) 0 0 [.ref h0] g E (mW g h0 a I F) (some (.int (I 1))) := by
  refine RM.mk (by decide) (Nat.le_of_ble_eq_true rfl) ?_
  intro p e R s m args below meth c Q ls hX hP hE hS hl hQ
  obtain ⟨hx, hb, hr, hlk, hml, hown, hts, hRf, hRl⟩ := hX
  have hown : s.vm.findClass RX4 = some m.cls := hown
  have hK := ho.2 _ _ _ hE
  have hl : lv_has ls 1 [(0, .ref h0)] := hl
  refine lv_aload_n hx hb dX4_thrown_0 rfl (lv_at hl 0 rfl) ?_
  refine va_get (D := gD g) (ci := 0) (v := .int (I 1)) (C := RX4) (T := TX4) (N := 21) hx hb hts in_X4 hown hK hP 0 rfl rfl 5 (by decide) (hts _ q2319) (fun _ h9 => h9) rfl dX4_thrown_1 ?_
  exact hr_i hQ hx hb hr hlk rfl (rfl) dX4_thrown_4
theorem kX4_isIn : hkS yX4_isIn cX4_isIn 3 (some .boolean) 3 := ⟨q2398, q78, q2399, by decide +kernel⟩
set_option maxHeartbeats 4000000 in
theorem mX4_isIn (l : Launch) (g : hG) (E : hEnv) (ho : mOk g E) (v : Int32) (lo : Int32) (hi : Int32) : RM l yX4_isIn cX4_isIn 3 (some .boolean) 0 0 [.int v, .int lo, .int hi] g E [] (some (.int (if inR v lo hi then 1 else 0))) := by
  refine RM.mk (by decide) (Nat.le_of_ble_eq_true rfl) ?_
  intro p e R s m args below meth c Q ls hX hP hE hS hl hQ
  obtain ⟨hx, hb, hr, hlk, hml, hown, hts, hRf, hRl⟩ := hX
  have hown : s.vm.findClass RX4 = some m.cls := hown
  have hK := ho.2 _ _ _ hE
  have hl : lv_has ls 3 [(0, .int v), (1, .int lo), (2, .int hi)] := hl
  refine lv_iload_n hx hb dX4_isIn_0 rfl (lv_at hl 0 rfl) ?_
  refine lv_iload_n hx hb dX4_isIn_1 rfl (lv_at hl 1 rfl) ?_
  refine lv_icmp_lt (tgt := 14) hx hb dX4_isIn_2 (by decide) (fun c_1 => ?_) (fun c_1 => ?_)
  · refine lv_iconst (v := 0) hx hb dX4_isIn_14 (by decide) ?_
    exact hr_i hQ hx hb hr hlk rfl (by simp [inR, *]) dX4_isIn_15
  refine lv_iload_n hx hb dX4_isIn_5 rfl (lv_at hl 0 rfl) ?_
  refine lv_iload_n hx hb dX4_isIn_6 rfl (lv_at hl 2 rfl) ?_
  refine lv_icmp_gt (tgt := 14) hx hb dX4_isIn_7 (by decide) (fun c_2 => ?_) (fun c_2 => ?_)
  · refine lv_iconst (v := 0) hx hb dX4_isIn_14 (by decide) ?_
    exact hr_i hQ hx hb hr hlk rfl (by simp [inR, *]) dX4_isIn_15
  refine lv_iconst (v := 1) hx hb dX4_isIn_10 (by decide) ?_
  refine lv_goto (tgt := 15) hx hb dX4_isIn_11 (by decide) ?_
  exact hr_i hQ hx hb hr hlk rfl (by simp [inR, *]) dX4_isIn_15
theorem kX4_lesser : hkS yX4_lesser cX4_lesser 2 (some .int) 2 := ⟨q2458, q78, q2459, by decide +kernel⟩
set_option maxHeartbeats 4000000 in
theorem mX4_lesser (l : Launch) (g : hG) (E : hEnv) (ho : mOk g E) (x : Int32) (y : Int32) : RM l yX4_lesser cX4_lesser 2 (some .int) 0 0 [.int x, .int y] g E [] (some (.int (minI x y))) := by
  refine RM.mk (by decide) (Nat.le_of_ble_eq_true rfl) ?_
  intro p e R s m args below meth c Q ls hX hP hE hS hl hQ
  obtain ⟨hx, hb, hr, hlk, hml, hown, hts, hRf, hRl⟩ := hX
  have hown : s.vm.findClass RX4 = some m.cls := hown
  have hK := ho.2 _ _ _ hE
  have hl : lv_has ls 2 [(0, .int x), (1, .int y)] := hl
  refine lv_iload_n hx hb dX4_lesser_0 rfl (lv_at hl 0 rfl) ?_
  refine lv_iload_n hx hb dX4_lesser_1 rfl (lv_at hl 1 rfl) ?_
  refine lv_icmp_ge (tgt := 9) hx hb dX4_lesser_2 (by decide) (fun c_1 => ?_) (fun c_1 => ?_)
  · refine lv_iload_n hx hb dX4_lesser_9 rfl (lv_at hl 1 rfl) ?_
    exact hr_i hQ hx hb hr hlk rfl (by simp [minI, *]) dX4_lesser_10
  refine lv_iload_n hx hb dX4_lesser_5 rfl (lv_at hl 0 rfl) ?_
  refine lv_goto (tgt := 10) hx hb dX4_lesser_6 (by decide) ?_
  exact hr_i hQ hx hb hr hlk rfl (by simp [minI, *]) dX4_lesser_10
theorem kX4_greater : hkS yX4_greater cX4_greater 2 (some .int) 2 := ⟨q2439, q78, q2440, by decide +kernel⟩
set_option maxHeartbeats 4000000 in
theorem mX4_greater (l : Launch) (g : hG) (E : hEnv) (ho : mOk g E) (x : Int32) (y : Int32) : RM l yX4_greater cX4_greater 2 (some .int) 0 0 [.int x, .int y] g E [] (some (.int (maxI x y))) := by
  refine RM.mk (by decide) (Nat.le_of_ble_eq_true rfl) ?_
  intro p e R s m args below meth c Q ls hX hP hE hS hl hQ
  obtain ⟨hx, hb, hr, hlk, hml, hown, hts, hRf, hRl⟩ := hX
  have hown : s.vm.findClass RX4 = some m.cls := hown
  have hK := ho.2 _ _ _ hE
  have hl : lv_has ls 2 [(0, .int x), (1, .int y)] := hl
  refine lv_iload_n hx hb dX4_greater_0 rfl (lv_at hl 0 rfl) ?_
  refine lv_iload_n hx hb dX4_greater_1 rfl (lv_at hl 1 rfl) ?_
  refine lv_icmp_le (tgt := 9) hx hb dX4_greater_2 (by decide) (fun c_1 => ?_) (fun c_1 => ?_)
  · refine lv_iload_n hx hb dX4_greater_9 rfl (lv_at hl 1 rfl) ?_
    exact hr_i hQ hx hb hr hlk rfl (by simp [maxI, *]) dX4_greater_10
  refine lv_iload_n hx hb dX4_greater_5 rfl (lv_at hl 0 rfl) ?_
  refine lv_goto (tgt := 10) hx hb dX4_greater_6 (by decide) ?_
  exact hr_i hQ hx hb hr hlk rfl (by simp [maxI, *]) dX4_greater_10
theorem kX4_tailAt : hkS yX4_tailAt cX4_tailAt 2 (some .int) 2 := ⟨q2409, q78, q2410, by decide +kernel⟩
set_option maxHeartbeats 4000000 in
theorem mX4_tailAt (l : Launch) (g : hG) (E : hEnv) (ho : mOk g E) (j : Nat) (w : Nat) : RM l yX4_tailAt cX4_tailAt 2 (some .int) 0 0 [.int (nI j), .int (nI w)] g E [] (some (.int (nI (33 + 4 * j + w)))) := by
  refine RM.mk (by decide) (Nat.le_of_ble_eq_true rfl) ?_
  intro p e R s m args below meth c Q ls hX hP hE hS hl hQ
  obtain ⟨hx, hb, hr, hlk, hml, hown, hts, hRf, hRl⟩ := hX
  have hown : s.vm.findClass RX4 = some m.cls := hown
  have hK := ho.2 _ _ _ hE
  have hl : lv_has ls 2 [(0, .int (nI j)), (1, .int (nI w))] := hl
  refine lv_bipush (v := 33) hx hb dX4_tailAt_0 (by decide) ?_
  refine lv_iconst (v := 4) hx hb dX4_tailAt_2 (by decide) ?_
  refine lv_iload_n hx hb dX4_tailAt_3 rfl (lv_at hl 0 rfl) ?_
  refine lv_imul hx hb dX4_tailAt_4 ?_
  refine h_topi (v := nI (4 * j)) (h_nmul (a := 4) (b := j) (rfl) (rfl)) ?_
  refine lv_iadd hx hb dX4_tailAt_5 ?_
  refine h_topi (v := nI (33 + (4 * j))) (h_nadd (a := 33) (b := 4 * j) (rfl) (rfl)) ?_
  refine lv_iload_n hx hb dX4_tailAt_6 rfl (lv_at hl 1 rfl) ?_
  refine lv_iadd hx hb dX4_tailAt_7 ?_
  refine h_topi (v := nI (33 + (4 * j) + w)) (h_nadd (a := 33 + (4 * j)) (b := w) (rfl) (rfl)) ?_
  exact hr_i hQ hx hb hr hlk rfl (by simp [Nat.mul_comm, *]) dX4_tailAt_8
theorem kX4_hankAt : hkS yX4_hankAt cX4_hankAt 2 (some .int) 2 := ⟨q2432, q78, q2433, by decide +kernel⟩
set_option maxHeartbeats 4000000 in
theorem mX4_hankAt (l : Launch) (g : hG) (E : hEnv) (ho : mOk g E) (j : Nat) (w : Nat) : RM l yX4_hankAt cX4_hankAt 2 (some .int) 0 0 [.int (nI j), .int (nI w)] g E [] (some (.int (nI (73 + 4 * j + w)))) := by
  refine RM.mk (by decide) (Nat.le_of_ble_eq_true rfl) ?_
  intro p e R s m args below meth c Q ls hX hP hE hS hl hQ
  obtain ⟨hx, hb, hr, hlk, hml, hown, hts, hRf, hRl⟩ := hX
  have hown : s.vm.findClass RX4 = some m.cls := hown
  have hK := ho.2 _ _ _ hE
  have hl : lv_has ls 2 [(0, .int (nI j)), (1, .int (nI w))] := hl
  refine lv_bipush (v := 73) hx hb dX4_hankAt_0 (by decide) ?_
  refine lv_iconst (v := 4) hx hb dX4_hankAt_2 (by decide) ?_
  refine lv_iload_n hx hb dX4_hankAt_3 rfl (lv_at hl 0 rfl) ?_
  refine lv_imul hx hb dX4_hankAt_4 ?_
  refine h_topi (v := nI (4 * j)) (h_nmul (a := 4) (b := j) (rfl) (rfl)) ?_
  refine lv_iadd hx hb dX4_hankAt_5 ?_
  refine h_topi (v := nI (73 + (4 * j))) (h_nadd (a := 73) (b := 4 * j) (rfl) (rfl)) ?_
  refine lv_iload_n hx hb dX4_hankAt_6 rfl (lv_at hl 1 rfl) ?_
  refine lv_iadd hx hb dX4_hankAt_7 ?_
  refine h_topi (v := nI (73 + (4 * j) + w)) (h_nadd (a := 73 + (4 * j)) (b := w) (rfl) (rfl)) ?_
  exact hr_i hQ hx hb hr hlk rfl (by simp [*]) dX4_hankAt_8
theorem kX4_bowAt : hkS yX4_bowAt cX4_bowAt 2 (some .int) 2 := ⟨q2484, q78, q2485, by decide +kernel⟩
set_option maxHeartbeats 4000000 in
theorem mX4_bowAt (l : Launch) (g : hG) (E : hEnv) (ho : mOk g E) (j : Nat) (w : Nat) : RM l yX4_bowAt cX4_bowAt 2 (some .int) 0 0 [.int (nI j), .int (nI w)] g E [] (some (.int (nI (153 + 7 * j + w)))) := by
  refine RM.mk (by decide) (Nat.le_of_ble_eq_true rfl) ?_
  intro p e R s m args below meth c Q ls hX hP hE hS hl hQ
  obtain ⟨hx, hb, hr, hlk, hml, hown, hts, hRf, hRl⟩ := hX
  have hown : s.vm.findClass RX4 = some m.cls := hown
  have hK := ho.2 _ _ _ hE
  have hl : lv_has ls 2 [(0, .int (nI j)), (1, .int (nI w))] := hl
  refine lv_sipush (v := 153) hx hb dX4_bowAt_0 (by decide) ?_
  refine lv_bipush (v := 7) hx hb dX4_bowAt_3 (by decide) ?_
  refine lv_iload_n hx hb dX4_bowAt_5 rfl (lv_at hl 0 rfl) ?_
  refine lv_imul hx hb dX4_bowAt_6 ?_
  refine h_topi (v := nI (7 * j)) (h_nmul (a := 7) (b := j) (rfl) (rfl)) ?_
  refine lv_iadd hx hb dX4_bowAt_7 ?_
  refine h_topi (v := nI (153 + (7 * j))) (h_nadd (a := 153) (b := 7 * j) (rfl) (rfl)) ?_
  refine lv_iload_n hx hb dX4_bowAt_8 rfl (lv_at hl 1 rfl) ?_
  refine lv_iadd hx hb dX4_bowAt_9 ?_
  refine h_topi (v := nI (153 + (7 * j) + w)) (h_nadd (a := 153 + (7 * j)) (b := w) (rfl) (rfl)) ?_
  exact hr_i hQ hx hb hr hlk rfl (by simp [*]) dX4_bowAt_10
theorem kX4_ofHank : hkV RX4 yX4_ofHank cX4_ofHank 3 (some .int) 2 := ⟨q2455, qs34, q78, q2456, rfl, by decide +kernel⟩
set_option maxHeartbeats 4000000 in
theorem mX4_ofHank (l : Launch) (g : hG) (E : hEnv) (ho : mOk g E) (h0 : Nat) (a : Nat → Nat) (I : Nat → Int32) (F : Nat → Nat → Int32) (j : Nat) (w : Nat) (hj : 73 + 4 * j + w < 195) : RM l yX4_ofHank cX4_ofHank 3 (some .int) 1 21 [.ref h0, .int (nI j), .int (nI w)] g E (mW g h0 a I F) (some (.int (F 0 (73 + 4 * j + w)))) := by
  refine RM.mk (by decide) (Nat.le_of_ble_eq_true rfl) ?_
  intro p e R s m args below meth c Q ls hX hP hE hS hl hQ
  obtain ⟨hx, hb, hr, hlk, hml, hown, hts, hRf, hRl⟩ := hX
  have hown : s.vm.findClass RX4 = some m.cls := hown
  have hK := ho.2 _ _ _ hE
  have hl : lv_has ls 3 [(0, .ref h0), (1, .int (nI j)), (2, .int (nI w))] := hl
  refine lv_aload_n hx hb dX4_ofHank_0 rfl (lv_at hl 0 rfl) ?_
  refine va_get (D := gD g) (ci := 0) (v := .ref (a 0)) (C := RX4) (T := TX4) (N := 21) hx hb hts in_X4 hown hK hP 0 rfl rfl 0 (by decide) (hts _ q2314) (fun _ h9 => h9) rfl dX4_ofHank_1 ?_
  refine lv_iload_n hx hb dX4_ofHank_4 rfl (lv_at hl 1 rfl) ?_
  refine lv_iload_n hx hb dX4_ofHank_5 rfl (lv_at hl 2 rfl) ?_
  refine rcS (As := [.int (nI j), .int (nI w)]) (rest := [.ref (a 0)]) (st1 := [.int (nI (73 + 4 * j + w)), .ref (a 0)]) (mX4_hankAt l g E ho j w) kX4_hankAt q2431 hx hb hml hown hts hRf hRl ho.1 hE hS (hP.sub [] rfl) ⟨Nat.zero_le _, Nat.zero_le _⟩ hl ⟨rfl, rfl⟩ rfl rfl (Nat.le_of_ble_eq_true rfl) rfl dX4_ofHank_6 ?_
  refine h_iald (f := (F 0)) hx hb hK hP 1 0 rfl rfl (73 + 4 * j + w) rfl (by omega) (by decide) dX4_ofHank_9 ?_
  exact hr_i hQ hx hb hr hlk rfl (rfl) dX4_ofHank_10
theorem kX4_ofBow : hkV RX4 yX4_ofBow cX4_ofBow 3 (some .int) 2 := ⟨q2500, qs40, q78, q2501, rfl, by decide +kernel⟩
set_option maxHeartbeats 4000000 in
theorem mX4_ofBow (l : Launch) (g : hG) (E : hEnv) (ho : mOk g E) (h0 : Nat) (a : Nat → Nat) (I : Nat → Int32) (F : Nat → Nat → Int32) (j : Nat) (w : Nat) (hj : 153 + 7 * j + w < 195) : RM l yX4_ofBow cX4_ofBow 3 (some .int) 1 21 [.ref h0, .int (nI j), .int (nI w)] g E (mW g h0 a I F) (some (.int (F 0 (153 + 7 * j + w)))) := by
  refine RM.mk (by decide) (Nat.le_of_ble_eq_true rfl) ?_
  intro p e R s m args below meth c Q ls hX hP hE hS hl hQ
  obtain ⟨hx, hb, hr, hlk, hml, hown, hts, hRf, hRl⟩ := hX
  have hown : s.vm.findClass RX4 = some m.cls := hown
  have hK := ho.2 _ _ _ hE
  have hl : lv_has ls 3 [(0, .ref h0), (1, .int (nI j)), (2, .int (nI w))] := hl
  refine lv_aload_n hx hb dX4_ofBow_0 rfl (lv_at hl 0 rfl) ?_
  refine va_get (D := gD g) (ci := 0) (v := .ref (a 0)) (C := RX4) (T := TX4) (N := 21) hx hb hts in_X4 hown hK hP 0 rfl rfl 0 (by decide) (hts _ q2314) (fun _ h9 => h9) rfl dX4_ofBow_1 ?_
  refine lv_iload_n hx hb dX4_ofBow_4 rfl (lv_at hl 1 rfl) ?_
  refine lv_iload_n hx hb dX4_ofBow_5 rfl (lv_at hl 2 rfl) ?_
  refine rcS (As := [.int (nI j), .int (nI w)]) (rest := [.ref (a 0)]) (st1 := [.int (nI (153 + 7 * j + w)), .ref (a 0)]) (mX4_bowAt l g E ho j w) kX4_bowAt q2483 hx hb hml hown hts hRf hRl ho.1 hE hS (hP.sub [] rfl) ⟨Nat.zero_le _, Nat.zero_le _⟩ hl ⟨rfl, rfl⟩ rfl rfl (Nat.le_of_ble_eq_true rfl) rfl dX4_ofBow_6 ?_
  refine h_iald (f := (F 0)) hx hb hK hP 1 0 rfl rfl (153 + 7 * j + w) rfl (by omega) (by decide) dX4_ofBow_9 ?_
  exact hr_i hQ hx hb hr hlk rfl (rfl) dX4_ofBow_10
theorem kX4_isTail : hkV RX4 yX4_isTail cX4_isTail 2 (some .boolean) 1 := ⟨q2429, qs30, q78, q2430, rfl, by decide +kernel⟩
set_option maxHeartbeats 4000000 in
theorem mX4_isTail (l : Launch) (g : hG) (E : hEnv) (ho : mOk g E) (h0 : Nat) (a : Nat → Nat) (I : Nat → Int32) (F : Nat → Nat → Int32) (t : Int32) : RM l yX4_isTail cX4_isTail 2 (some .boolean) 1 22 [.ref h0, .int t] g E (mW g h0 a I F) (some (.int (if inR t 0 (F 0 3 - 1) then 1 else 0))) := by
  refine RM.mk (by decide) (Nat.le_of_ble_eq_true rfl) ?_
  intro p e R s m args below meth c Q ls hX hP hE hS hl hQ
  obtain ⟨hx, hb, hr, hlk, hml, hown, hts, hRf, hRl⟩ := hX
  have hown : s.vm.findClass RX4 = some m.cls := hown
  have hK := ho.2 _ _ _ hE
  have hl : lv_has ls 2 [(0, .ref h0), (1, .int t)] := hl
  refine lv_iload_n hx hb dX4_isTail_0 rfl (lv_at hl 1 rfl) ?_
  refine lv_iconst (v := 0) hx hb dX4_isTail_1 (by decide) ?_
  refine lv_aload_n hx hb dX4_isTail_2 rfl (lv_at hl 0 rfl) ?_
  refine va_get (D := gD g) (ci := 0) (v := .ref (a 0)) (C := RX4) (T := TX4) (N := 21) hx hb hts in_X4 hown hK hP 0 rfl rfl 0 (by decide) (hts _ q2314) (fun _ h9 => h9) rfl dX4_isTail_3 ?_
  refine lv_iconst (v := 3) hx hb dX4_isTail_6 (by decide) ?_
  refine h_iald (f := (F 0)) hx hb hK hP 1 0 rfl rfl 3 rfl (by decide) (by decide) dX4_isTail_7 ?_
  refine lv_iconst (v := 1) hx hb dX4_isTail_8 (by decide) ?_
  refine lv_isub hx hb dX4_isTail_9 ?_
  refine rcS (As := [.int t, .int 0, .int ((F 0 3) - 1)]) (rest := []) (st1 := [.int (if inR t 0 ((F 0 3) - 1) then 1 else 0)]) (mX4_isIn l g E ho t 0 ((F 0 3) - 1)) kX4_isIn q2397 hx hb hml hown hts hRf hRl ho.1 hE hS (hP.sub [] rfl) ⟨Nat.zero_le _, Nat.zero_le _⟩ hl ⟨rfl, rfl⟩ rfl rfl (Nat.le_of_ble_eq_true rfl) rfl dX4_isTail_10 ?_
  exact hr_i hQ hx hb hr hlk (by split <;> rfl) (by simp [*]) dX4_isTail_13
theorem kX4_isHank : hkV RX4 yX4_isHank cX4_isHank 2 (some .boolean) 1 := ⟨q2451, qs33, q78, q2452, rfl, by decide +kernel⟩
set_option maxHeartbeats 4000000 in
theorem mX4_isHank (l : Launch) (g : hG) (E : hEnv) (ho : mOk g E) (h0 : Nat) (a : Nat → Nat) (I : Nat → Int32) (F : Nat → Nat → Int32) (t : Int32) : RM l yX4_isHank cX4_isHank 2 (some .boolean) 1 22 [.ref h0, .int t] g E (mW g h0 a I F) (some (.int (if inR t 0 (F 0 4 - 1) then 1 else 0))) := by
  refine RM.mk (by decide) (Nat.le_of_ble_eq_true rfl) ?_
  intro p e R s m args below meth c Q ls hX hP hE hS hl hQ
  obtain ⟨hx, hb, hr, hlk, hml, hown, hts, hRf, hRl⟩ := hX
  have hown : s.vm.findClass RX4 = some m.cls := hown
  have hK := ho.2 _ _ _ hE
  have hl : lv_has ls 2 [(0, .ref h0), (1, .int t)] := hl
  refine lv_iload_n hx hb dX4_isHank_0 rfl (lv_at hl 1 rfl) ?_
  refine lv_iconst (v := 0) hx hb dX4_isHank_1 (by decide) ?_
  refine lv_aload_n hx hb dX4_isHank_2 rfl (lv_at hl 0 rfl) ?_
  refine va_get (D := gD g) (ci := 0) (v := .ref (a 0)) (C := RX4) (T := TX4) (N := 21) hx hb hts in_X4 hown hK hP 0 rfl rfl 0 (by decide) (hts _ q2314) (fun _ h9 => h9) rfl dX4_isHank_3 ?_
  refine lv_iconst (v := 4) hx hb dX4_isHank_6 (by decide) ?_
  refine h_iald (f := (F 0)) hx hb hK hP 1 0 rfl rfl 4 rfl (by decide) (by decide) dX4_isHank_7 ?_
  refine lv_iconst (v := 1) hx hb dX4_isHank_8 (by decide) ?_
  refine lv_isub hx hb dX4_isHank_9 ?_
  refine rcS (As := [.int t, .int 0, .int ((F 0 4) - 1)]) (rest := []) (st1 := [.int (if inR t 0 ((F 0 4) - 1) then 1 else 0)]) (mX4_isIn l g E ho t 0 ((F 0 4) - 1)) kX4_isIn q2397 hx hb hml hown hts hRf hRl ho.1 hE hS (hP.sub [] rfl) ⟨Nat.zero_le _, Nat.zero_le _⟩ hl ⟨rfl, rfl⟩ rfl rfl (Nat.le_of_ble_eq_true rfl) rfl dX4_isHank_10 ?_
  exact hr_i hQ hx hb hr hlk (by split <;> rfl) (by simp [*]) dX4_isHank_13
theorem kX4_isBow : hkV RX4 yX4_isBow cX4_isBow 2 (some .boolean) 1 := ⟨q2496, qs39, q78, q2497, rfl, by decide +kernel⟩
set_option maxHeartbeats 4000000 in
theorem mX4_isBow (l : Launch) (g : hG) (E : hEnv) (ho : mOk g E) (h0 : Nat) (a : Nat → Nat) (I : Nat → Int32) (F : Nat → Nat → Int32) (t : Int32) : RM l yX4_isBow cX4_isBow 2 (some .boolean) 1 22 [.ref h0, .int t] g E (mW g h0 a I F) (some (.int (if inR t 0 (F 0 5 - 1) then 1 else 0))) := by
  refine RM.mk (by decide) (Nat.le_of_ble_eq_true rfl) ?_
  intro p e R s m args below meth c Q ls hX hP hE hS hl hQ
  obtain ⟨hx, hb, hr, hlk, hml, hown, hts, hRf, hRl⟩ := hX
  have hown : s.vm.findClass RX4 = some m.cls := hown
  have hK := ho.2 _ _ _ hE
  have hl : lv_has ls 2 [(0, .ref h0), (1, .int t)] := hl
  refine lv_iload_n hx hb dX4_isBow_0 rfl (lv_at hl 1 rfl) ?_
  refine lv_iconst (v := 0) hx hb dX4_isBow_1 (by decide) ?_
  refine lv_aload_n hx hb dX4_isBow_2 rfl (lv_at hl 0 rfl) ?_
  refine va_get (D := gD g) (ci := 0) (v := .ref (a 0)) (C := RX4) (T := TX4) (N := 21) hx hb hts in_X4 hown hK hP 0 rfl rfl 0 (by decide) (hts _ q2314) (fun _ h9 => h9) rfl dX4_isBow_3 ?_
  refine lv_iconst (v := 5) hx hb dX4_isBow_6 (by decide) ?_
  refine h_iald (f := (F 0)) hx hb hK hP 1 0 rfl rfl 5 rfl (by decide) (by decide) dX4_isBow_7 ?_
  refine lv_iconst (v := 1) hx hb dX4_isBow_8 (by decide) ?_
  refine lv_isub hx hb dX4_isBow_9 ?_
  refine rcS (As := [.int t, .int 0, .int ((F 0 5) - 1)]) (rest := []) (st1 := [.int (if inR t 0 ((F 0 5) - 1) then 1 else 0)]) (mX4_isIn l g E ho t 0 ((F 0 5) - 1)) kX4_isIn q2397 hx hb hml hown hts hRf hRl ho.1 hE hS (hP.sub [] rfl) ⟨Nat.zero_le _, Nat.zero_le _⟩ hl ⟨rfl, rfl⟩ rfl rfl (Nat.le_of_ble_eq_true rfl) rfl dX4_isBow_10 ?_
  exact hr_i hQ hx hb hr hlk (by split <;> rfl) (by simp [*]) dX4_isBow_13
theorem kX4_isCake : hkV RX4 yX4_isCake cX4_isCake 2 (some .boolean) 1 := ⟨q2526, qs43, q78, q2527, rfl, by decide +kernel⟩
set_option maxHeartbeats 4000000 in
theorem mX4_isCake (l : Launch) (g : hG) (E : hEnv) (ho : mOk g E) (h0 : Nat) (a : Nat → Nat) (I : Nat → Int32) (F : Nat → Nat → Int32) (t : Int32) : RM l yX4_isCake cX4_isCake 2 (some .boolean) 1 22 [.ref h0, .int t] g E (mW g h0 a I F) (some (.int (if inR t 0 (F 0 6 - 1) then 1 else 0))) := by
  refine RM.mk (by decide) (Nat.le_of_ble_eq_true rfl) ?_
  intro p e R s m args below meth c Q ls hX hP hE hS hl hQ
  obtain ⟨hx, hb, hr, hlk, hml, hown, hts, hRf, hRl⟩ := hX
  have hown : s.vm.findClass RX4 = some m.cls := hown
  have hK := ho.2 _ _ _ hE
  have hl : lv_has ls 2 [(0, .ref h0), (1, .int t)] := hl
  refine lv_iload_n hx hb dX4_isCake_0 rfl (lv_at hl 1 rfl) ?_
  refine lv_iconst (v := 0) hx hb dX4_isCake_1 (by decide) ?_
  refine lv_aload_n hx hb dX4_isCake_2 rfl (lv_at hl 0 rfl) ?_
  refine va_get (D := gD g) (ci := 0) (v := .ref (a 0)) (C := RX4) (T := TX4) (N := 21) hx hb hts in_X4 hown hK hP 0 rfl rfl 0 (by decide) (hts _ q2314) (fun _ h9 => h9) rfl dX4_isCake_3 ?_
  refine lv_bipush (v := 6) hx hb dX4_isCake_6 (by decide) ?_
  refine h_iald (f := (F 0)) hx hb hK hP 1 0 rfl rfl 6 rfl (by decide) (by decide) dX4_isCake_8 ?_
  refine lv_iconst (v := 1) hx hb dX4_isCake_9 (by decide) ?_
  refine lv_isub hx hb dX4_isCake_10 ?_
  refine rcS (As := [.int t, .int 0, .int ((F 0 6) - 1)]) (rest := []) (st1 := [.int (if inR t 0 ((F 0 6) - 1) then 1 else 0)]) (mX4_isIn l g E ho t 0 ((F 0 6) - 1)) kX4_isIn q2397 hx hb hml hown hts hRf hRl ho.1 hE hS (hP.sub [] rfl) ⟨Nat.zero_le _, Nat.zero_le _⟩ hl ⟨rfl, rfl⟩ rfl rfl (Nat.le_of_ble_eq_true rfl) rfl dX4_isCake_11 ?_
  exact hr_i hQ hx hb hr hlk (by split <;> rfl) (by simp [*]) dX4_isCake_14
theorem kX4_isTown : hkS yX4_isTown cX4_isTown 1 (some .boolean) 1 := ⟨q2544, q78, q2545, by decide +kernel⟩
set_option maxHeartbeats 4000000 in
theorem mX4_isTown (l : Launch) (g : hG) (E : hEnv) (ho : mOk g E) (t : Int32) : RM l yX4_isTown cX4_isTown 1 (some .boolean) 1 22 [.int t] g E [] (some (.int (if inR t 0 5 then 1 else 0))) := by
  refine RM.mk (by decide) (Nat.le_of_ble_eq_true rfl) ?_
  intro p e R s m args below meth c Q ls hX hP hE hS hl hQ
  obtain ⟨hx, hb, hr, hlk, hml, hown, hts, hRf, hRl⟩ := hX
  have hown : s.vm.findClass RX4 = some m.cls := hown
  have hK := ho.2 _ _ _ hE
  have hl : lv_has ls 1 [(0, .int t)] := hl
  refine lv_iload_n hx hb dX4_isTown_0 rfl (lv_at hl 0 rfl) ?_
  refine lv_iconst (v := 0) hx hb dX4_isTown_1 (by decide) ?_
  refine lv_iconst (v := 5) hx hb dX4_isTown_2 (by decide) ?_
  refine rcS (As := [.int t, .int 0, .int 5]) (rest := []) (st1 := [.int (if inR t 0 5 then 1 else 0)]) (mX4_isIn l g E ho t 0 5) kX4_isIn q2397 hx hb hml hown hts hRf hRl ho.1 hE hS (hP.sub [] rfl) ⟨Nat.zero_le _, Nat.zero_le _⟩ hl ⟨rfl, rfl⟩ rfl rfl (Nat.le_of_ble_eq_true rfl) rfl dX4_isTown_3 ?_
  exact hr_i hQ hx hb hr hlk (by split <;> rfl) (rfl) dX4_isTown_6
theorem kX4_isMesh : hkS yX4_isMesh cX4_isMesh 1 (some .boolean) 1 := ⟨q2473, q78, q2474, by decide +kernel⟩
set_option maxHeartbeats 4000000 in
theorem mX4_isMesh (l : Launch) (g : hG) (E : hEnv) (ho : mOk g E) (t : Int32) : RM l yX4_isMesh cX4_isMesh 1 (some .boolean) 1 22 [.int t] g E [] (some (.int (if inR t 1 9 then 1 else 0))) := by
  refine RM.mk (by decide) (Nat.le_of_ble_eq_true rfl) ?_
  intro p e R s m args below meth c Q ls hX hP hE hS hl hQ
  obtain ⟨hx, hb, hr, hlk, hml, hown, hts, hRf, hRl⟩ := hX
  have hown : s.vm.findClass RX4 = some m.cls := hown
  have hK := ho.2 _ _ _ hE
  have hl : lv_has ls 1 [(0, .int t)] := hl
  refine lv_iload_n hx hb dX4_isMesh_0 rfl (lv_at hl 0 rfl) ?_
  refine lv_iconst (v := 1) hx hb dX4_isMesh_1 (by decide) ?_
  refine lv_bipush (v := 9) hx hb dX4_isMesh_2 (by decide) ?_
  refine rcS (As := [.int t, .int 1, .int 9]) (rest := []) (st1 := [.int (if inR t 1 9 then 1 else 0)]) (mX4_isIn l g E ho t 1 9) kX4_isIn q2397 hx hb hml hown hts hRf hRl ho.1 hE hS (hP.sub [] rfl) ⟨Nat.zero_le _, Nat.zero_le _⟩ hl ⟨rfl, rfl⟩ rfl rfl (Nat.le_of_ble_eq_true rfl) rfl dX4_isMesh_4 ?_
  exact hr_i hQ hx hb hr hlk (by split <;> rfl) (rfl) dX4_isMesh_7
theorem kX4_isRefused : hkV RX4 yX4_isRefused cX4_isRefused 4 (some .boolean) 3 := ⟨q2402, qs25, q78, q2403, rfl, by decide +kernel⟩
set_option maxHeartbeats 4000000 in
theorem mX4_isRefused0 (l : Launch) (g : hG) (E : hEnv) (ho : mOk g E) (h0 : Nat) (a : Nat → Nat) (I : Nat → Int32) (F : Nat → Nat → Int32) (r : Int32) (d : Int32) : RM l yX4_isRefused cX4_isRefused 4 (some .boolean) 0 0 [.ref h0, .int 0, .int r, .int d] g E (mW g h0 a I F) (some (.int 0)) := by
  refine RM.mk (by decide) (Nat.le_of_ble_eq_true rfl) ?_
  intro p e R s m args below meth c Q ls hX hP hE hS hl hQ
  obtain ⟨hx, hb, hr, hlk, hml, hown, hts, hRf, hRl⟩ := hX
  have hown : s.vm.findClass RX4 = some m.cls := hown
  have hK := ho.2 _ _ _ hE
  have hl : lv_has ls 4 [(0, .ref h0), (1, .int 0), (2, .int r), (3, .int d)] := hl
  refine lv_iload_n hx hb dX4_isRefused_0 rfl (lv_at hl 1 rfl) ?_
  refine lv_if_eq (tgt := 27) hx hb dX4_isRefused_1 (by decide) (fun _ => ?_) (fun c => absurd c (by decide))
  refine lv_iload_n hx hb dX4_isRefused_27 rfl (lv_at hl 1 rfl) ?_
  exact hr_i hQ hx hb hr hlk rfl (rfl) dX4_isRefused_28
set_option maxHeartbeats 4000000 in
theorem mX4_isRefused1 (l : Launch) (g : hG) (E : hEnv) (ho : mOk g E) (h0 : Nat) (a : Nat → Nat) (I : Nat → Int32) (F : Nat → Nat → Int32) (r : Int32) (d : Int32) : MM l yX4_isRefused cX4_isRefused 4 (some .boolean) 0 0 0 0 [.ref h0, .int 1, .int r, .int d] g E (mW g h0 a I F) (S := Unit) (fun _ => (some (.int 1))) (fun _ => True) (fun _ => mW g h0 a (refI I r d) F) := by
  refine MM.mk (by decide) (Nat.le_of_ble_eq_true rfl) ?_
  intro p e R s m args below meth c Q A H locs ls hX hRc hRs hP hD hE hS hA hnm hl hQ
  obtain ⟨hx, hb, hr, hlk, hml, hown, hts, hRf, hRl⟩ := hX
  have hown : s.vm.findClass RX4 = some m.cls := hown
  have hK := ho.2 _ _ _ hE
  have hl : lv_has ls 4 [(0, .ref h0), (1, .int 1), (2, .int r), (3, .int d)] := hl
  refine lv_iload_n hx hb dX4_isRefused_0 rfl (lv_at hl 1 rfl) ?_
  refine lv_if_eq (tgt := 27) hx hb dX4_isRefused_1 (by decide) (fun c => absurd c (by decide)) (fun _ => ?_)
  refine lv_aload_n hx hb dX4_isRefused_4 rfl (lv_at hl 0 rfl) ?_
  refine lv_iload_n hx hb dX4_isRefused_5 rfl (lv_at hl 2 rfl) ?_
  refine va_put (D := gD g) (ci := 0) (v := .int r) (ty := .int) (C := RX4) (T := TX4) (N := 21) hx hb hts in_X4 tyX4 tyX4_ok nmX4 hown hK hP hD hS 0 rfl rfl 6 (by decide) (hts _ q2320) (fun _ h9 => h9) rfl (by decide +kernel) rfl rfl (Nat.le_of_ble_eq_true rfl) dX4_isRefused_6 (fun H locs hP hD hS => ?_)
  have hP : va_P (gD g) Cl (mW g h0 a (upd I 2 r) F) H := hP
  have hD : va_D A (mW g h0 a (upd I 2 r) F) := hD
  refine lv_aload_n hx hb dX4_isRefused_9 rfl (lv_at hl 0 rfl) ?_
  refine lv_iload_n hx hb dX4_isRefused_10 rfl (lv_at hl 3 rfl) ?_
  refine va_put (D := gD g) (ci := 0) (v := .int d) (ty := .int) (C := RX4) (T := TX4) (N := 21) hx hb hts in_X4 tyX4 tyX4_ok nmX4 hown hK hP hD hS 0 rfl rfl 7 (by decide) (hts _ q2321) (fun _ h9 => h9) rfl (by decide +kernel) rfl rfl (Nat.le_of_ble_eq_true rfl) dX4_isRefused_11 (fun H locs hP hD hS => ?_)
  have hP : va_P (gD g) Cl (mW g h0 a (upd (upd I 2 r) 3 d) F) H := hP
  have hD : va_D A (mW g h0 a (upd (upd I 2 r) 3 d) F) := hD
  refine lv_aload_n hx hb dX4_isRefused_14 rfl (lv_at hl 0 rfl) ?_
  refine lv_aload_n hx hb dX4_isRefused_15 rfl (lv_at hl 0 rfl) ?_
  refine va_get (D := gD g) (ci := 0) (v := .int (I 5)) (C := RX4) (T := TX4) (N := 21) hx hb hts in_X4 hown hK hP 0 rfl rfl 9 (by decide) (hts _ q2323) (fun _ h9 => h9) rfl dX4_isRefused_16 ?_
  refine va_put (D := gD g) (ci := 0) (v := .int (I 5)) (ty := .int) (C := RX4) (T := TX4) (N := 21) hx hb hts in_X4 tyX4 tyX4_ok nmX4 hown hK hP hD hS 0 rfl rfl 8 (by decide) (hts _ q2322) (fun _ h9 => h9) rfl (by decide +kernel) rfl rfl (Nat.le_of_ble_eq_true rfl) dX4_isRefused_19 (fun H locs hP hD hS => ?_)
  have hP : va_P (gD g) Cl (mW g h0 a (upd (upd (upd I 2 r) 3 d) 4 (I 5)) F) H := hP
  have hD : va_D A (mW g h0 a (upd (upd (upd I 2 r) 3 d) 4 (I 5)) F) := hD
  refine lv_aload_n hx hb dX4_isRefused_22 rfl (lv_at hl 0 rfl) ?_
  refine lv_iconst (v := 1) hx hb dX4_isRefused_23 (by decide) ?_
  refine va_put (D := gD g) (ci := 0) (v := .int 1) (ty := .int) (C := RX4) (T := TX4) (N := 21) hx hb hts in_X4 tyX4 tyX4_ok nmX4 hown hK hP hD hS 0 rfl rfl 5 (by decide) (hts _ q2319) (fun _ h9 => h9) rfl (by decide +kernel) rfl rfl (Nat.le_of_ble_eq_true rfl) dX4_isRefused_24 (fun H locs hP hD hS => ?_)
  have hP : va_P (gD g) Cl (mW g h0 a (upd (upd (upd (upd I 2 r) 3 d) 4 (I 5)) 1 1) F) H := hP
  have hD : va_D A (mW g h0 a (upd (upd (upd (upd I 2 r) 3 d) 4 (I 5)) 1 1) F) := hD
  refine lv_iload_n hx hb dX4_isRefused_27 rfl (lv_at hl 1 rfl) ?_
  have hW1 : (mW g h0 a (upd (upd (upd (upd I 2 r) 3 d) 4 (I 5)) 1 1) F) = mW g h0 a (refI I r d) F := by simp only [*, if_true, if_false, not_true_eq_false, not_false_eq_true, reduceIte]
  rw [hW1] at hP hD
  exact hm_i hQ hx hb hr hlk rfl () (rfl) trivial hP hD hS (by decide) (by decide) dX4_isRefused_28
theorem kX4_isThrown : hkV RX4 yX4_isThrown cX4_isThrown 3 (some .boolean) 2 := ⟨q2576, qs48, q78, q2577, rfl, by decide +kernel⟩
set_option maxHeartbeats 4000000 in
theorem mX4_isThrown0 (l : Launch) (g : hG) (E : hEnv) (ho : mOk g E) (h0 : Nat) (a : Nat → Nat) (I : Nat → Int32) (F : Nat → Nat → Int32) (r : Int32) : MM l yX4_isThrown cX4_isThrown 3 (some .boolean) 0 0 0 0 [.ref h0, .int 0, .int r] g E (mW g h0 a I F) (S := Unit) (fun _ => (some (.int 0))) (fun _ => True) (fun _ => mW g h0 a (upd I 1 0) F) := by
  refine MM.mk (by decide) (Nat.le_of_ble_eq_true rfl) ?_
  intro p e R s m args below meth c Q A H locs ls hX hRc hRs hP hD hE hS hA hnm hl hQ
  obtain ⟨hx, hb, hr, hlk, hml, hown, hts, hRf, hRl⟩ := hX
  have hown : s.vm.findClass RX4 = some m.cls := hown
  have hK := ho.2 _ _ _ hE
  have hl : lv_has ls 3 [(0, .ref h0), (1, .int 0), (2, .int r)] := hl
  refine lv_aload_n hx hb dX4_isThrown_0 rfl (lv_at hl 0 rfl) ?_
  refine lv_iload_n hx hb dX4_isThrown_1 rfl (lv_at hl 1 rfl) ?_
  refine lv_if_eq (tgt := 9) hx hb dX4_isThrown_2 (by decide) (fun _ => ?_) (fun c => absurd c (by decide))
  refine lv_iconst (v := 0) hx hb dX4_isThrown_9 (by decide) ?_
  refine va_put (D := gD g) (ci := 0) (v := .int 0) (ty := .int) (C := RX4) (T := TX4) (N := 21) hx hb hts in_X4 tyX4 tyX4_ok nmX4 hown hK hP hD hS 0 rfl rfl 5 (by decide) (hts _ q2319) (fun _ h9 => h9) rfl (by decide +kernel) rfl rfl (Nat.le_of_ble_eq_true rfl) dX4_isThrown_10 (fun H locs hP hD hS => ?_)
  have hP : va_P (gD g) Cl (mW g h0 a (upd I 1 0) F) H := hP
  have hD : va_D A (mW g h0 a (upd I 1 0) F) := hD
  refine lv_iload_n hx hb dX4_isThrown_13 rfl (lv_at hl 1 rfl) ?_
  exact hm_i hQ hx hb hr hlk rfl () (rfl) trivial hP hD hS (by decide) (by decide) dX4_isThrown_14
set_option maxHeartbeats 4000000 in
theorem mX4_isThrown1 (l : Launch) (g : hG) (E : hEnv) (ho : mOk g E) (h0 : Nat) (a : Nat → Nat) (I : Nat → Int32) (F : Nat → Nat → Int32) (r : Int32) : MM l yX4_isThrown cX4_isThrown 3 (some .boolean) 0 0 0 0 [.ref h0, .int 1, .int r] g E (mW g h0 a I F) (S := Unit) (fun _ => (some (.int 1))) (fun _ => True) (fun _ => mW g h0 a (upd I 1 r) F) := by
  refine MM.mk (by decide) (Nat.le_of_ble_eq_true rfl) ?_
  intro p e R s m args below meth c Q A H locs ls hX hRc hRs hP hD hE hS hA hnm hl hQ
  obtain ⟨hx, hb, hr, hlk, hml, hown, hts, hRf, hRl⟩ := hX
  have hown : s.vm.findClass RX4 = some m.cls := hown
  have hK := ho.2 _ _ _ hE
  have hl : lv_has ls 3 [(0, .ref h0), (1, .int 1), (2, .int r)] := hl
  refine lv_aload_n hx hb dX4_isThrown_0 rfl (lv_at hl 0 rfl) ?_
  refine lv_iload_n hx hb dX4_isThrown_1 rfl (lv_at hl 1 rfl) ?_
  refine lv_if_eq (tgt := 9) hx hb dX4_isThrown_2 (by decide) (fun c => absurd c (by decide)) (fun _ => ?_)
  refine lv_iload_n hx hb dX4_isThrown_5 rfl (lv_at hl 2 rfl) ?_
  refine lv_goto (tgt := 10) hx hb dX4_isThrown_6 (by decide) ?_
  refine va_put (D := gD g) (ci := 0) (v := .int r) (ty := .int) (C := RX4) (T := TX4) (N := 21) hx hb hts in_X4 tyX4 tyX4_ok nmX4 hown hK hP hD hS 0 rfl rfl 5 (by decide) (hts _ q2319) (fun _ h9 => h9) rfl (by decide +kernel) rfl rfl (Nat.le_of_ble_eq_true rfl) dX4_isThrown_10 (fun H locs hP hD hS => ?_)
  have hP : va_P (gD g) Cl (mW g h0 a (upd I 1 r) F) H := hP
  have hD : va_D A (mW g h0 a (upd I 1 r) F) := hD
  refine lv_iload_n hx hb dX4_isThrown_13 rfl (lv_at hl 1 rfl) ?_
  exact hm_i hQ hx hb hr hlk rfl () (rfl) trivial hP hD hS (by decide) (by decide) dX4_isThrown_14
theorem kX4_nextLength : hkV RX4 yX4_nextLength cX4_nextLength 2 (some .int) 1 := ⟨q2436, qs31, q78, q2437, rfl, by decide +kernel⟩
set_option maxHeartbeats 4000000 in
theorem mX4_nextLength (l : Launch) (g : hG) (E : hEnv) (ho : mOk g E) (h0 : Nat) (a : Nat → Nat) (I : Nat → Int32) (F : Nat → Nat → Int32) (j : Nat) (hj : j < 10) : RM l yX4_nextLength cX4_nextLength 2 (some .int) 1 21 [.ref h0, .int (nI j)] g E (mW g h0 a I F) (some (.int (nextL (F 0) j))) := by
  refine RM.mk (by decide) (Nat.le_of_ble_eq_true rfl) ?_
  intro p e R s m args below meth c Q ls hX hP hE hS hl hQ
  obtain ⟨hx, hb, hr, hlk, hml, hown, hts, hRf, hRl⟩ := hX
  have hown : s.vm.findClass RX4 = some m.cls := hown
  have hK := ho.2 _ _ _ hE
  have hl : lv_has ls 2 [(0, .ref h0), (1, .int (nI j))] := hl
  refine lv_iconst (v := 1) hx hb dX4_nextLength_0 (by decide) ?_
  refine lv_aload_n hx hb dX4_nextLength_1 rfl (lv_at hl 0 rfl) ?_
  refine va_get (D := gD g) (ci := 0) (v := .ref (a 0)) (C := RX4) (T := TX4) (N := 21) hx hb hts in_X4 hown hK hP 0 rfl rfl 0 (by decide) (hts _ q2314) (fun _ h9 => h9) rfl dX4_nextLength_2 ?_
  refine lv_iload_n hx hb dX4_nextLength_5 rfl (lv_at hl 1 rfl) ?_
  refine lv_iconst (v := 1) hx hb dX4_nextLength_6 (by decide) ?_
  refine rcS (As := [.int (nI j), .int 1]) (rest := [.ref (a 0), .int 1]) (st1 := [.int (nI (33 + 4 * j + 1)), .ref (a 0), .int 1]) (mX4_tailAt l g E ho j 1) kX4_tailAt q2408 hx hb hml hown hts hRf hRl ho.1 hE hS (hP.sub [] rfl) ⟨Nat.zero_le _, Nat.zero_le _⟩ hl ⟨rfl, rfl⟩ rfl rfl (Nat.le_of_ble_eq_true rfl) rfl dX4_nextLength_7 ?_
  refine h_iald (f := (F 0)) hx hb hK hP 1 0 rfl rfl (33 + 4 * j + 1) rfl (by omega) (by decide) dX4_nextLength_10 ?_
  refine lv_iconst (v := 2) hx hb dX4_nextLength_11 (by decide) ?_
  refine lv_aload_n hx hb dX4_nextLength_12 rfl (lv_at hl 0 rfl) ?_
  refine va_get (D := gD g) (ci := 0) (v := .ref (a 0)) (C := RX4) (T := TX4) (N := 21) hx hb hts in_X4 hown hK hP 0 rfl rfl 0 (by decide) (hts _ q2314) (fun _ h9 => h9) rfl dX4_nextLength_13 ?_
  refine lv_iload_n hx hb dX4_nextLength_16 rfl (lv_at hl 1 rfl) ?_
  refine lv_iconst (v := 3) hx hb dX4_nextLength_17 (by decide) ?_
  refine rcS (As := [.int (nI j), .int 3]) (rest := [.ref (a 0), .int 2, .int (F 0 (33 + 4 * j + 1)), .int 1]) (st1 := [.int (nI (33 + 4 * j + 3)), .ref (a 0), .int 2, .int (F 0 (33 + 4 * j + 1)), .int 1]) (mX4_tailAt l g E ho j 3) kX4_tailAt q2408 hx hb hml hown hts hRf hRl ho.1 hE hS (hP.sub [] rfl) ⟨Nat.zero_le _, Nat.zero_le _⟩ hl ⟨rfl, rfl⟩ rfl rfl (Nat.le_of_ble_eq_true rfl) rfl dX4_nextLength_18 ?_
  refine h_iald (f := (F 0)) hx hb hK hP 1 0 rfl rfl (33 + 4 * j + 3) rfl (by omega) (by decide) dX4_nextLength_21 ?_
  refine lv_imul hx hb dX4_nextLength_22 ?_
  refine lv_isub hx hb dX4_nextLength_23 ?_
  refine rcS (As := [.int 1, .int ((F 0 (33 + 4 * j + 1)) - (2 * (F 0 (33 + 4 * j + 3))))]) (rest := []) (st1 := [.int (maxI 1 ((F 0 (33 + 4 * j + 1)) - (2 * (F 0 (33 + 4 * j + 3)))))]) (mX4_greater l g E ho 1 ((F 0 (33 + 4 * j + 1)) - (2 * (F 0 (33 + 4 * j + 3))))) kX4_greater q2438 hx hb hml hown hts hRf hRl ho.1 hE hS (hP.sub [] rfl) ⟨Nat.zero_le _, Nat.zero_le _⟩ hl ⟨rfl, rfl⟩ rfl rfl (Nat.le_of_ble_eq_true rfl) rfl dX4_nextLength_24 ?_
  exact hr_i hQ hx hb hr hlk rfl (by simp [nextL, *]) dX4_nextLength_27
theorem kX4_needs : hkS yX4_needs cX4_needs 1 (some .int) 1 := ⟨q2506, q78, q2507, by decide +kernel⟩
set_option maxHeartbeats 4000000 in
theorem mX4_needs (l : Launch) (g : hG) (E : hEnv) (ho : mOk g E) (k : Int32) : RM l yX4_needs cX4_needs 1 (some .int) 0 0 [.int k] g E [] (some (.int (needsK k))) := by
  refine RM.mk (by decide) (Nat.le_of_ble_eq_true rfl) ?_
  intro p e R s m args below meth c Q ls hX hP hE hS hl hQ
  obtain ⟨hx, hb, hr, hlk, hml, hown, hts, hRf, hRl⟩ := hX
  have hown : s.vm.findClass RX4 = some m.cls := hown
  have hK := ho.2 _ _ _ hE
  have hl : lv_has ls 1 [(0, .int k)] := hl
  refine lv_iload_n hx hb dX4_needs_0 rfl (lv_at hl 0 rfl) ?_
  by_cases c_1 : k = 0
  · refine h_tsw (x := k) (k := 0) (off := 27) (tgt := 28) hx hb dX4_needs_1 (by rw [c_1]; decide) (by decide) (by decide) rfl (by decide) ?_
    refine lv_sipush (v := 150) hx hb dX4_needs_28 (by decide) ?_
    exact hr_i hQ hx hb hr hlk rfl (by simp [needsK, *]) dX4_needs_31
  by_cases c_2 : k = 1
  · refine h_tsw (x := k) (k := 1) (off := 31) (tgt := 32) hx hb dX4_needs_1 (by rw [c_2]; decide) (by decide) (by decide) rfl (by decide) ?_
    refine lv_sipush (v := 160) hx hb dX4_needs_32 (by decide) ?_
    exact hr_i hQ hx hb hr hlk rfl (by simp [needsK, *]) dX4_needs_35
  by_cases c_3 : k = 2
  · refine h_tsw (x := k) (k := 2) (off := 35) (tgt := 36) hx hb dX4_needs_1 (by rw [c_3]; decide) (by decide) (by decide) rfl (by decide) ?_
    refine lv_sipush (v := 180) hx hb dX4_needs_36 (by decide) ?_
    exact hr_i hQ hx hb hr hlk rfl (by simp [needsK, *]) dX4_needs_39
  have e_c_1 : k.toInt ≠ (0) := h_ne (y := 0) c_1
  have e_c_2 : k.toInt ≠ (1) := h_ne (y := 1) c_2
  have e_c_3 : k.toInt ≠ (2) := h_ne (y := 2) c_3
  refine lv_tableOut (tgt := 40) hx hb dX4_needs_1 (by omega) (by decide) ?_
  refine lv_sipush (v := 220) hx hb dX4_needs_40 (by decide) ?_
  exact hr_i hQ hx hb hr hlk rfl (by simp [needsK, *]) dX4_needs_43
theorem kX4_longEnough : hkS yX4_longEnough cX4_longEnough 1 (some .int) 1 := ⟨q2503, q78, q2504, by decide +kernel⟩
set_option maxHeartbeats 4000000 in
theorem mX4_longEnough (l : Launch) (g : hG) (E : hEnv) (ho : mOk g E) (k : Int32) : RM l yX4_longEnough cX4_longEnough 1 (some .int) 0 0 [.int k] g E [] (some (.int (longK k))) := by
  refine RM.mk (by decide) (Nat.le_of_ble_eq_true rfl) ?_
  intro p e R s m args below meth c Q ls hX hP hE hS hl hQ
  obtain ⟨hx, hb, hr, hlk, hml, hown, hts, hRf, hRl⟩ := hX
  have hown : s.vm.findClass RX4 = some m.cls := hown
  have hK := ho.2 _ _ _ hE
  have hl : lv_has ls 1 [(0, .int k)] := hl
  refine lv_iload_n hx hb dX4_longEnough_0 rfl (lv_at hl 0 rfl) ?_
  by_cases c_1 : k = 0
  · refine h_tsw (x := k) (k := 0) (off := 27) (tgt := 28) hx hb dX4_longEnough_1 (by rw [c_1]; decide) (by decide) (by decide) rfl (by decide) ?_
    refine lv_bipush (v := 72) hx hb dX4_longEnough_28 (by decide) ?_
    exact hr_i hQ hx hb hr hlk rfl (by simp [longK, *]) dX4_longEnough_30
  by_cases c_2 : k = 1
  · refine h_tsw (x := k) (k := 1) (off := 30) (tgt := 31) hx hb dX4_longEnough_1 (by rw [c_2]; decide) (by decide) (by decide) rfl (by decide) ?_
    refine lv_bipush (v := 74) hx hb dX4_longEnough_31 (by decide) ?_
    exact hr_i hQ hx hb hr hlk rfl (by simp [longK, *]) dX4_longEnough_33
  by_cases c_3 : k = 2
  · refine h_tsw (x := k) (k := 2) (off := 33) (tgt := 34) hx hb dX4_longEnough_1 (by rw [c_3]; decide) (by decide) (by decide) rfl (by decide) ?_
    refine lv_bipush (v := 70) hx hb dX4_longEnough_34 (by decide) ?_
    exact hr_i hQ hx hb hr hlk rfl (by simp [longK, *]) dX4_longEnough_36
  have e_c_1 : k.toInt ≠ (0) := h_ne (y := 0) c_1
  have e_c_2 : k.toInt ≠ (1) := h_ne (y := 1) c_2
  have e_c_3 : k.toInt ≠ (2) := h_ne (y := 2) c_3
  refine lv_tableOut (tgt := 37) hx hb dX4_longEnough_1 (by omega) (by decide) ?_
  refine lv_bipush (v := 66) hx hb dX4_longEnough_37 (by decide) ?_
  exact hr_i hQ hx hb hr hlk rfl (by simp [longK, *]) dX4_longEnough_39
theorem kX4_canBePlayed : hkS yX4_canBePlayed cX4_canBePlayed 2 (some .boolean) 2 := ⟨q2537, q78, q2538, by decide +kernel⟩
set_option maxHeartbeats 4000000 in
theorem mX4_canBePlayed (l : Launch) (g : hG) (E : hEnv) (ho : mOk g E) (h : Int32) (k : Int32) : RM l yX4_canBePlayed cX4_canBePlayed 2 (some .boolean) 1 20 [.int h, .int k] g E [] (some (.int (if ¬ 2 * h < needsK k then 1 else 0))) := by
  refine RM.mk (by decide) (Nat.le_of_ble_eq_true rfl) ?_
  intro p e R s m args below meth c Q ls hX hP hE hS hl hQ
  obtain ⟨hx, hb, hr, hlk, hml, hown, hts, hRf, hRl⟩ := hX
  have hown : s.vm.findClass RX4 = some m.cls := hown
  have hK := ho.2 _ _ _ hE
  have hl : lv_has ls 2 [(0, .int h), (1, .int k)] := hl
  refine lv_iconst (v := 2) hx hb dX4_canBePlayed_0 (by decide) ?_
  refine lv_iload_n hx hb dX4_canBePlayed_1 rfl (lv_at hl 0 rfl) ?_
  refine lv_imul hx hb dX4_canBePlayed_2 ?_
  refine lv_iload_n hx hb dX4_canBePlayed_3 rfl (lv_at hl 1 rfl) ?_
  refine rcS (As := [.int k]) (rest := [.int (2 * h)]) (st1 := [.int (needsK k), .int (2 * h)]) (mX4_needs l g E ho k) kX4_needs q2505 hx hb hml hown hts hRf hRl ho.1 hE hS (hP.sub [] rfl) ⟨Nat.zero_le _, Nat.zero_le _⟩ hl ⟨rfl, rfl⟩ rfl rfl (Nat.le_of_ble_eq_true rfl) rfl dX4_canBePlayed_4 ?_
  refine lv_icmp_lt (tgt := 14) hx hb dX4_canBePlayed_7 (by decide) (fun c_1 => ?_) (fun c_1 => ?_)
  · refine lv_iconst (v := 0) hx hb dX4_canBePlayed_14 (by decide) ?_
    exact hr_i hQ hx hb hr hlk rfl (by simp [*]) dX4_canBePlayed_15
  refine lv_iconst (v := 1) hx hb dX4_canBePlayed_10 (by decide) ?_
  refine lv_goto (tgt := 15) hx hb dX4_canBePlayed_11 (by decide) ?_
  exact hr_i hQ hx hb hr hlk rfl (by simp [*]) dX4_canBePlayed_15
theorem kX4_gradeBy : hkV RX4 yX4_gradeBy cX4_gradeBy 4 (some .int) 1 := ⟨q2510, qs41, q78, q2511, rfl, by decide +kernel⟩
set_option maxHeartbeats 4000000 in
theorem mX4_gradeBy (l : Launch) (g : hG) (E : hEnv) (ho : mOk g E) (h0 : Nat) (a : Nat → Nat) (I : Nat → Int32) (F : Nat → Nat → Int32) (j : Nat) (hj : j < 20) : RM l yX4_gradeBy cX4_gradeBy 4 (some .int) 2 43 [.ref h0, .int (nI j)] g E (mW g h0 a I F) (some (.int (grade (F 0) j))) := by
  refine RM.mk (by decide) (Nat.le_of_ble_eq_true rfl) ?_
  intro p e R s m args below meth c Q ls hX hP hE hS hl hQ
  obtain ⟨hx, hb, hr, hlk, hml, hown, hts, hRf, hRl⟩ := hX
  have hown : s.vm.findClass RX4 = some m.cls := hown
  have hK := ho.2 _ _ _ hE
  have hl : lv_has ls 4 [(0, .ref h0), (1, .int (nI j))] := hl
  refine lv_aload_n hx hb dX4_gradeBy_0 rfl (lv_at hl 0 rfl) ?_
  refine lv_iload_n hx hb dX4_gradeBy_1 rfl (lv_at hl 1 rfl) ?_
  refine lv_iconst (v := 3) hx hb dX4_gradeBy_2 (by decide) ?_
  refine rcV (As := [.int (nI j), .int 3]) (rest := []) (st1 := [.int (F 0 (73 + 4 * j + 3))]) (mX4_ofHank l g E ho h0 a I F j 3 (by omega)) kX4_ofHank q2453 hx hb hml hown hts hRf hRl ho.1 hE hS hP (va_recv hK hP (ci := 0) (q0 := 0) rfl rfl) ⟨Nat.zero_le _, Nat.zero_le _⟩ hl ⟨rfl, rfl⟩ rfl rfl (Nat.le_of_ble_eq_true rfl) rfl dX4_gradeBy_3 ?_
  refine lv_if_lt (tgt := 13) hx hb dX4_gradeBy_6 (by decide) (fun c_1 => ?_) (fun c_1 => ?_)
  · refine lv_iconst (v := 0) hx hb dX4_gradeBy_13 (by decide) ?_
    refine lv_istore_n (lv' := [(2, .int 0), (0, .ref h0), (1, .int (nI j))]) hx hb dX4_gradeBy_14 rfl hl (by decide) rfl (fun ls hl => ?_)
    refine lv_aload_n hx hb dX4_gradeBy_15 rfl (lv_at hl 1 rfl) ?_
    refine lv_iload_n hx hb dX4_gradeBy_16 rfl (lv_at hl 2 rfl) ?_
    refine lv_iconst (v := 0) hx hb dX4_gradeBy_17 (by decide) ?_
    refine rcV (As := [.int (nI j), .int 0]) (rest := []) (st1 := [.int (F 0 (73 + 4 * j))]) (mX4_ofHank l g E ho h0 a I F j 0 (by omega)) kX4_ofHank q2453 hx hb hml hown hts hRf hRl ho.1 hE hS hP (va_recv hK hP (ci := 0) (q0 := 0) rfl rfl) ⟨Nat.zero_le _, Nat.zero_le _⟩ hl ⟨rfl, rfl⟩ rfl rfl (Nat.le_of_ble_eq_true rfl) rfl dX4_gradeBy_18 ?_
    refine lv_istore_n (lv' := [(3, .int (F 0 (73 + 4 * j))), (2, .int 0), (0, .ref h0), (1, .int (nI j))]) hx hb dX4_gradeBy_21 rfl hl (by decide) rfl (fun ls hl => ?_)
    refine lv_iload_n hx hb dX4_gradeBy_22 rfl (lv_at hl 0 rfl) ?_
    refine lv_if_ne (tgt := 34) hx hb dX4_gradeBy_23 (by decide) (fun c_2 => ?_) (fun c_2 => ?_)
    · refine lv_iload_n hx hb dX4_gradeBy_34 rfl (lv_at hl 0 rfl) ?_
      refine lv_iconst (v := 3) hx hb dX4_gradeBy_35 (by decide) ?_
      refine lv_icmp_ne (tgt := 43) hx hb dX4_gradeBy_36 (by decide) (fun c_3 => ?_) (fun c_3 => ?_)
      · refine lv_iconst (v := 1) hx hb dX4_gradeBy_43 (by decide) ?_
        refine lv_goto (tgt := 48) hx hb dX4_gradeBy_44 (by decide) ?_
        exact hr_i hQ hx hb hr hlk rfl (by first | (simp [grade, *]; done) | exact absurd (c_4.symm.trans c_2) (by decide)) dX4_gradeBy_48
      refine lv_iload_n hx hb dX4_gradeBy_39 rfl (lv_at hl 1 rfl) ?_
      refine lv_if_eq (tgt := 47) hx hb dX4_gradeBy_40 (by decide) (fun _ => ?_) (fun c => absurd c (by decide))
      refine lv_iconst (v := 0) hx hb dX4_gradeBy_47 (by decide) ?_
      exact hr_i hQ hx hb hr hlk rfl (by first | (simp [grade, *]; done) | exact absurd (c_4.symm.trans c_2) (by decide)) dX4_gradeBy_48
    refine lv_iload_n hx hb dX4_gradeBy_26 rfl (lv_at hl 1 rfl) ?_
    refine lv_if_eq (tgt := 34) hx hb dX4_gradeBy_27 (by decide) (fun _ => ?_) (fun c => absurd c (by decide))
    refine lv_iload_n hx hb dX4_gradeBy_34 rfl (lv_at hl 0 rfl) ?_
    refine lv_iconst (v := 3) hx hb dX4_gradeBy_35 (by decide) ?_
    refine lv_icmp_ne (tgt := 43) hx hb dX4_gradeBy_36 (by decide) (fun c_4 => ?_) (fun c_4 => ?_)
    · refine lv_iconst (v := 1) hx hb dX4_gradeBy_43 (by decide) ?_
      refine lv_goto (tgt := 48) hx hb dX4_gradeBy_44 (by decide) ?_
      exact hr_i hQ hx hb hr hlk rfl (by first | (simp [grade, *]; done) | exact absurd (c_4.symm.trans c_2) (by decide)) dX4_gradeBy_48
    refine lv_iload_n hx hb dX4_gradeBy_39 rfl (lv_at hl 1 rfl) ?_
    refine lv_if_eq (tgt := 47) hx hb dX4_gradeBy_40 (by decide) (fun _ => ?_) (fun c => absurd c (by decide))
    refine lv_iconst (v := 0) hx hb dX4_gradeBy_47 (by decide) ?_
    exact hr_i hQ hx hb hr hlk rfl (by first | (simp [grade, *]; done) | exact absurd (c_4.symm.trans c_2) (by decide)) dX4_gradeBy_48
  refine lv_iconst (v := 1) hx hb dX4_gradeBy_9 (by decide) ?_
  refine lv_goto (tgt := 14) hx hb dX4_gradeBy_10 (by decide) ?_
  refine lv_istore_n (lv' := [(2, .int 1), (0, .ref h0), (1, .int (nI j))]) hx hb dX4_gradeBy_14 rfl hl (by decide) rfl (fun ls hl => ?_)
  refine lv_aload_n hx hb dX4_gradeBy_15 rfl (lv_at hl 1 rfl) ?_
  refine lv_iload_n hx hb dX4_gradeBy_16 rfl (lv_at hl 2 rfl) ?_
  refine lv_iconst (v := 0) hx hb dX4_gradeBy_17 (by decide) ?_
  refine rcV (As := [.int (nI j), .int 0]) (rest := []) (st1 := [.int (F 0 (73 + 4 * j))]) (mX4_ofHank l g E ho h0 a I F j 0 (by omega)) kX4_ofHank q2453 hx hb hml hown hts hRf hRl ho.1 hE hS hP (va_recv hK hP (ci := 0) (q0 := 0) rfl rfl) ⟨Nat.zero_le _, Nat.zero_le _⟩ hl ⟨rfl, rfl⟩ rfl rfl (Nat.le_of_ble_eq_true rfl) rfl dX4_gradeBy_18 ?_
  refine lv_istore_n (lv' := [(3, .int (F 0 (73 + 4 * j))), (2, .int 1), (0, .ref h0), (1, .int (nI j))]) hx hb dX4_gradeBy_21 rfl hl (by decide) rfl (fun ls hl => ?_)
  refine lv_iload_n hx hb dX4_gradeBy_22 rfl (lv_at hl 0 rfl) ?_
  refine lv_if_ne (tgt := 34) hx hb dX4_gradeBy_23 (by decide) (fun c_5 => ?_) (fun c_5 => ?_)
  · refine lv_iload_n hx hb dX4_gradeBy_34 rfl (lv_at hl 0 rfl) ?_
    refine lv_iconst (v := 3) hx hb dX4_gradeBy_35 (by decide) ?_
    refine lv_icmp_ne (tgt := 43) hx hb dX4_gradeBy_36 (by decide) (fun c_6 => ?_) (fun c_6 => ?_)
    · refine lv_iconst (v := 1) hx hb dX4_gradeBy_43 (by decide) ?_
      refine lv_goto (tgt := 48) hx hb dX4_gradeBy_44 (by decide) ?_
      exact hr_i hQ hx hb hr hlk rfl (by first | (simp [grade, *]; done) | exact absurd (c_4.symm.trans c_2) (by decide)) dX4_gradeBy_48
    refine lv_iload_n hx hb dX4_gradeBy_39 rfl (lv_at hl 1 rfl) ?_
    refine lv_if_eq (tgt := 47) hx hb dX4_gradeBy_40 (by decide) (fun c => absurd c (by decide)) (fun _ => ?_)
    refine lv_iconst (v := 1) hx hb dX4_gradeBy_43 (by decide) ?_
    refine lv_goto (tgt := 48) hx hb dX4_gradeBy_44 (by decide) ?_
    exact hr_i hQ hx hb hr hlk rfl (by first | (simp [grade, *]; done) | exact absurd (c_4.symm.trans c_2) (by decide)) dX4_gradeBy_48
  refine lv_iload_n hx hb dX4_gradeBy_26 rfl (lv_at hl 1 rfl) ?_
  refine lv_if_eq (tgt := 34) hx hb dX4_gradeBy_27 (by decide) (fun c => absurd c (by decide)) (fun _ => ?_)
  refine lv_iconst (v := 2) hx hb dX4_gradeBy_30 (by decide) ?_
  refine lv_goto (tgt := 48) hx hb dX4_gradeBy_31 (by decide) ?_
  exact hr_i hQ hx hb hr hlk rfl (by first | (simp [grade, *]; done) | exact absurd (c_4.symm.trans c_2) (by decide)) dX4_gradeBy_48
theorem kX4_isFair : hkV RX4 yX4_isFair cX4_isFair 1 (some .boolean) 0 := ⟨q2564, qs47, q78, q2565, rfl, by decide +kernel⟩
set_option maxHeartbeats 4000000 in
theorem mX4_isFair (l : Launch) (g : hG) (E : hEnv) (ho : mOk g E) (h0 : Nat) (a : Nat → Nat) (I : Nat → Int32) (F : Nat → Nat → Int32) : RM l yX4_isFair cX4_isFair 1 (some .boolean) 0 0 [.ref h0] g E (mW g h0 a I F) (some (.int (if fairP (F 0) then 1 else 0))) := by
  refine RM.mk (by decide) (Nat.le_of_ble_eq_true rfl) ?_
  intro p e R s m args below meth c Q ls hX hP hE hS hl hQ
  obtain ⟨hx, hb, hr, hlk, hml, hown, hts, hRf, hRl⟩ := hX
  have hown : s.vm.findClass RX4 = some m.cls := hown
  have hK := ho.2 _ _ _ hE
  have hl : lv_has ls 1 [(0, .ref h0)] := hl
  refine lv_aload_n hx hb dX4_isFair_0 rfl (lv_at hl 0 rfl) ?_
  refine va_get (D := gD g) (ci := 0) (v := .ref (a 0)) (C := RX4) (T := TX4) (N := 21) hx hb hts in_X4 hown hK hP 0 rfl rfl 0 (by decide) (hts _ q2314) (fun _ h9 => h9) rfl dX4_isFair_1 ?_
  refine lv_iconst (v := 1) hx hb dX4_isFair_4 (by decide) ?_
  refine h_iald (f := (F 0)) hx hb hK hP 1 0 rfl rfl 1 rfl (by decide) (by decide) dX4_isFair_5 ?_
  refine lv_bipush (v := 7) hx hb dX4_isFair_6 (by decide) ?_
  refine lv_irem hx hb dX4_isFair_8 (by decide) ?_
  refine lv_aload_n hx hb dX4_isFair_9 rfl (lv_at hl 0 rfl) ?_
  refine va_get (D := gD g) (ci := 0) (v := .ref (a 0)) (C := RX4) (T := TX4) (N := 21) hx hb hts in_X4 hown hK hP 0 rfl rfl 0 (by decide) (hts _ q2314) (fun _ h9 => h9) rfl dX4_isFair_10 ?_
  refine lv_iconst (v := 2) hx hb dX4_isFair_13 (by decide) ?_
  refine h_iald (f := (F 0)) hx hb hK hP 1 0 rfl rfl 2 rfl (by decide) (by decide) dX4_isFair_14 ?_
  refine lv_icmp_ne (tgt := 22) hx hb dX4_isFair_15 (by decide) (fun c_1 => ?_) (fun c_1 => ?_)
  · refine lv_iconst (v := 0) hx hb dX4_isFair_22 (by decide) ?_
    exact hr_i hQ hx hb hr hlk rfl (by simp [fairP, *]) dX4_isFair_23
  refine lv_iconst (v := 1) hx hb dX4_isFair_18 (by decide) ?_
  refine lv_goto (tgt := 23) hx hb dX4_isFair_19 (by decide) ?_
  exact hr_i hQ hx hb hr hlk rfl (by simp [fairP, *]) dX4_isFair_23
