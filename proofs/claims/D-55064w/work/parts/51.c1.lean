/-! THE COMPONENT: leaves -/
set_option maxRecDepth 100000
theorem min_le {x y : Int32} (h : x ≤ y) : minI x y = x := by
  unfold minI
  split
  · next z => exact Int32.le_antisymm z h
  · rfl
theorem min_gt {x y : Int32} (h : ¬ x ≤ y) : minI x y = y := if_pos (Int32.le_of_lt (Int32.not_le.mp h))
theorem max_lt {x y : Int32} (h : x < y) : maxI x y = y := if_pos (Int32.le_of_lt h)
theorem max_ge {x y : Int32} (h : ¬ x < y) : maxI x y = x := by
  unfold maxI
  split
  · next z => exact Int32.le_antisymm (Int32.not_lt.mp h) z
  · rfl

theorem h_max (x y : Int32) : (if x < y then y else x) = maxI x y := by
  split
  · next h => rw [max_lt h]
  · next h => rw [max_ge h]
theorem h_min (x y : Int32) : (if y < x then y else x) = minI x y := by
  split
  · next h => rw [min_gt (Int32.not_le.mpr h)]
  · next h => rw [min_le (Int32.not_lt.mp h)]

theorem kX1_isBetween : hkS yX1_isBetween cX1_isBetween 3 (some .boolean) 3 := ⟨q1091, q67, q1092, by decide +kernel⟩
set_option maxHeartbeats 4000000 in
theorem jX1_isBetween (l : Launch) (g : hG) (E : hEnv) (ho : jOk g E) (v : Int32) (lo : Int32) (hi : Int32) : RM l yX1_isBetween cX1_isBetween 3 (some .boolean) 0 0 [.int v, .int lo, .int hi] g E [] (some (.int (if inR v lo hi then 1 else 0))) := by
  refine RM.mk (by decide) (Nat.le_of_ble_eq_true rfl) ?_
  intro p e R s m args below meth c Q ls hX hP hE hS hl hQ
  obtain ⟨hx, hb, hr, hlk, hml, hown, hts, hRf, hRl⟩ := hX
  have hown : s.vm.findClass RX1 = some m.cls := hown
  have hj := ho.2 _ _ _ hE
  have hK := hj.kn
  have hl : lv_has ls 3 [(0, .int v), (1, .int lo), (2, .int hi)] := hl
  refine lv_iload_n hx hb dX1_isBetween_0 rfl (lv_at hl 1 rfl) ?_
  refine lv_iload_n hx hb dX1_isBetween_1 rfl (lv_at hl 0 rfl) ?_
  refine lv_icmp_gt (tgt := 14) hx hb dX1_isBetween_2 (by decide) (fun c_1 => ?_) (fun c_1 => ?_)
  · refine lv_iconst (v := 0) hx hb dX1_isBetween_14 (by decide) ?_
    exact hr_i hQ hx hb hr hlk rfl (by simp [inR, *]) dX1_isBetween_15
  refine lv_iload_n hx hb dX1_isBetween_5 rfl (lv_at hl 0 rfl) ?_
  refine lv_iload_n hx hb dX1_isBetween_6 rfl (lv_at hl 2 rfl) ?_
  refine lv_icmp_gt (tgt := 14) hx hb dX1_isBetween_7 (by decide) (fun c_2 => ?_) (fun c_2 => ?_)
  · refine lv_iconst (v := 0) hx hb dX1_isBetween_14 (by decide) ?_
    exact hr_i hQ hx hb hr hlk rfl (by simp [inR, *]) dX1_isBetween_15
  refine lv_iconst (v := 1) hx hb dX1_isBetween_10 (by decide) ?_
  refine lv_goto (tgt := 15) hx hb dX1_isBetween_11 (by decide) ?_
  exact hr_i hQ hx hb hr hlk rfl (by simp [inR, *]) dX1_isBetween_15
theorem kX2_isFairOn : hkS yX2_isFairOn cX2_isFairOn 2 (some .boolean) 2 := ⟨q315, q68, q316, by decide +kernel⟩
set_option maxHeartbeats 4000000 in
theorem jX2_isFairOn (l : Launch) (g : hG) (E : hEnv) (ho : jOk g E) (dy : Int32) (tw : Int32) : RM l yX2_isFairOn cX2_isFairOn 2 (some .boolean) 0 0 [.int dy, .int tw] g E [] (some (.int (if dy - dy / 7 * 7 = tw then 1 else 0))) := by
  refine RM.mk (by decide) (Nat.le_of_ble_eq_true rfl) ?_
  intro p e R s m args below meth c Q ls hX hP hE hS hl hQ
  obtain ⟨hx, hb, hr, hlk, hml, hown, hts, hRf, hRl⟩ := hX
  have hown : s.vm.findClass RX2 = some m.cls := hown
  have hj := ho.2 _ _ _ hE
  have hK := hj.kn
  have hl : lv_has ls 2 [(0, .int dy), (1, .int tw)] := hl
  refine lv_iload_n hx hb dX2_isFairOn_0 rfl (lv_at hl 0 rfl) ?_
  refine lv_bipush (v := 7) hx hb dX2_isFairOn_1 (by decide) ?_
  refine lv_irem hx hb dX2_isFairOn_3 (by decide) ?_
  refine lv_iload_n hx hb dX2_isFairOn_4 rfl (lv_at hl 1 rfl) ?_
  refine lv_icmp_ne (tgt := 12) hx hb dX2_isFairOn_5 (by decide) (fun c_1 => ?_) (fun c_1 => ?_)
  · refine lv_iconst (v := 0) hx hb dX2_isFairOn_12 (by decide) ?_
    exact hr_i hQ hx hb hr hlk rfl (by simp [*]) dX2_isFairOn_13
  refine lv_iconst (v := 1) hx hb dX2_isFairOn_8 (by decide) ?_
  refine lv_goto (tgt := 13) hx hb dX2_isFairOn_9 (by decide) ?_
  exact hr_i hQ hx hb hr hlk rfl (by simp [*]) dX2_isFairOn_13
theorem kX9_nextLength : hkV RX9 yX9_nextLength cX9_nextLength 1 (some .int) 0 := ⟨q1151, q1152, q85, q1153, rfl, by decide +kernel⟩
set_option maxHeartbeats 4000000 in
theorem jX9_nextLength (l : Launch) (g : hG) (E : hEnv) (ho : jOk g E) (q : Nat) (co : Int32) (ln : Int32) (hs : Int32) (hk : Int32) : RM l yX9_nextLength cX9_nextLength 1 (some .int) 1 30 [.ref q] g E [(q, .inr (8, [.int co, .int ln, .int hs, .int hk]))] (some (.int (maxI 1 (ln - (2 * hk))))) := by
  refine RM.mk (by decide) (Nat.le_of_ble_eq_true rfl) ?_
  intro p e R s m args below meth c Q ls hX hP hE hS hl hQ
  obtain ⟨hx, hb, hr, hlk, hml, hown, hts, hRf, hRl⟩ := hX
  have hown : s.vm.findClass RX9 = some m.cls := hown
  have hj := ho.2 _ _ _ hE
  have hK := hj.kn
  have hl : lv_has ls 1 [(0, .ref q)] := hl
  refine lv_iconst (v := 1) hx hb dX9_nextLength_0 (by decide) ?_
  refine lv_aload_n hx hb dX9_nextLength_1 rfl (lv_at hl 0 rfl) ?_
  refine va_get (D := gD g) (ci := 8) (v := .int ln) (C := RX9) (T := TX9) (N := 4) hx hb hts in_X9 hown hK hP 0 rfl rfl 1 (by decide) (hts _ q907) (fun _ h9 => h9) rfl dX9_nextLength_2 ?_
  refine lv_iconst (v := 2) hx hb dX9_nextLength_5 (by decide) ?_
  refine lv_aload_n hx hb dX9_nextLength_6 rfl (lv_at hl 0 rfl) ?_
  refine va_get (D := gD g) (ci := 8) (v := .int hk) (C := RX9) (T := TX9) (N := 4) hx hb hts in_X9 hown hK hP 0 rfl rfl 3 (by decide) (hts _ q912) (fun _ h9 => h9) rfl dX9_nextLength_7 ?_
  refine lv_imul hx hb dX9_nextLength_10 ?_
  refine lv_isub hx hb dX9_nextLength_11 ?_
  refine va_mmax (x := 1) (y := ln - (2 * hk)) hx hb (by rw [hml]; exact hl.1.symm) hown (hts _ q1154) (hts _ q363) (hts _ q87) (hts _ q364) (Nat.le_trans (Nat.le_of_ble_eq_true rfl) hRf) (Nat.le_trans (Nat.le_of_ble_eq_true rfl) hRl) (Nat.zero_le _) (Nat.zero_le _) dX9_nextLength_12 ?_
  refine h_topi (v := maxI 1 (ln - (2 * hk))) (h_max _ _) ?_
  exact hr_i hQ hx hb hr hlk rfl (rfl) dX9_nextLength_15
theorem kX8_quality : hkV RX8 yX8_quality cX8_quality 1 (some .int) 0 := ⟨q1210, q1211, q84, q1212, rfl, by decide +kernel⟩
set_option maxHeartbeats 4000000 in
theorem jX8_quality (l : Launch) (g : hG) (E : hEnv) (ho : jOk g E) (q : Nat) (hs : Int32) (ln : Int32) (co : Int32) (tl : Int32) : RM l yX8_quality cX8_quality 1 (some .int) 0 0 [.ref q] g E [(q, .inr (7, [.int hs, .int ln, .int co, .int tl]))] (some (.int (if co = 0 ∧ ¬ tl = -1 then 2 else if ¬ co = 3 ∨ ¬ tl = -1 then 1 else 0))) := by
  refine RM.mk (by decide) (Nat.le_of_ble_eq_true rfl) ?_
  intro p e R s m args below meth c Q ls hX hP hE hS hl hQ
  obtain ⟨hx, hb, hr, hlk, hml, hown, hts, hRf, hRl⟩ := hX
  have hown : s.vm.findClass RX8 = some m.cls := hown
  have hj := ho.2 _ _ _ hE
  have hK := hj.kn
  have hl : lv_has ls 1 [(0, .ref q)] := hl
  refine lv_aload_n hx hb dX8_quality_0 rfl (lv_at hl 0 rfl) ?_
  refine va_get (D := gD g) (ci := 7) (v := .int co) (C := RX8) (T := TX8) (N := 4) hx hb hts in_X8 hown hK hP 0 rfl rfl 2 (by decide) (hts _ q874) (fun _ h9 => h9) rfl dX8_quality_1 ?_
  refine lv_if_ne (tgt := 17) hx hb dX8_quality_4 (by decide) (fun c_1 => ?_) (fun c_1 => ?_)
  · refine lv_aload_n hx hb dX8_quality_17 rfl (lv_at hl 0 rfl) ?_
    refine va_get (D := gD g) (ci := 7) (v := .int co) (C := RX8) (T := TX8) (N := 4) hx hb hts in_X8 hown hK hP 0 rfl rfl 2 (by decide) (hts _ q874) (fun _ h9 => h9) rfl dX8_quality_18 ?_
    refine lv_iconst (v := 3) hx hb dX8_quality_21 (by decide) ?_
    refine lv_icmp_ne (tgt := 33) hx hb dX8_quality_22 (by decide) (fun c_2 => ?_) (fun c_2 => ?_)
    · refine lv_iconst (v := 1) hx hb dX8_quality_33 (by decide) ?_
      refine lv_goto (tgt := 38) hx hb dX8_quality_34 (by decide) ?_
      exact hr_i hQ hx hb hr hlk rfl (by first | (simp [*]; done) | (subst c_1; exact absurd c_5 (by decide))) dX8_quality_38
    refine lv_aload_n hx hb dX8_quality_25 rfl (lv_at hl 0 rfl) ?_
    refine va_get (D := gD g) (ci := 7) (v := .int tl) (C := RX8) (T := TX8) (N := 4) hx hb hts in_X8 hown hK hP 0 rfl rfl 3 (by decide) (hts _ q876) (fun _ h9 => h9) rfl dX8_quality_26 ?_
    refine lv_iconst (v := (-1)) hx hb dX8_quality_29 (by decide) ?_
    refine lv_icmp_eq (tgt := 37) hx hb dX8_quality_30 (by decide) (fun c_3 => ?_) (fun c_3 => ?_)
    · refine lv_iconst (v := 0) hx hb dX8_quality_37 (by decide) ?_
      exact hr_i hQ hx hb hr hlk rfl (by first | (simp [*]; done) | (subst c_1; exact absurd c_5 (by decide))) dX8_quality_38
    refine lv_iconst (v := 1) hx hb dX8_quality_33 (by decide) ?_
    refine lv_goto (tgt := 38) hx hb dX8_quality_34 (by decide) ?_
    exact hr_i hQ hx hb hr hlk rfl (by first | (simp [*]; done) | (subst c_1; exact absurd c_5 (by decide))) dX8_quality_38
  refine lv_aload_n hx hb dX8_quality_7 rfl (lv_at hl 0 rfl) ?_
  refine va_get (D := gD g) (ci := 7) (v := .int tl) (C := RX8) (T := TX8) (N := 4) hx hb hts in_X8 hown hK hP 0 rfl rfl 3 (by decide) (hts _ q876) (fun _ h9 => h9) rfl dX8_quality_8 ?_
  refine lv_iconst (v := (-1)) hx hb dX8_quality_11 (by decide) ?_
  refine lv_icmp_eq (tgt := 17) hx hb dX8_quality_12 (by decide) (fun c_4 => ?_) (fun c_4 => ?_)
  · refine lv_aload_n hx hb dX8_quality_17 rfl (lv_at hl 0 rfl) ?_
    refine va_get (D := gD g) (ci := 7) (v := .int co) (C := RX8) (T := TX8) (N := 4) hx hb hts in_X8 hown hK hP 0 rfl rfl 2 (by decide) (hts _ q874) (fun _ h9 => h9) rfl dX8_quality_18 ?_
    refine lv_iconst (v := 3) hx hb dX8_quality_21 (by decide) ?_
    refine lv_icmp_ne (tgt := 33) hx hb dX8_quality_22 (by decide) (fun c_5 => ?_) (fun c_5 => ?_)
    · refine lv_iconst (v := 1) hx hb dX8_quality_33 (by decide) ?_
      refine lv_goto (tgt := 38) hx hb dX8_quality_34 (by decide) ?_
      exact hr_i hQ hx hb hr hlk rfl (by first | (simp [*]; done) | (subst c_1; exact absurd c_5 (by decide))) dX8_quality_38
    refine lv_aload_n hx hb dX8_quality_25 rfl (lv_at hl 0 rfl) ?_
    refine va_get (D := gD g) (ci := 7) (v := .int tl) (C := RX8) (T := TX8) (N := 4) hx hb hts in_X8 hown hK hP 0 rfl rfl 3 (by decide) (hts _ q876) (fun _ h9 => h9) rfl dX8_quality_26 ?_
    refine lv_iconst (v := (-1)) hx hb dX8_quality_29 (by decide) ?_
    refine lv_icmp_eq (tgt := 37) hx hb dX8_quality_30 (by decide) (fun c_6 => ?_) (fun c_6 => ?_)
    · refine lv_iconst (v := 0) hx hb dX8_quality_37 (by decide) ?_
      exact hr_i hQ hx hb hr hlk rfl (by first | (simp [*]; done) | (subst c_1; exact absurd c_5 (by decide))) dX8_quality_38
    refine lv_iconst (v := 1) hx hb dX8_quality_33 (by decide) ?_
    refine lv_goto (tgt := 38) hx hb dX8_quality_34 (by decide) ?_
    exact hr_i hQ hx hb hr hlk rfl (by first | (simp [*]; done) | (subst c_1; exact absurd c_5 (by decide))) dX8_quality_38
  refine lv_iconst (v := 2) hx hb dX8_quality_15 (by decide) ?_
  exact hr_i hQ hx hb hr hlk rfl (by first | (simp [*]; done) | (subst c_1; exact absurd c_5 (by decide))) dX8_quality_16
theorem kX9_init : hkI yX9_init cX9_init 4 3 := ⟨q901, q85, q902, rfl, by decide +kernel⟩
set_option maxHeartbeats 4000000 in
theorem jX9_init (l : Launch) (g : hG) (E : hEnv) (ho : jOk g E) (q : Nat) (co : Int32) (ln : Int32) (hs : Int32) : MM l yX9_init cX9_init 4 none 1 30 0 0 [.ref q, .int co, .int ln, .int hs] g E [(q, .inr (8, [.int 0, .int 0, .int 0, .int 0]))] (S := Unit) (fun _ => none) (fun _ => True) (fun _ => [(q, .inr (8, [.int co, .int ln, .int hs, .int 0]))]) := by
  refine MM.mk (by decide) (Nat.le_of_ble_eq_true rfl) ?_
  intro p e R s m args below meth c Q A H locs ls hX hRc hRs hP hD hE hS hA hnm hl hQ
  obtain ⟨hx, hb, hr, hlk, hml, hown, hts, hRf, hRl⟩ := hX
  have hown : s.vm.findClass RX9 = some m.cls := hown
  have hj := ho.2 _ _ _ hE
  have hK := hj.kn
  have hl : lv_has ls 4 [(0, .ref q), (1, .int co), (2, .int ln), (3, .int hs)] := hl
  refine lv_aload_n hx hb dX9_init_0 rfl (lv_at hl 0 rfl) ?_
  refine W.objInit hx hb hown (hts _ q903) (hts _ q121) (hts _ q122) rfl (by rw [hml]; exact hl.1) rfl dX9_init_1 (Nat.le_trans (Nat.le_of_ble_eq_true rfl) hRf) (Nat.le_trans (Nat.le_of_ble_eq_true rfl) hRl) ?_
  refine lv_aload_n hx hb dX9_init_4 rfl (lv_at hl 0 rfl) ?_
  refine lv_iload_n hx hb dX9_init_5 rfl (lv_at hl 1 rfl) ?_
  refine va_putF (D := gD g) (ci := 8) (v := .int co) (ty := .int) (C := RX9) (T := TX9) (N := 4) hx hb hts in_X9 tyX9 tyX9_ok nmX9 hown hK hP hD hS 0 rfl rfl 0 (by decide) (hts _ q904) (fun _ h9 => h9) rfl hnm rfl (by decide +kernel) rfl rfl (Nat.le_of_ble_eq_true rfl) dX9_init_6 (fun H locs hP hD hS => ?_)
  have hP : va_P (gD g) Cl [(q, .inr (8, [.int co, .int 0, .int 0, .int 0]))] H := hP
  have hD : va_D A [(q, .inr (8, [.int co, .int 0, .int 0, .int 0]))] := hD
  refine lv_aload_n hx hb dX9_init_9 rfl (lv_at hl 0 rfl) ?_
  refine lv_iload_n hx hb dX9_init_10 rfl (lv_at hl 2 rfl) ?_
  refine va_putF (D := gD g) (ci := 8) (v := .int ln) (ty := .int) (C := RX9) (T := TX9) (N := 4) hx hb hts in_X9 tyX9 tyX9_ok nmX9 hown hK hP hD hS 0 rfl rfl 1 (by decide) (hts _ q907) (fun _ h9 => h9) rfl hnm rfl (by decide +kernel) rfl rfl (Nat.le_of_ble_eq_true rfl) dX9_init_11 (fun H locs hP hD hS => ?_)
  have hP : va_P (gD g) Cl [(q, .inr (8, [.int co, .int ln, .int 0, .int 0]))] H := hP
  have hD : va_D A [(q, .inr (8, [.int co, .int ln, .int 0, .int 0]))] := hD
  refine lv_aload_n hx hb dX9_init_14 rfl (lv_at hl 0 rfl) ?_
  refine lv_iload_n hx hb dX9_init_15 rfl (lv_at hl 3 rfl) ?_
  refine va_put (D := gD g) (ci := 8) (v := .int hs) (ty := .int) (C := RX9) (T := TX9) (N := 4) hx hb hts in_X9 tyX9 tyX9_ok nmX9 hown hK hP hD hS 0 rfl rfl 2 (by decide) (hts _ q909) (fun _ h9 => h9) rfl (by decide +kernel) rfl rfl (Nat.le_of_ble_eq_true rfl) dX9_init_16 (fun H locs hP hD hS => ?_)
  have hP : va_P (gD g) Cl [(q, .inr (8, [.int co, .int ln, .int hs, .int 0]))] H := hP
  have hD : va_D A [(q, .inr (8, [.int co, .int ln, .int hs, .int 0]))] := hD
  exact hm_v hQ hx hb hr hlk () rfl trivial hP hD hS (by decide) (by decide) dX9_init_19
theorem kX8_init : hkI yX8_init cX8_init 5 4 := ⟨q865, q84, q866, rfl, by decide +kernel⟩
set_option maxHeartbeats 4000000 in
theorem jX8_init (l : Launch) (g : hG) (E : hEnv) (ho : jOk g E) (q : Nat) (hs : Int32) (ln : Int32) (co : Int32) (tl : Int32) : MM l yX8_init cX8_init 5 none 1 30 0 0 [.ref q, .int hs, .int ln, .int co, .int tl] g E [(q, .inr (7, [.int 0, .int 0, .int 0, .int 0]))] (S := Unit) (fun _ => none) (fun _ => True) (fun _ => [(q, .inr (7, [.int hs, .int ln, .int co, .int tl]))]) := by
  refine MM.mk (by decide) (Nat.le_of_ble_eq_true rfl) ?_
  intro p e R s m args below meth c Q A H locs ls hX hRc hRs hP hD hE hS hA hnm hl hQ
  obtain ⟨hx, hb, hr, hlk, hml, hown, hts, hRf, hRl⟩ := hX
  have hown : s.vm.findClass RX8 = some m.cls := hown
  have hj := ho.2 _ _ _ hE
  have hK := hj.kn
  have hl : lv_has ls 5 [(0, .ref q), (1, .int hs), (2, .int ln), (3, .int co), (4, .int tl)] := hl
  refine lv_aload_n hx hb dX8_init_0 rfl (lv_at hl 0 rfl) ?_
  refine W.objInit hx hb hown (hts _ q867) (hts _ q121) (hts _ q122) rfl (by rw [hml]; exact hl.1) rfl dX8_init_1 (Nat.le_trans (Nat.le_of_ble_eq_true rfl) hRf) (Nat.le_trans (Nat.le_of_ble_eq_true rfl) hRl) ?_
  refine lv_aload_n hx hb dX8_init_4 rfl (lv_at hl 0 rfl) ?_
  refine lv_iload_n hx hb dX8_init_5 rfl (lv_at hl 1 rfl) ?_
  refine va_put (D := gD g) (ci := 7) (v := .int hs) (ty := .int) (C := RX8) (T := TX8) (N := 4) hx hb hts in_X8 tyX8 tyX8_ok nmX8 hown hK hP hD hS 0 rfl rfl 0 (by decide) (hts _ q868) (fun _ h9 => h9) rfl (by decide +kernel) rfl rfl (Nat.le_of_ble_eq_true rfl) dX8_init_6 (fun H locs hP hD hS => ?_)
  have hP : va_P (gD g) Cl [(q, .inr (7, [.int hs, .int 0, .int 0, .int 0]))] H := hP
  have hD : va_D A [(q, .inr (7, [.int hs, .int 0, .int 0, .int 0]))] := hD
  refine lv_aload_n hx hb dX8_init_9 rfl (lv_at hl 0 rfl) ?_
  refine lv_iload_n hx hb dX8_init_10 rfl (lv_at hl 2 rfl) ?_
  refine va_put (D := gD g) (ci := 7) (v := .int ln) (ty := .int) (C := RX8) (T := TX8) (N := 4) hx hb hts in_X8 tyX8 tyX8_ok nmX8 hown hK hP hD hS 0 rfl rfl 1 (by decide) (hts _ q871) (fun _ h9 => h9) rfl (by decide +kernel) rfl rfl (Nat.le_of_ble_eq_true rfl) dX8_init_11 (fun H locs hP hD hS => ?_)
  have hP : va_P (gD g) Cl [(q, .inr (7, [.int hs, .int ln, .int 0, .int 0]))] H := hP
  have hD : va_D A [(q, .inr (7, [.int hs, .int ln, .int 0, .int 0]))] := hD
  refine lv_aload_n hx hb dX8_init_14 rfl (lv_at hl 0 rfl) ?_
  refine lv_iload_n hx hb dX8_init_15 rfl (lv_at hl 3 rfl) ?_
  refine va_put (D := gD g) (ci := 7) (v := .int co) (ty := .int) (C := RX8) (T := TX8) (N := 4) hx hb hts in_X8 tyX8 tyX8_ok nmX8 hown hK hP hD hS 0 rfl rfl 2 (by decide) (hts _ q874) (fun _ h9 => h9) rfl (by decide +kernel) rfl rfl (Nat.le_of_ble_eq_true rfl) dX8_init_16 (fun H locs hP hD hS => ?_)
  have hP : va_P (gD g) Cl [(q, .inr (7, [.int hs, .int ln, .int co, .int 0]))] H := hP
  have hD : va_D A [(q, .inr (7, [.int hs, .int ln, .int co, .int 0]))] := hD
  refine lv_aload_n hx hb dX8_init_19 rfl (lv_at hl 0 rfl) ?_
  refine lv_iload hx hb dX8_init_20 (lv_at hl 4 rfl) ?_
  refine va_put (D := gD g) (ci := 7) (v := .int tl) (ty := .int) (C := RX8) (T := TX8) (N := 4) hx hb hts in_X8 tyX8 tyX8_ok nmX8 hown hK hP hD hS 0 rfl rfl 3 (by decide) (hts _ q876) (fun _ h9 => h9) rfl (by decide +kernel) rfl rfl (Nat.le_of_ble_eq_true rfl) dX8_init_22 (fun H locs hP hD hS => ?_)
  have hP : va_P (gD g) Cl [(q, .inr (7, [.int hs, .int ln, .int co, .int tl]))] H := hP
  have hD : va_D A [(q, .inr (7, [.int hs, .int ln, .int co, .int tl]))] := hD
  exact hm_v hQ hx hb hr hlk () rfl trivial hP hD hS (by decide) (by decide) dX8_init_25
theorem kX6_init : hkI yX6_init cX6_init 2 1 := ⟨q792, q82, q793, rfl, by decide +kernel⟩
set_option maxHeartbeats 4000000 in
theorem jX6_init (l : Launch) (g : hG) (E : hEnv) (ho : jOk g E) (q : Nat) (kd : Int32) : MM l yX6_init cX6_init 2 none 1 30 0 0 [.ref q, .int kd] g E [(q, .inr (5, [.int 0, .int 0, .int 0, .int 0, .int 0, .int 0, .int 0]))] (S := Unit) (fun _ => none) (fun _ => True) (fun _ => [(q, .inr (5, [.int kd, .int 0, .int 0, .int (-1), .int (-1), .int 0, .int 0]))]) := by
  refine MM.mk (by decide) (Nat.le_of_ble_eq_true rfl) ?_
  intro p e R s m args below meth c Q A H locs ls hX hRc hRs hP hD hE hS hA hnm hl hQ
  obtain ⟨hx, hb, hr, hlk, hml, hown, hts, hRf, hRl⟩ := hX
  have hown : s.vm.findClass RX6 = some m.cls := hown
  have hj := ho.2 _ _ _ hE
  have hK := hj.kn
  have hl : lv_has ls 2 [(0, .ref q), (1, .int kd)] := hl
  refine lv_aload_n hx hb dX6_init_0 rfl (lv_at hl 0 rfl) ?_
  refine W.objInit hx hb hown (hts _ q794) (hts _ q121) (hts _ q122) rfl (by rw [hml]; exact hl.1) rfl dX6_init_1 (Nat.le_trans (Nat.le_of_ble_eq_true rfl) hRf) (Nat.le_trans (Nat.le_of_ble_eq_true rfl) hRl) ?_
  refine lv_aload_n hx hb dX6_init_4 rfl (lv_at hl 0 rfl) ?_
  refine lv_iload_n hx hb dX6_init_5 rfl (lv_at hl 1 rfl) ?_
  refine va_putF (D := gD g) (ci := 5) (v := .int kd) (ty := .int) (C := RX6) (T := TX6) (N := 7) hx hb hts in_X6 tyX6 tyX6_ok nmX6 hown hK hP hD hS 0 rfl rfl 0 (by decide) (hts _ q795) (fun _ h9 => h9) rfl hnm rfl (by decide +kernel) rfl rfl (Nat.le_of_ble_eq_true rfl) dX6_init_6 (fun H locs hP hD hS => ?_)
  have hP : va_P (gD g) Cl [(q, .inr (5, [.int kd, .int 0, .int 0, .int 0, .int 0, .int 0, .int 0]))] H := hP
  have hD : va_D A [(q, .inr (5, [.int kd, .int 0, .int 0, .int 0, .int 0, .int 0, .int 0]))] := hD
  refine lv_aload_n hx hb dX6_init_9 rfl (lv_at hl 0 rfl) ?_
  refine lv_iconst (v := (-1)) hx hb dX6_init_10 (by decide) ?_
  refine va_put (D := gD g) (ci := 5) (v := .int (-1)) (ty := .int) (C := RX6) (T := TX6) (N := 7) hx hb hts in_X6 tyX6 tyX6_ok nmX6 hown hK hP hD hS 0 rfl rfl 3 (by decide) (hts _ q804) (fun _ h9 => h9) rfl (by decide +kernel) rfl rfl (Nat.le_of_ble_eq_true rfl) dX6_init_11 (fun H locs hP hD hS => ?_)
  have hP : va_P (gD g) Cl [(q, .inr (5, [.int kd, .int 0, .int 0, .int (-1), .int 0, .int 0, .int 0]))] H := hP
  have hD : va_D A [(q, .inr (5, [.int kd, .int 0, .int 0, .int (-1), .int 0, .int 0, .int 0]))] := hD
  refine lv_aload_n hx hb dX6_init_14 rfl (lv_at hl 0 rfl) ?_
  refine lv_iconst (v := (-1)) hx hb dX6_init_15 (by decide) ?_
  refine va_put (D := gD g) (ci := 5) (v := .int (-1)) (ty := .int) (C := RX6) (T := TX6) (N := 7) hx hb hts in_X6 tyX6 tyX6_ok nmX6 hown hK hP hD hS 0 rfl rfl 4 (by decide) (hts _ q807) (fun _ h9 => h9) rfl (by decide +kernel) rfl rfl (Nat.le_of_ble_eq_true rfl) dX6_init_16 (fun H locs hP hD hS => ?_)
  have hP : va_P (gD g) Cl [(q, .inr (5, [.int kd, .int 0, .int 0, .int (-1), .int (-1), .int 0, .int 0]))] H := hP
  have hD : va_D A [(q, .inr (5, [.int kd, .int 0, .int 0, .int (-1), .int (-1), .int 0, .int 0]))] := hD
  exact hm_v hQ hx hb hr hlk () rfl trivial hP hD hS (by decide) (by decide) dX6_init_19
theorem kX7_init : hkI yX7_init cX7_init 2 1 := ⟨q843, q83, q844, rfl, by decide +kernel⟩
set_option maxHeartbeats 4000000 in
theorem jX7_init (l : Launch) (g : hG) (E : hEnv) (ho : jOk g E) (q : Nat) (sz : Int32) : MM l yX7_init cX7_init 2 none 1 30 0 0 [.ref q, .int sz] g E [(q, .inr (6, [.int 0]))] (S := Unit) (fun _ => none) (fun _ => True) (fun _ => [(q, .inr (6, [.int sz]))]) := by
  refine MM.mk (by decide) (Nat.le_of_ble_eq_true rfl) ?_
  intro p e R s m args below meth c Q A H locs ls hX hRc hRs hP hD hE hS hA hnm hl hQ
  obtain ⟨hx, hb, hr, hlk, hml, hown, hts, hRf, hRl⟩ := hX
  have hown : s.vm.findClass RX7 = some m.cls := hown
  have hj := ho.2 _ _ _ hE
  have hK := hj.kn
  have hl : lv_has ls 2 [(0, .ref q), (1, .int sz)] := hl
  refine lv_aload_n hx hb dX7_init_0 rfl (lv_at hl 0 rfl) ?_
  refine W.objInit hx hb hown (hts _ q845) (hts _ q121) (hts _ q122) rfl (by rw [hml]; exact hl.1) rfl dX7_init_1 (Nat.le_trans (Nat.le_of_ble_eq_true rfl) hRf) (Nat.le_trans (Nat.le_of_ble_eq_true rfl) hRl) ?_
  refine lv_aload_n hx hb dX7_init_4 rfl (lv_at hl 0 rfl) ?_
  refine lv_iload_n hx hb dX7_init_5 rfl (lv_at hl 1 rfl) ?_
  refine va_put (D := gD g) (ci := 6) (v := .int sz) (ty := .int) (C := RX7) (T := TX7) (N := 1) hx hb hts in_X7 tyX7 tyX7_ok nmX7 hown hK hP hD hS 0 rfl rfl 0 (by decide) (hts _ q846) (fun _ h9 => h9) rfl (by decide +kernel) rfl rfl (Nat.le_of_ble_eq_true rfl) dX7_init_6 (fun H locs hP hD hS => ?_)
  have hP : va_P (gD g) Cl [(q, .inr (6, [.int sz]))] H := hP
  have hD : va_D A [(q, .inr (6, [.int sz]))] := hD
  exact hm_v hQ hx hb hr hlk () rfl trivial hP hD hS (by decide) (by decide) dX7_init_9
theorem kX8_isTiedWith : hkV RX8 yX8_isTiedWith cX8_isTiedWith 2 none 1 := ⟨q1165, q1166, q84, q1167, rfl, by decide +kernel⟩
set_option maxHeartbeats 4000000 in
theorem jX8_isTiedWith (l : Launch) (g : hG) (E : hEnv) (ho : jOk g E) (q : Nat) (q2 : Nat) (hs : Int32) (ln : Int32) (co : Int32) (tl : Int32) (hs2 : Int32) (ln2 : Int32) (co2 : Int32) (tl2 : Int32) : MM l yX8_isTiedWith cX8_isTiedWith 2 none 1 30 0 0 [.ref q, .ref q2] g E [(q, .inr (7, [.int hs, .int ln, .int co, .int tl])), (q2, .inr (7, [.int hs2, .int ln2, .int co2, .int tl2]))] (S := Unit) (fun _ => none) (fun _ => True) (fun _ => [(q, .inr (7, [.int (hs + hs2), .int (minI ln ln2), .int (if co = co2 then co else 3), .int (if tl = tl2 then tl else (-1))])), (q2, .inr (7, [.int hs2, .int ln2, .int co2, .int tl2]))]) := by
  refine MM.mk (by decide) (Nat.le_of_ble_eq_true rfl) ?_
  intro p e R s m args below meth c Q A H locs ls hX hRc hRs hP hD hE hS hA hnm hl hQ
  obtain ⟨hx, hb, hr, hlk, hml, hown, hts, hRf, hRl⟩ := hX
  have hown : s.vm.findClass RX8 = some m.cls := hown
  have hj := ho.2 _ _ _ hE
  have hK := hj.kn
  have hl : lv_has ls 2 [(0, .ref q), (1, .ref q2)] := hl
  refine lv_aload_n hx hb dX8_isTiedWith_0 rfl (lv_at hl 0 rfl) ?_
  refine lv_dup hx hb dX8_isTiedWith_1 rfl ?_
  refine va_get (D := gD g) (ci := 7) (v := .int hs) (C := RX8) (T := TX8) (N := 4) hx hb hts in_X8 hown hK hP 0 rfl rfl 0 (by decide) (hts _ q868) (fun _ h9 => h9) rfl dX8_isTiedWith_2 ?_
  refine lv_aload_n hx hb dX8_isTiedWith_5 rfl (lv_at hl 1 rfl) ?_
  refine va_get (D := gD g) (ci := 7) (v := .int hs2) (C := RX8) (T := TX8) (N := 4) hx hb hts in_X8 hown hK hP 1 rfl rfl 0 (by decide) (hts _ q868) (fun _ h9 => h9) rfl dX8_isTiedWith_6 ?_
  refine lv_iadd hx hb dX8_isTiedWith_9 ?_
  refine va_put (D := gD g) (ci := 7) (v := .int (hs + hs2)) (ty := .int) (C := RX8) (T := TX8) (N := 4) hx hb hts in_X8 tyX8 tyX8_ok nmX8 hown hK hP hD hS 0 rfl rfl 0 (by decide) (hts _ q868) (fun _ h9 => h9) rfl (by decide +kernel) rfl rfl (Nat.le_of_ble_eq_true rfl) dX8_isTiedWith_10 (fun H locs hP hD hS => ?_)
  have hP : va_P (gD g) Cl [(q, .inr (7, [.int (hs + hs2), .int ln, .int co, .int tl])), (q2, .inr (7, [.int hs2, .int ln2, .int co2, .int tl2]))] H := hP
  have hD : va_D A [(q, .inr (7, [.int (hs + hs2), .int ln, .int co, .int tl])), (q2, .inr (7, [.int hs2, .int ln2, .int co2, .int tl2]))] := hD
  refine lv_aload_n hx hb dX8_isTiedWith_13 rfl (lv_at hl 0 rfl) ?_
  refine lv_aload_n hx hb dX8_isTiedWith_14 rfl (lv_at hl 0 rfl) ?_
  refine va_get (D := gD g) (ci := 7) (v := .int ln) (C := RX8) (T := TX8) (N := 4) hx hb hts in_X8 hown hK hP 0 rfl rfl 1 (by decide) (hts _ q871) (fun _ h9 => h9) rfl dX8_isTiedWith_15 ?_
  refine lv_aload_n hx hb dX8_isTiedWith_18 rfl (lv_at hl 1 rfl) ?_
  refine va_get (D := gD g) (ci := 7) (v := .int ln2) (C := RX8) (T := TX8) (N := 4) hx hb hts in_X8 hown hK hP 1 rfl rfl 1 (by decide) (hts _ q871) (fun _ h9 => h9) rfl dX8_isTiedWith_19 ?_
  refine va_mmin (x := ln) (y := ln2) hx hb (by rw [hml]; exact hl.1.symm) hown (hts _ q1168) (hts _ q381) (hts _ q87) (hts _ q382) (Nat.le_trans (Nat.le_of_ble_eq_true rfl) hRf) (Nat.le_trans (Nat.le_of_ble_eq_true rfl) hRl) (Nat.le_trans (by decide) hRc) (Nat.le_trans (by decide) hRs) dX8_isTiedWith_22 ?_
  refine h_topi (v := minI ln ln2) (h_min _ _) ?_
  refine va_put (D := gD g) (ci := 7) (v := .int (minI ln ln2)) (ty := .int) (C := RX8) (T := TX8) (N := 4) hx hb hts in_X8 tyX8 tyX8_ok nmX8 hown hK hP hD hS 0 rfl rfl 1 (by decide) (hts _ q871) (fun _ h9 => h9) rfl (by decide +kernel) rfl rfl (Nat.le_of_ble_eq_true rfl) dX8_isTiedWith_25 (fun H locs hP hD hS => ?_)
  have hP : va_P (gD g) Cl [(q, .inr (7, [.int (hs + hs2), .int (minI ln ln2), .int co, .int tl])), (q2, .inr (7, [.int hs2, .int ln2, .int co2, .int tl2]))] H := hP
  have hD : va_D A [(q, .inr (7, [.int (hs + hs2), .int (minI ln ln2), .int co, .int tl])), (q2, .inr (7, [.int hs2, .int ln2, .int co2, .int tl2]))] := hD
  refine lv_aload_n hx hb dX8_isTiedWith_28 rfl (lv_at hl 0 rfl) ?_
  refine lv_aload_n hx hb dX8_isTiedWith_29 rfl (lv_at hl 0 rfl) ?_
  refine va_get (D := gD g) (ci := 7) (v := .int co) (C := RX8) (T := TX8) (N := 4) hx hb hts in_X8 hown hK hP 0 rfl rfl 2 (by decide) (hts _ q874) (fun _ h9 => h9) rfl dX8_isTiedWith_30 ?_
  refine lv_aload_n hx hb dX8_isTiedWith_33 rfl (lv_at hl 1 rfl) ?_
  refine va_get (D := gD g) (ci := 7) (v := .int co2) (C := RX8) (T := TX8) (N := 4) hx hb hts in_X8 hown hK hP 1 rfl rfl 2 (by decide) (hts _ q874) (fun _ h9 => h9) rfl dX8_isTiedWith_34 ?_
  refine lv_icmp_ne (tgt := 47) hx hb dX8_isTiedWith_37 (by decide) (fun c_1 => ?_) (fun c_1 => ?_)
  · refine lv_iconst (v := 3) hx hb dX8_isTiedWith_47 (by decide) ?_
    refine va_put (D := gD g) (ci := 7) (v := .int 3) (ty := .int) (C := RX8) (T := TX8) (N := 4) hx hb hts in_X8 tyX8 tyX8_ok nmX8 hown hK hP hD hS 0 rfl rfl 2 (by decide) (hts _ q874) (fun _ h9 => h9) rfl (by decide +kernel) rfl rfl (Nat.le_of_ble_eq_true rfl) dX8_isTiedWith_48 (fun H locs hP hD hS => ?_)
    have hP : va_P (gD g) Cl [(q, .inr (7, [.int (hs + hs2), .int (minI ln ln2), .int 3, .int tl])), (q2, .inr (7, [.int hs2, .int ln2, .int co2, .int tl2]))] H := hP
    have hD : va_D A [(q, .inr (7, [.int (hs + hs2), .int (minI ln ln2), .int 3, .int tl])), (q2, .inr (7, [.int hs2, .int ln2, .int co2, .int tl2]))] := hD
    refine lv_aload_n hx hb dX8_isTiedWith_51 rfl (lv_at hl 0 rfl) ?_
    refine lv_aload_n hx hb dX8_isTiedWith_52 rfl (lv_at hl 0 rfl) ?_
    refine va_get (D := gD g) (ci := 7) (v := .int tl) (C := RX8) (T := TX8) (N := 4) hx hb hts in_X8 hown hK hP 0 rfl rfl 3 (by decide) (hts _ q876) (fun _ h9 => h9) rfl dX8_isTiedWith_53 ?_
    refine lv_aload_n hx hb dX8_isTiedWith_56 rfl (lv_at hl 1 rfl) ?_
    refine va_get (D := gD g) (ci := 7) (v := .int tl2) (C := RX8) (T := TX8) (N := 4) hx hb hts in_X8 hown hK hP 1 rfl rfl 3 (by decide) (hts _ q876) (fun _ h9 => h9) rfl dX8_isTiedWith_57 ?_
    refine lv_icmp_ne (tgt := 70) hx hb dX8_isTiedWith_60 (by decide) (fun c_2 => ?_) (fun c_2 => ?_)
    · refine lv_iconst (v := (-1)) hx hb dX8_isTiedWith_70 (by decide) ?_
      refine va_put (D := gD g) (ci := 7) (v := .int (-1)) (ty := .int) (C := RX8) (T := TX8) (N := 4) hx hb hts in_X8 tyX8 tyX8_ok nmX8 hown hK hP hD hS 0 rfl rfl 3 (by decide) (hts _ q876) (fun _ h9 => h9) rfl (by decide +kernel) rfl rfl (Nat.le_of_ble_eq_true rfl) dX8_isTiedWith_71 (fun H locs hP hD hS => ?_)
      have hP : va_P (gD g) Cl [(q, .inr (7, [.int (hs + hs2), .int (minI ln ln2), .int 3, .int (-1)])), (q2, .inr (7, [.int hs2, .int ln2, .int co2, .int tl2]))] H := hP
      have hD : va_D A [(q, .inr (7, [.int (hs + hs2), .int (minI ln ln2), .int 3, .int (-1)])), (q2, .inr (7, [.int hs2, .int ln2, .int co2, .int tl2]))] := hD
      have hW1 : ([(q, .inr (7, [.int (hs + hs2), .int (minI ln ln2), .int 3, .int (-1)])), (q2, .inr (7, [.int hs2, .int ln2, .int co2, .int tl2]))] : va_W) = [(q, .inr (7, [.int (hs + hs2), .int (minI ln ln2), .int (if co = co2 then co else 3), .int (if tl = tl2 then tl else (-1))])), (q2, .inr (7, [.int hs2, .int ln2, .int co2, .int tl2]))] := by simp only [eq_false c_1, eq_false c_2, if_true, if_false]
      rw [hW1] at hP hD
      exact hm_v hQ hx hb hr hlk () rfl trivial hP hD hS (by decide) (by decide) dX8_isTiedWith_74
    refine lv_aload_n hx hb dX8_isTiedWith_63 rfl (lv_at hl 0 rfl) ?_
    refine va_get (D := gD g) (ci := 7) (v := .int tl) (C := RX8) (T := TX8) (N := 4) hx hb hts in_X8 hown hK hP 0 rfl rfl 3 (by decide) (hts _ q876) (fun _ h9 => h9) rfl dX8_isTiedWith_64 ?_
    refine lv_goto (tgt := 71) hx hb dX8_isTiedWith_67 (by decide) ?_
    refine va_put (D := gD g) (ci := 7) (v := .int tl) (ty := .int) (C := RX8) (T := TX8) (N := 4) hx hb hts in_X8 tyX8 tyX8_ok nmX8 hown hK hP hD hS 0 rfl rfl 3 (by decide) (hts _ q876) (fun _ h9 => h9) rfl (by decide +kernel) rfl rfl (Nat.le_of_ble_eq_true rfl) dX8_isTiedWith_71 (fun H locs hP hD hS => ?_)
    have hP : va_P (gD g) Cl [(q, .inr (7, [.int (hs + hs2), .int (minI ln ln2), .int 3, .int tl])), (q2, .inr (7, [.int hs2, .int ln2, .int co2, .int tl2]))] H := hP
    have hD : va_D A [(q, .inr (7, [.int (hs + hs2), .int (minI ln ln2), .int 3, .int tl])), (q2, .inr (7, [.int hs2, .int ln2, .int co2, .int tl2]))] := hD
    have hW1 : ([(q, .inr (7, [.int (hs + hs2), .int (minI ln ln2), .int 3, .int tl])), (q2, .inr (7, [.int hs2, .int ln2, .int co2, .int tl2]))] : va_W) = [(q, .inr (7, [.int (hs + hs2), .int (minI ln ln2), .int (if co = co2 then co else 3), .int (if tl = tl2 then tl else (-1))])), (q2, .inr (7, [.int hs2, .int ln2, .int co2, .int tl2]))] := by simp only [eq_false c_1, eq_true c_2, if_true, if_false]
    rw [hW1] at hP hD
    exact hm_v hQ hx hb hr hlk () rfl trivial hP hD hS (by decide) (by decide) dX8_isTiedWith_74
  refine lv_aload_n hx hb dX8_isTiedWith_40 rfl (lv_at hl 0 rfl) ?_
  refine va_get (D := gD g) (ci := 7) (v := .int co) (C := RX8) (T := TX8) (N := 4) hx hb hts in_X8 hown hK hP 0 rfl rfl 2 (by decide) (hts _ q874) (fun _ h9 => h9) rfl dX8_isTiedWith_41 ?_
  refine lv_goto (tgt := 48) hx hb dX8_isTiedWith_44 (by decide) ?_
  refine va_put (D := gD g) (ci := 7) (v := .int co) (ty := .int) (C := RX8) (T := TX8) (N := 4) hx hb hts in_X8 tyX8 tyX8_ok nmX8 hown hK hP hD hS 0 rfl rfl 2 (by decide) (hts _ q874) (fun _ h9 => h9) rfl (by decide +kernel) rfl rfl (Nat.le_of_ble_eq_true rfl) dX8_isTiedWith_48 (fun H locs hP hD hS => ?_)
  have hP : va_P (gD g) Cl [(q, .inr (7, [.int (hs + hs2), .int (minI ln ln2), .int co, .int tl])), (q2, .inr (7, [.int hs2, .int ln2, .int co2, .int tl2]))] H := hP
  have hD : va_D A [(q, .inr (7, [.int (hs + hs2), .int (minI ln ln2), .int co, .int tl])), (q2, .inr (7, [.int hs2, .int ln2, .int co2, .int tl2]))] := hD
  refine lv_aload_n hx hb dX8_isTiedWith_51 rfl (lv_at hl 0 rfl) ?_
  refine lv_aload_n hx hb dX8_isTiedWith_52 rfl (lv_at hl 0 rfl) ?_
  refine va_get (D := gD g) (ci := 7) (v := .int tl) (C := RX8) (T := TX8) (N := 4) hx hb hts in_X8 hown hK hP 0 rfl rfl 3 (by decide) (hts _ q876) (fun _ h9 => h9) rfl dX8_isTiedWith_53 ?_
  refine lv_aload_n hx hb dX8_isTiedWith_56 rfl (lv_at hl 1 rfl) ?_
  refine va_get (D := gD g) (ci := 7) (v := .int tl2) (C := RX8) (T := TX8) (N := 4) hx hb hts in_X8 hown hK hP 1 rfl rfl 3 (by decide) (hts _ q876) (fun _ h9 => h9) rfl dX8_isTiedWith_57 ?_
  refine lv_icmp_ne (tgt := 70) hx hb dX8_isTiedWith_60 (by decide) (fun c_3 => ?_) (fun c_3 => ?_)
  · refine lv_iconst (v := (-1)) hx hb dX8_isTiedWith_70 (by decide) ?_
    refine va_put (D := gD g) (ci := 7) (v := .int (-1)) (ty := .int) (C := RX8) (T := TX8) (N := 4) hx hb hts in_X8 tyX8 tyX8_ok nmX8 hown hK hP hD hS 0 rfl rfl 3 (by decide) (hts _ q876) (fun _ h9 => h9) rfl (by decide +kernel) rfl rfl (Nat.le_of_ble_eq_true rfl) dX8_isTiedWith_71 (fun H locs hP hD hS => ?_)
    have hP : va_P (gD g) Cl [(q, .inr (7, [.int (hs + hs2), .int (minI ln ln2), .int co, .int (-1)])), (q2, .inr (7, [.int hs2, .int ln2, .int co2, .int tl2]))] H := hP
    have hD : va_D A [(q, .inr (7, [.int (hs + hs2), .int (minI ln ln2), .int co, .int (-1)])), (q2, .inr (7, [.int hs2, .int ln2, .int co2, .int tl2]))] := hD
    have hW1 : ([(q, .inr (7, [.int (hs + hs2), .int (minI ln ln2), .int co, .int (-1)])), (q2, .inr (7, [.int hs2, .int ln2, .int co2, .int tl2]))] : va_W) = [(q, .inr (7, [.int (hs + hs2), .int (minI ln ln2), .int (if co = co2 then co else 3), .int (if tl = tl2 then tl else (-1))])), (q2, .inr (7, [.int hs2, .int ln2, .int co2, .int tl2]))] := by simp only [eq_true c_1, eq_false c_3, if_true, if_false]
    rw [hW1] at hP hD
    exact hm_v hQ hx hb hr hlk () rfl trivial hP hD hS (by decide) (by decide) dX8_isTiedWith_74
  refine lv_aload_n hx hb dX8_isTiedWith_63 rfl (lv_at hl 0 rfl) ?_
  refine va_get (D := gD g) (ci := 7) (v := .int tl) (C := RX8) (T := TX8) (N := 4) hx hb hts in_X8 hown hK hP 0 rfl rfl 3 (by decide) (hts _ q876) (fun _ h9 => h9) rfl dX8_isTiedWith_64 ?_
  refine lv_goto (tgt := 71) hx hb dX8_isTiedWith_67 (by decide) ?_
  refine va_put (D := gD g) (ci := 7) (v := .int tl) (ty := .int) (C := RX8) (T := TX8) (N := 4) hx hb hts in_X8 tyX8 tyX8_ok nmX8 hown hK hP hD hS 0 rfl rfl 3 (by decide) (hts _ q876) (fun _ h9 => h9) rfl (by decide +kernel) rfl rfl (Nat.le_of_ble_eq_true rfl) dX8_isTiedWith_71 (fun H locs hP hD hS => ?_)
  have hP : va_P (gD g) Cl [(q, .inr (7, [.int (hs + hs2), .int (minI ln ln2), .int co, .int tl])), (q2, .inr (7, [.int hs2, .int ln2, .int co2, .int tl2]))] H := hP
  have hD : va_D A [(q, .inr (7, [.int (hs + hs2), .int (minI ln ln2), .int co, .int tl])), (q2, .inr (7, [.int hs2, .int ln2, .int co2, .int tl2]))] := hD
  have hW1 : ([(q, .inr (7, [.int (hs + hs2), .int (minI ln ln2), .int co, .int tl])), (q2, .inr (7, [.int hs2, .int ln2, .int co2, .int tl2]))] : va_W) = [(q, .inr (7, [.int (hs + hs2), .int (minI ln ln2), .int (if co = co2 then co else 3), .int (if tl = tl2 then tl else (-1))])), (q2, .inr (7, [.int hs2, .int ln2, .int co2, .int tl2]))] := by simp only [eq_true c_1, eq_true c_3, if_true, if_false]
  rw [hW1] at hP hD
  exact hm_v hQ hx hb hr hlk () rfl trivial hP hD hS (by decide) (by decide) dX8_isTiedWith_74
theorem kX6_hour : hkV RX6 yX6_hour cX6_hour 2 (some .int) 0 := ⟨q1233, q1234, q82, q1235, rfl, by decide +kernel⟩
set_option maxHeartbeats 4000000 in
theorem jX6_hour (l : Launch) (g : hG) (E : hEnv) (ho : jOk g E) (q : Nat) (kd : Int32) (hs : Int32) (ro : Int32) (qu : Int32) (tl : Int32) (hu : Int32) (pd : Int32) : MM l yX6_hour cX6_hour 2 (some .int) 1 30 0 0 [.ref q] g E [(q, .inr (5, [.int kd, .int hs, .int ro, .int qu, .int tl, .int hu, .int pd]))] (S := Unit) (fun _ => (some (.int (minI hs (if ro ≤ 0 then 7 else 2))))) (fun _ => True) (fun _ => [(q, .inr (5, [.int kd, .int (hs - (minI hs (if ro ≤ 0 then 7 else 2))), .int (maxI 0 (ro - 1)), .int qu, .int tl, .int (hu + 1), .int pd]))]) := by
  refine MM.mk (by decide) (Nat.le_of_ble_eq_true rfl) ?_
  intro p e R s m args below meth c Q A H locs ls hX hRc hRs hP hD hE hS hA hnm hl hQ
  obtain ⟨hx, hb, hr, hlk, hml, hown, hts, hRf, hRl⟩ := hX
  have hown : s.vm.findClass RX6 = some m.cls := hown
  have hj := ho.2 _ _ _ hE
  have hK := hj.kn
  have hl : lv_has ls 2 [(0, .ref q)] := hl
  refine lv_aload_n hx hb dX6_hour_0 rfl (lv_at hl 0 rfl) ?_
  refine va_get (D := gD g) (ci := 5) (v := .int hs) (C := RX6) (T := TX6) (N := 7) hx hb hts in_X6 hown hK hP 0 rfl rfl 1 (by decide) (hts _ q798) (fun _ h9 => h9) rfl dX6_hour_1 ?_
  refine lv_aload_n hx hb dX6_hour_4 rfl (lv_at hl 0 rfl) ?_
  refine va_get (D := gD g) (ci := 5) (v := .int ro) (C := RX6) (T := TX6) (N := 7) hx hb hts in_X6 hown hK hP 0 rfl rfl 2 (by decide) (hts _ q801) (fun _ h9 => h9) rfl dX6_hour_5 ?_
  refine h_join (J := 17) (v := if ro ≤ 0 then 7 else 2) (rest := [.int hs]) ?_ ?_
  rotate_left
  · intro hJ
    refine lv_if_le (tgt := 15) hx hb dX6_hour_8 (by decide) (fun c_1 => ?_) (fun c_1 => ?_)
    · refine lv_bipush (v := 7) hx hb dX6_hour_15 (by decide) ?_
      exact h_topi (if_pos c_1).symm hJ
    refine lv_iconst (v := 2) hx hb dX6_hour_11 (by decide) ?_
    refine lv_goto (tgt := 17) hx hb dX6_hour_12 (by decide) ?_
    exact h_topi (if_neg c_1).symm hJ
  refine va_mmin (x := hs) (y := if ro ≤ 0 then 7 else 2) hx hb (by rw [hml]; exact hl.1.symm) hown (hts _ q1236) (hts _ q381) (hts _ q87) (hts _ q382) (Nat.le_trans (Nat.le_of_ble_eq_true rfl) hRf) (Nat.le_trans (Nat.le_of_ble_eq_true rfl) hRl) (Nat.le_trans (by decide) hRc) (Nat.le_trans (by decide) hRs) dX6_hour_17 ?_
  refine h_topi (v := minI hs (if ro ≤ 0 then 7 else 2)) (h_min _ _) ?_
  refine lv_istore_n (lv' := [(1, .int (minI hs (if ro ≤ 0 then 7 else 2))), (0, .ref q)]) hx hb dX6_hour_20 rfl hl (by decide) rfl (fun ls hl => ?_)
  refine lv_aload_n hx hb dX6_hour_21 rfl (lv_at hl 1 rfl) ?_
  refine lv_dup hx hb dX6_hour_22 rfl ?_
  refine va_get (D := gD g) (ci := 5) (v := .int hs) (C := RX6) (T := TX6) (N := 7) hx hb hts in_X6 hown hK hP 0 rfl rfl 1 (by decide) (hts _ q798) (fun _ h9 => h9) rfl dX6_hour_23 ?_
  refine lv_iload_n hx hb dX6_hour_26 rfl (lv_at hl 0 rfl) ?_
  refine lv_isub hx hb dX6_hour_27 ?_
  refine va_put (D := gD g) (ci := 5) (v := .int (hs - (minI hs (if ro ≤ 0 then 7 else 2)))) (ty := .int) (C := RX6) (T := TX6) (N := 7) hx hb hts in_X6 tyX6 tyX6_ok nmX6 hown hK hP hD hS 0 rfl rfl 1 (by decide) (hts _ q798) (fun _ h9 => h9) rfl (by decide +kernel) rfl rfl (Nat.le_of_ble_eq_true rfl) dX6_hour_28 (fun H locs hP hD hS => ?_)
  have hP : va_P (gD g) Cl [(q, .inr (5, [.int kd, .int (hs - (minI hs (if ro ≤ 0 then 7 else 2))), .int ro, .int qu, .int tl, .int hu, .int pd]))] H := hP
  have hD : va_D A [(q, .inr (5, [.int kd, .int (hs - (minI hs (if ro ≤ 0 then 7 else 2))), .int ro, .int qu, .int tl, .int hu, .int pd]))] := hD
  refine lv_aload_n hx hb dX6_hour_31 rfl (lv_at hl 1 rfl) ?_
  refine lv_iconst (v := 0) hx hb dX6_hour_32 (by decide) ?_
  refine lv_aload_n hx hb dX6_hour_33 rfl (lv_at hl 1 rfl) ?_
  refine va_get (D := gD g) (ci := 5) (v := .int ro) (C := RX6) (T := TX6) (N := 7) hx hb hts in_X6 hown hK hP 0 rfl rfl 2 (by decide) (hts _ q801) (fun _ h9 => h9) rfl dX6_hour_34 ?_
  refine lv_iconst (v := 1) hx hb dX6_hour_37 (by decide) ?_
  refine lv_isub hx hb dX6_hour_38 ?_
  refine va_mmax (x := 0) (y := ro - 1) hx hb (by rw [hml]; exact hl.1.symm) hown (hts _ q1237) (hts _ q363) (hts _ q87) (hts _ q364) (Nat.le_trans (Nat.le_of_ble_eq_true rfl) hRf) (Nat.le_trans (Nat.le_of_ble_eq_true rfl) hRl) (Nat.le_trans (by decide) hRc) (Nat.le_trans (by decide) hRs) dX6_hour_39 ?_
  refine h_topi (v := maxI 0 (ro - 1)) (h_max _ _) ?_
  refine va_put (D := gD g) (ci := 5) (v := .int (maxI 0 (ro - 1))) (ty := .int) (C := RX6) (T := TX6) (N := 7) hx hb hts in_X6 tyX6 tyX6_ok nmX6 hown hK hP hD hS 0 rfl rfl 2 (by decide) (hts _ q801) (fun _ h9 => h9) rfl (by decide +kernel) rfl rfl (Nat.le_of_ble_eq_true rfl) dX6_hour_42 (fun H locs hP hD hS => ?_)
  have hP : va_P (gD g) Cl [(q, .inr (5, [.int kd, .int (hs - (minI hs (if ro ≤ 0 then 7 else 2))), .int (maxI 0 (ro - 1)), .int qu, .int tl, .int hu, .int pd]))] H := hP
  have hD : va_D A [(q, .inr (5, [.int kd, .int (hs - (minI hs (if ro ≤ 0 then 7 else 2))), .int (maxI 0 (ro - 1)), .int qu, .int tl, .int hu, .int pd]))] := hD
  refine lv_aload_n hx hb dX6_hour_45 rfl (lv_at hl 1 rfl) ?_
  refine lv_dup hx hb dX6_hour_46 rfl ?_
  refine va_get (D := gD g) (ci := 5) (v := .int hu) (C := RX6) (T := TX6) (N := 7) hx hb hts in_X6 hown hK hP 0 rfl rfl 5 (by decide) (hts _ q810) (fun _ h9 => h9) rfl dX6_hour_47 ?_
  refine lv_iconst (v := 1) hx hb dX6_hour_50 (by decide) ?_
  refine lv_iadd hx hb dX6_hour_51 ?_
  refine va_put (D := gD g) (ci := 5) (v := .int (hu + 1)) (ty := .int) (C := RX6) (T := TX6) (N := 7) hx hb hts in_X6 tyX6 tyX6_ok nmX6 hown hK hP hD hS 0 rfl rfl 5 (by decide) (hts _ q810) (fun _ h9 => h9) rfl (by decide +kernel) rfl rfl (Nat.le_of_ble_eq_true rfl) dX6_hour_52 (fun H locs hP hD hS => ?_)
  have hP : va_P (gD g) Cl [(q, .inr (5, [.int kd, .int (hs - (minI hs (if ro ≤ 0 then 7 else 2))), .int (maxI 0 (ro - 1)), .int qu, .int tl, .int (hu + 1), .int pd]))] H := hP
  have hD : va_D A [(q, .inr (5, [.int kd, .int (hs - (minI hs (if ro ≤ 0 then 7 else 2))), .int (maxI 0 (ro - 1)), .int qu, .int tl, .int (hu + 1), .int pd]))] := hD
  refine lv_iload_n hx hb dX6_hour_55 rfl (lv_at hl 0 rfl) ?_
  exact hm_i hQ hx hb hr hlk rfl () (rfl) trivial hP hD hS (by decide) (by decide) dX6_hour_56
