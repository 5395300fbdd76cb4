/-! THE REFERENCE: copies, changes, buying, combing -/
set_option maxRecDepth 100000
theorem kX4_copies : hkS yX4_copies cX4_copies 5 none 4 := ⟨q2395, q78, q2396, by decide +kernel⟩
set_option maxHeartbeats 4000000 in
theorem mX4_copies2 (l : Launch) (g : hG) (E : hEnv) (ho : mOk g E) (q1 n1 : Nat) (f : Nat → Int32) (q2 n2 : Nat) (h : Nat → Int32) (sp dp : Nat) (h1 : sp + 195 ≤ n1) (h2 : dp + 195 ≤ n2) (h3 : n1 < 2 ^ 20) (h4 : n2 < 2 ^ 20) : MM l yX4_copies cX4_copies 5 none 0 0 0 0 [.ref q1, .int (nI sp), .ref q2, .int (nI dp)] g E [(q1, .inl (g.2.2.1 0, n1, .inl f)), (q2, .inl (g.2.2.1 0, n2, .inl h))] (S := Unit) (fun _ => none) (fun _ => True) (fun _ => [(q1, .inl (g.2.2.1 0, n1, .inl f)), (q2, .inl (g.2.2.1 0, n2, .inl (va_cpy f h sp dp 195)))]) := by
  refine MM.mk (by decide) (Nat.le_of_ble_eq_true rfl) ?_
  intro p e R s m args below meth c Q A H locs ls hX hRc hRs hP hD hE hS hA hnm hl hQ
  obtain ⟨hx, hb, hr, hlk, hml, hown, hts, hRf, hRl⟩ := hX
  have hK := ho.2 _ _ _ hE
  have hl : lv_has ls 5 [(0, .ref q1), (1, .int (nI sp)), (2, .ref q2), (3, .int (nI dp))] := hl
  refine lv_iconst (v := 0) hx hb dX4_copies_0 (by decide) ?_
  refine lv_istore (lv' := [(4, .int 0), (0, .ref q1), (1, .int (nI sp)), (2, .ref q2), (3, .int (nI dp))]) hx hb dX4_copies_1 hl (by decide) rfl (fun ls hl => ?_)
  have loop_3 : ∀ (k : Nat) (i : Nat), (195 < i + k ∧ i ≤ 195) → ∀ (H : Heap) (locs : List Loc), va_P (gD g) Cl [(q1, .inl (g.2.2.1 0, n1, .inl f)), (q2, .inl (g.2.2.1 0, n2, .inl (va_cpy f h sp dp i)))] H → va_D A [(q1, .inl (g.2.2.1 0, n1, .inl f)), (q2, .inl (g.2.2.1 0, n2, .inl (va_cpy f h sp dp i)))] → va_S A s.heap H locs → ∀ (ls : Array Slot), lv_has ls 5 [(4, .int (nI i)), (0, .ref q1), (1, .int (nI sp)), (2, .ref q2), (3, .int (nI dp))] → W p l e R s m args below meth c H locs 0 0 Q (F0 m 3 ls []) := by
    intro k
    induction k with
    | zero =>
      intro i hi H locs hP hD hS ls hl
      exact absurd hi (by omega)
    | succ k ih_3 =>
      intro i hi H locs hP hD hS ls hl
      refine lv_iload hx hb dX4_copies_3 (lv_at hl 0 rfl) ?_
      refine lv_sipush (v := 195) hx hb dX4_copies_5 (by decide) ?_
      refine lv_icmp_ge (tgt := 29) hx hb dX4_copies_8 (by decide) (fun c_1 => ?_) (fun c_1 => ?_)
      · obtain ⟨hi1, hi2⟩ := hi
        have hge : i = 195 := by
          rcases Nat.lt_or_ge i 195 with q | q
          · exact absurd c_1 (nI_ge (a := i) (b := 195) q (by decide))
          · omega
        subst hge
        exact hm_v hQ hx hb hr hlk () rfl trivial hP hD hS (by decide) (by decide) dX4_copies_29
      obtain ⟨hi1, hi2⟩ := hi
      have hlt : i < 195 := by
        rcases Nat.lt_or_ge i 195 with q | q
        · exact q
        · exact absurd (nI_le (a := 195) q (by omega)) c_1
      refine lv_aload_n hx hb dX4_copies_11 rfl (lv_at hl 3 rfl) ?_
      refine lv_iload_n hx hb dX4_copies_12 rfl (lv_at hl 4 rfl) ?_
      refine lv_iload hx hb dX4_copies_13 (lv_at hl 0 rfl) ?_
      refine lv_iadd hx hb dX4_copies_15 ?_
      refine h_topi (v := nI (dp + i)) (h_nadd (a := dp) (b := i) (rfl) (rfl)) ?_
      refine lv_aload_n hx hb dX4_copies_16 rfl (lv_at hl 1 rfl) ?_
      refine lv_iload_n hx hb dX4_copies_17 rfl (lv_at hl 2 rfl) ?_
      refine lv_iload hx hb dX4_copies_18 (lv_at hl 0 rfl) ?_
      refine lv_iadd hx hb dX4_copies_20 ?_
      refine h_topi (v := nI (sp + i)) (h_nadd (a := sp) (b := i) (rfl) (rfl)) ?_
      refine h_iald (f := f) hx hb hK hP 0 0 rfl rfl (sp + i) (rfl) (by omega) (by omega) dX4_copies_21 ?_
      refine h_iast (f := (va_cpy f h sp dp i)) hx hb hK hP hD hS 1 0 rfl rfl (dp + i) (rfl) (by omega) (by omega) dX4_copies_22 (fun H locs hP hD hS => ?_)
      have hP : va_P (gD g) Cl [(q1, .inl (g.2.2.1 0, n1, .inl f)), (q2, .inl (g.2.2.1 0, n2, .inl (upd (va_cpy f h sp dp i) (dp + i) (f (sp + i)))))] H := hP
      have hD : va_D A [(q1, .inl (g.2.2.1 0, n1, .inl f)), (q2, .inl (g.2.2.1 0, n2, .inl (upd (va_cpy f h sp dp i) (dp + i) (f (sp + i)))))] := hD
      refine lv_iinc (v := nI (i + 1)) (lv' := [(4, .int (nI (i + 1))), (0, .ref q1), (1, .int (nI sp)), (2, .ref q2), (3, .int (nI dp))]) hx hb dX4_copies_23 hl (k := 0) rfl (h_ninc (a := i) (k := 1) (rfl)) (by decide) rfl (fun ls hl => ?_)
      refine lv_goto (tgt := 3) hx hb dX4_copies_26 (by decide) ?_
      rw [cpy_s] at hP hD
      exact ih_3 (i + 1) (by omega) H locs hP hD hS ls (lv_sub hl [0, 1, 2, 3, 4] rfl)
  have e0 := cpy_0 f h sp dp
  rw [← e0] at hP hD
  exact loop_3 196 0 (by omega) H locs hP hD hS ls (lv_sub hl [0, 1, 2, 3, 4] rfl)
set_option maxHeartbeats 4000000 in
theorem mX4_copies1 (l : Launch) (g : hG) (E : hEnv) (ho : mOk g E) (q1 n1 : Nat) (f : Nat → Int32) (sp dp : Nat) (h1 : sp + 195 ≤ n1) (h2 : dp + 195 ≤ n1) (h3 : n1 < 2 ^ 20) (hov : dp + 195 ≤ sp) : MM l yX4_copies cX4_copies 5 none 0 0 0 0 [.ref q1, .int (nI sp), .ref q1, .int (nI dp)] g E [(q1, .inl (g.2.2.1 0, n1, .inl f))] (S := Unit) (fun _ => none) (fun _ => True) (fun _ => [(q1, .inl (g.2.2.1 0, n1, .inl (va_cpy f f sp dp 195)))]) := by
  refine MM.mk (by decide) (Nat.le_of_ble_eq_true rfl) ?_
  intro p e R s m args below meth c Q A H locs ls hX hRc hRs hP hD hE hS hA hnm hl hQ
  obtain ⟨hx, hb, hr, hlk, hml, hown, hts, hRf, hRl⟩ := hX
  have hK := ho.2 _ _ _ hE
  have hl : lv_has ls 5 [(0, .ref q1), (1, .int (nI sp)), (2, .ref q1), (3, .int (nI dp))] := hl
  refine lv_iconst (v := 0) hx hb dX4_copies_0 (by decide) ?_
  refine lv_istore (lv' := [(4, .int 0), (0, .ref q1), (1, .int (nI sp)), (2, .ref q1), (3, .int (nI dp))]) hx hb dX4_copies_1 hl (by decide) rfl (fun ls hl => ?_)
  have loop_3 : ∀ (k : Nat) (i : Nat), (195 < i + k ∧ i ≤ 195) → ∀ (H : Heap) (locs : List Loc), va_P (gD g) Cl [(q1, .inl (g.2.2.1 0, n1, .inl (va_cpy f f sp dp i)))] H → va_D A [(q1, .inl (g.2.2.1 0, n1, .inl (va_cpy f f sp dp i)))] → va_S A s.heap H locs → ∀ (ls : Array Slot), lv_has ls 5 [(4, .int (nI i)), (0, .ref q1), (1, .int (nI sp)), (2, .ref q1), (3, .int (nI dp))] → W p l e R s m args below meth c H locs 0 0 Q (F0 m 3 ls []) := by
    intro k
    induction k with
    | zero =>
      intro i hi H locs hP hD hS ls hl
      exact absurd hi (by omega)
    | succ k ih_3 =>
      intro i hi H locs hP hD hS ls hl
      refine lv_iload hx hb dX4_copies_3 (lv_at hl 0 rfl) ?_
      refine lv_sipush (v := 195) hx hb dX4_copies_5 (by decide) ?_
      refine lv_icmp_ge (tgt := 29) hx hb dX4_copies_8 (by decide) (fun c_1 => ?_) (fun c_1 => ?_)
      · obtain ⟨hi1, hi2⟩ := hi
        have hge : i = 195 := by
          rcases Nat.lt_or_ge i 195 with q | q
          · exact absurd c_1 (nI_ge (a := i) (b := 195) q (by decide))
          · omega
        subst hge
        exact hm_v hQ hx hb hr hlk () rfl trivial hP hD hS (by decide) (by decide) dX4_copies_29
      obtain ⟨hi1, hi2⟩ := hi
      have hlt : i < 195 := by
        rcases Nat.lt_or_ge i 195 with q | q
        · exact q
        · exact absurd (nI_le (a := 195) q (by omega)) c_1
      refine lv_aload_n hx hb dX4_copies_11 rfl (lv_at hl 3 rfl) ?_
      refine lv_iload_n hx hb dX4_copies_12 rfl (lv_at hl 4 rfl) ?_
      refine lv_iload hx hb dX4_copies_13 (lv_at hl 0 rfl) ?_
      refine lv_iadd hx hb dX4_copies_15 ?_
      refine h_topi (v := nI (dp + i)) (h_nadd (a := dp) (b := i) (rfl) (rfl)) ?_
      refine lv_aload_n hx hb dX4_copies_16 rfl (lv_at hl 1 rfl) ?_
      refine lv_iload_n hx hb dX4_copies_17 rfl (lv_at hl 2 rfl) ?_
      refine lv_iload hx hb dX4_copies_18 (lv_at hl 0 rfl) ?_
      refine lv_iadd hx hb dX4_copies_20 ?_
      refine h_topi (v := nI (sp + i)) (h_nadd (a := sp) (b := i) (rfl) (rfl)) ?_
      refine h_iald (f := (va_cpy f f sp dp i)) hx hb hK hP 0 0 rfl rfl (sp + i) (rfl) (by omega) (by omega) dX4_copies_21 ?_
      refine h_iast (f := (va_cpy f f sp dp i)) hx hb hK hP hD hS 0 0 rfl rfl (dp + i) (rfl) (by omega) (by omega) dX4_copies_22 (fun H locs hP hD hS => ?_)
      have hP : va_P (gD g) Cl [(q1, .inl (g.2.2.1 0, n1, .inl (upd (va_cpy f f sp dp i) (dp + i) ((va_cpy f f sp dp i) (sp + i)))))] H := hP
      have hD : va_D A [(q1, .inl (g.2.2.1 0, n1, .inl (upd (va_cpy f f sp dp i) (dp + i) ((va_cpy f f sp dp i) (sp + i)))))] := hD
      refine lv_iinc (v := nI (i + 1)) (lv' := [(4, .int (nI (i + 1))), (0, .ref q1), (1, .int (nI sp)), (2, .ref q1), (3, .int (nI dp))]) hx hb dX4_copies_23 hl (k := 0) rfl (h_ninc (a := i) (k := 1) (rfl)) (by decide) rfl (fun ls hl => ?_)
      refine lv_goto (tgt := 3) hx hb dX4_copies_26 (by decide) ?_
      rw [cpy_own f sp dp i 195 hov (by omega), cpy_s] at hP hD
      exact ih_3 (i + 1) (by omega) H locs hP hD hS ls (lv_sub hl [0, 1, 2, 3, 4] rfl)
  rw [← cpy_0 f f sp dp] at hP hD
  exact loop_3 196 0 (by omega) H locs hP hD hS ls (lv_sub hl [0, 1, 2, 3, 4] rfl)
theorem kX4_keeps : hkV RX4 yX4_keeps cX4_keeps 1 none 0 := ⟨q2392, qs24, q78, q2393, rfl, by decide +kernel⟩
set_option maxHeartbeats 4000000 in
theorem mX4_keeps (l : Launch) (g : hG) (E : hEnv) (ho : mOk g E) (h0 : Nat) (a : Nat → Nat) (I : Nat → Int32) (F : Nat → Nat → Int32) : MM l yX4_keeps cX4_keeps 1 none 1 24 0 0 [.ref h0] g E (mW g h0 a I F) (S := Unit) (fun _ => none) (fun _ => True) (fun _ => mW g h0 a (upd I 1 0) (kpF F)) := by
  refine MM.mk (by decide) (Nat.le_of_ble_eq_true rfl) ?_
  intro p e R s m args below meth c Q A H locs ls hX hRc hRs hP hD hE hS hA hnm hl hQ
  obtain ⟨hx, hb, hr, hlk, hml, hown, hts, hRf, hRl⟩ := hX
  have hown : s.vm.findClass RX4 = some m.cls := hown
  have hK := ho.2 _ _ _ hE
  have hl : lv_has ls 1 [(0, .ref h0)] := hl
  refine lv_aload_n hx hb dX4_keeps_0 rfl (lv_at hl 0 rfl) ?_
  refine va_get (D := gD g) (ci := 0) (v := .ref (a 0)) (C := RX4) (T := TX4) (N := 21) hx hb hts in_X4 hown hK hP 0 rfl rfl 0 (by decide) (hts _ q2314) (fun _ h9 => h9) rfl dX4_keeps_1 ?_
  refine lv_iconst (v := 0) hx hb dX4_keeps_4 (by decide) ?_
  refine lv_aload_n hx hb dX4_keeps_5 rfl (lv_at hl 0 rfl) ?_
  refine va_get (D := gD g) (ci := 0) (v := .ref (a 1)) (C := RX4) (T := TX4) (N := 21) hx hb hts in_X4 hown hK hP 0 rfl rfl 1 (by decide) (hts _ q2315) (fun _ h9 => h9) rfl dX4_keeps_6 ?_
  refine lv_iconst (v := 0) hx hb dX4_keeps_9 (by decide) ?_
  refine mcS (As := [.ref (a 0), .int 0, .ref (a 1), .int 0]) (rest := []) (st0 := [.int 0, .ref (a 1), .int 0, .ref (a 0)]) (wr := [(h0, .inr (0, mO a I)), (a 2, .inl (g.2.2.1 0, 195, .inl (F 2))), (a 3, .inl (g.2.2.1 0, 1560, .inl (F 3))), (a 5, .inl (g.2.2.1 0, 60, .inl (F 4))), (a 6, .inl (g.2.2.1 0, 36, .inl (F 5))), (a 7, .inl (g.2.2.1 0, 260, .inl (F 6))), (a 4, .inl (g.2.2.1 5, 8, .inr (.inr (.inr (.inr (fun j => some (gA g (60 + j))))))))]) (mX4_copies2 l g E ho (a 0) 195 (F 0) (a 1) 195 (F 1) 0 0 (by omega) (by omega) (by decide) (by decide)) kX4_copies q2394 hx hb hml hown hts hRf hRl ho.1 hE hS hP hD hA [1, 2] [0, 3, 4, 5, 6, 7, 8] rfl (by decide) rfl (by decide) (by decide) ⟨Nat.zero_le _, Nat.zero_le _⟩ hl ⟨rfl, rfl⟩ rfl rfl (Nat.le_of_ble_eq_true rfl) dX4_keeps_10 (fun _ H locs _ hP hD hS _ _ => ?_)
  have hP := hP.sub (ws' := (mW g h0 a I (va_up F 1 (va_cpy (F 0) (F 1) 0 0 195)))) [0, 7, 8, 1, 2, 3, 4, 5, 6] rfl
  have hD := hD.sub (ws' := (mW g h0 a I (va_up F 1 (va_cpy (F 0) (F 1) 0 0 195)))) [0, 7, 8, 1, 2, 3, 4, 5, 6] (by decide) rfl
  refine lv_aload_n hx hb dX4_keeps_13 rfl (lv_at hl 0 rfl) ?_
  refine lv_iconst (v := 0) hx hb dX4_keeps_14 (by decide) ?_
  refine va_put (D := gD g) (ci := 0) (v := .int 0) (ty := .int) (C := RX4) (T := TX4) (N := 21) hx hb hts in_X4 tyX4 tyX4_ok nmX4 hown hK hP hD hS 0 rfl rfl 5 (by decide) (hts _ q2319) (fun _ h9 => h9) rfl (by decide +kernel) rfl rfl (Nat.le_of_ble_eq_true rfl) dX4_keeps_15 (fun H locs hP hD hS => ?_)
  have hP : va_P (gD g) Cl (mW g h0 a (upd I 1 0) (va_up F 1 (va_cpy (F 0) (F 1) 0 0 195))) H := hP
  have hD : va_D A (mW g h0 a (upd I 1 0) (va_up F 1 (va_cpy (F 0) (F 1) 0 0 195))) := hD
  have hW1 : (mW g h0 a (upd I 1 0) (va_up F 1 (va_cpy (F 0) (F 1) 0 0 195))) = mW g h0 a (upd I 1 0) (kpF F) := by simp only [*, if_true, if_false, not_true_eq_false, not_false_eq_true, reduceIte]
  rw [hW1] at hP hD
  exact hm_v hQ hx hb hr hlk () rfl trivial hP hD hS (by decide) (by decide) dX4_keeps_18
theorem kX4_begins : hkV RX4 yX4_begins cX4_begins 1 none 0 := ⟨q2388, qs23, q78, q2389, rfl, by decide +kernel⟩
set_option maxHeartbeats 4000000 in
theorem mX4_begins (l : Launch) (g : hG) (E : hEnv) (ho : mOk g E) (h0 : Nat) (a : Nat → Nat) (I : Nat → Int32) (F : Nat → Nat → Int32) : MM l yX4_begins cX4_begins 1 none 2 44 0 0 [.ref h0] g E (mW g h0 a I F) (S := Unit) (fun _ => none) (fun _ => True) (fun _ => mW g h0 a (upd (upd I 5 0) 1 0) (kpF F)) := by
  refine MM.mk (by decide) (Nat.le_of_ble_eq_true rfl) ?_
  intro p e R s m args below meth c Q A H locs ls hX hRc hRs hP hD hE hS hA hnm hl hQ
  obtain ⟨hx, hb, hr, hlk, hml, hown, hts, hRf, hRl⟩ := hX
  have hown : s.vm.findClass RX4 = some m.cls := hown
  have hK := ho.2 _ _ _ hE
  have hl : lv_has ls 1 [(0, .ref h0)] := hl
  refine lv_aload_n hx hb dX4_begins_0 rfl (lv_at hl 0 rfl) ?_
  refine lv_iconst (v := 0) hx hb dX4_begins_1 (by decide) ?_
  refine va_put (D := gD g) (ci := 0) (v := .int 0) (ty := .int) (C := RX4) (T := TX4) (N := 21) hx hb hts in_X4 tyX4 tyX4_ok nmX4 hown hK hP hD hS 0 rfl rfl 9 (by decide) (hts _ q2323) (fun _ h9 => h9) rfl (by decide +kernel) rfl rfl (Nat.le_of_ble_eq_true rfl) dX4_begins_2 (fun H locs hP hD hS => ?_)
  have hP : va_P (gD g) Cl (mW g h0 a (upd I 5 0) F) H := hP
  have hD : va_D A (mW g h0 a (upd I 5 0) F) := hD
  refine lv_aload_n hx hb dX4_begins_5 rfl (lv_at hl 0 rfl) ?_
  refine mcV (As := []) (rest := []) (wr := []) (mX4_keeps l g E ho h0 a (upd I 5 0) F) kX4_keeps q2390 hx hb hml hown hts hRf hRl ho.1 hE hS hP hD hA [0, 1, 2, 3, 4, 5, 6, 7, 8] [] rfl (by decide) rfl (by decide) (by decide) ⟨Nat.zero_le _, Nat.zero_le _⟩ (va_recv hK hP (ci := 0) (q0 := 0) rfl rfl) hl ⟨rfl, rfl⟩ rfl rfl (Nat.le_of_ble_eq_true rfl) dX4_begins_6 (fun _ H locs _ hP hD hS _ _ => ?_)
  have hP : va_P (gD g) Cl (mW g h0 a (upd (upd I 5 0) 1 0) (va_up F 1 (va_cpy (F 0) (F 1) 0 0 195))) H := hP
  have hD : va_D A (mW g h0 a (upd (upd I 5 0) 1 0) (va_up F 1 (va_cpy (F 0) (F 1) 0 0 195))) := hD
  have hW1 : (mW g h0 a (upd (upd I 5 0) 1 0) (va_up F 1 (va_cpy (F 0) (F 1) 0 0 195))) = mW g h0 a (upd (upd I 5 0) 1 0) (kpF F) := by simp only [*, if_true, if_false, not_true_eq_false, not_false_eq_true, reduceIte]
  rw [hW1] at hP hD
  exact hm_v hQ hx hb hr hlk () rfl trivial hP hD hS (by decide) (by decide) dX4_begins_9
theorem kX4_changed : hkV RX4 yX4_changed cX4_changed 2 none 0 := ⟨q2417, qs28, q78, q2418, rfl, by decide +kernel⟩
set_option maxHeartbeats 4000000 in
theorem mX4_changed (l : Launch) (g : hG) (E : hEnv) (ho : mOk g E) (h0 : Nat) (a : Nat → Nat) (I : Nat → Int32) (F : Nat → Nat → Int32) (n : Nat) (hn : I 0 = nI n) (hn8 : n ≤ 8) : MM l yX4_changed cX4_changed 2 none 1 24 0 0 [.ref h0] g E (mW g h0 a I F) (S := Unit) (fun _ => none) (fun _ => True) (fun _ => mW g h0 a (chI I n) (chF F n)) := by
  refine MM.mk (by decide) (Nat.le_of_ble_eq_true rfl) ?_
  intro p e R s m args below meth c Q A H locs ls hX hRc hRs hP hD hE hS hA hnm hl hQ
  obtain ⟨hx, hb, hr, hlk, hml, hown, hts, hRf, hRl⟩ := hX
  have hown : s.vm.findClass RX4 = some m.cls := hown
  have hK := ho.2 _ _ _ hE
  have hl : lv_has ls 2 [(0, .ref h0)] := hl
  refine lv_aload_n hx hb dX4_changed_0 rfl (lv_at hl 0 rfl) ?_
  refine va_get (D := gD g) (ci := 0) (v := .int (I 0)) (C := RX4) (T := TX4) (N := 21) hx hb hts in_X4 hown hK hP 0 rfl rfl 4 (by decide) (hts _ q2318) (fun _ h9 => h9) rfl dX4_changed_1 ?_
  refine h_topi (v := nI n) (hn) ?_
  refine lv_bipush (v := 8) hx hb dX4_changed_4 (by decide) ?_
  refine lv_icmp_ne (tgt := 56) hx hb dX4_changed_6 (by decide) (fun c_1 => ?_) (fun c_1 => ?_)
  rotate_left
  · have he8 : n = 8 := (nI_eq (b := 8) (by omega) (by decide)).mp c_1
    subst he8
    refine lv_iconst (v := 1) hx hb dX4_changed_9 (by decide) ?_
    refine lv_istore_n (lv' := [(1, .int 1), (0, .ref h0)]) hx hb dX4_changed_10 rfl hl (by decide) rfl (fun ls hl => ?_)
    have loop_11 : ∀ (k : Nat) (i : Nat), (7 < i + k ∧ i ≤ 7) → ∀ (H : Heap) (locs : List Loc), va_P (gD g) Cl (mW g h0 a I (va_up F 3 (shP (F 3) i))) H → va_D A (mW g h0 a I (va_up F 3 (shP (F 3) i))) → va_S A s.heap H locs → ∀ (ls : Array Slot), lv_has ls 2 [(1, .int (nI (i + 1))), (0, .ref h0)] → W p l e R s m args below meth c H locs 0 0 Q (F0 m 11 ls []) := by
      intro k
      induction k with
      | zero =>
        intro i hi H locs hP hD hS ls hl
        exact absurd hi (by omega)
      | succ k ih_11 =>
        intro i hi H locs hP hD hS ls hl
        refine lv_iload_n hx hb dX4_changed_11 rfl (lv_at hl 0 rfl) ?_
        refine lv_bipush (v := 8) hx hb dX4_changed_12 (by decide) ?_
        refine lv_icmp_ge (tgt := 46) hx hb dX4_changed_14 (by decide) (fun c_2 => ?_) (fun c_2 => ?_)
        · have hge : i = 7 := by
            rcases Nat.lt_or_ge i 7 with q | q
            · exact absurd c_2 (nI_ge (a := i + 1) (b := 8) (by omega) (by omega))
            · omega
          subst hge
          refine lv_aload_n hx hb dX4_changed_46 rfl (lv_at hl 1 rfl) ?_
          refine lv_dup hx hb dX4_changed_47 rfl ?_
          refine va_get (D := gD g) (ci := 0) (v := .int (I 0)) (C := RX4) (T := TX4) (N := 21) hx hb hts in_X4 hown hK hP 0 rfl rfl 4 (by decide) (hts _ q2318) (fun _ h9 => h9) rfl dX4_changed_48 ?_
          refine h_topi (v := nI 8) (hn) ?_
          refine lv_iconst (v := 1) hx hb dX4_changed_51 (by decide) ?_
          refine lv_isub hx hb dX4_changed_52 ?_
          refine h_topi (v := nI (8 - 1)) (h_nsub (a := 8) (b := 1) (rfl) (rfl) (by omega)) ?_
          refine va_put (D := gD g) (ci := 0) (v := .int (nI (8 - 1))) (ty := .int) (C := RX4) (T := TX4) (N := 21) hx hb hts in_X4 tyX4 tyX4_ok nmX4 hown hK hP hD hS 0 rfl rfl 4 (by decide) (hts _ q2318) (fun _ h9 => h9) rfl (by decide +kernel) rfl rfl (Nat.le_of_ble_eq_true rfl) dX4_changed_53 (fun H locs hP hD hS => ?_)
          have hP : va_P (gD g) Cl (mW g h0 a (upd I 0 (nI (8 - 1))) (va_up F 3 (shP (F 3) 7))) H := hP
          have hD : va_D A (mW g h0 a (upd I 0 (nI (8 - 1))) (va_up F 3 (shP (F 3) 7))) := hD
          refine lv_aload_n hx hb dX4_changed_56 rfl (lv_at hl 1 rfl) ?_
          refine va_get (D := gD g) (ci := 0) (v := .ref (a 1)) (C := RX4) (T := TX4) (N := 21) hx hb hts in_X4 hown hK hP 0 rfl rfl 1 (by decide) (hts _ q2315) (fun _ h9 => h9) rfl dX4_changed_57 ?_
          refine lv_iconst (v := 0) hx hb dX4_changed_60 (by decide) ?_
          refine lv_aload_n hx hb dX4_changed_61 rfl (lv_at hl 1 rfl) ?_
          refine va_get (D := gD g) (ci := 0) (v := .ref (a 3)) (C := RX4) (T := TX4) (N := 21) hx hb hts in_X4 hown hK hP 0 rfl rfl 3 (by decide) (hts _ q2317) (fun _ h9 => h9) rfl dX4_changed_62 ?_
          refine lv_sipush (v := 195) hx hb dX4_changed_65 (by decide) ?_
          refine lv_aload_n hx hb dX4_changed_68 rfl (lv_at hl 1 rfl) ?_
          refine va_get (D := gD g) (ci := 0) (v := .int (nI (8 - 1))) (C := RX4) (T := TX4) (N := 21) hx hb hts in_X4 hown hK hP 0 rfl rfl 4 (by decide) (hts _ q2318) (fun _ h9 => h9) rfl dX4_changed_69 ?_
          refine lv_imul hx hb dX4_changed_72 ?_
          refine h_topi (v := nI (195 * (8 - 1))) (h_nmul (a := 195) (b := 8 - 1) (rfl) (rfl)) ?_
          refine mcS (As := [.ref (a 1), .int 0, .ref (a 3), .int (nI (195 * (8 - 1)))]) (rest := []) (st0 := [.int (nI (195 * (8 - 1))), .ref (a 3), .int 0, .ref (a 1)]) (wr := [(h0, .inr (0, mO a (upd I 0 (nI (8 - 1))))), (a 0, .inl (g.2.2.1 0, 195, .inl (F 0))), (a 2, .inl (g.2.2.1 0, 195, .inl (F 2))), (a 5, .inl (g.2.2.1 0, 60, .inl (F 4))), (a 6, .inl (g.2.2.1 0, 36, .inl (F 5))), (a 7, .inl (g.2.2.1 0, 260, .inl (F 6))), (a 4, .inl (g.2.2.1 5, 8, .inr (.inr (.inr (.inr (fun j => some (gA g (60 + j))))))))]) (mX4_copies2 l g E ho (a 1) 195 (F 1) (a 3) 1560 (shP (F 3) 7) 0 (195 * (8 - 1)) (by omega) (by omega) (by decide) (by decide)) kX4_copies q2394 hx hb hml hown hts hRf hRl ho.1 hE hS hP hD hA [2, 4] [0, 1, 3, 5, 6, 7, 8] rfl (by decide) rfl (by decide) (by decide) ⟨Nat.zero_le _, Nat.zero_le _⟩ hl ⟨rfl, rfl⟩ rfl rfl (Nat.le_of_ble_eq_true rfl) dX4_changed_73 (fun _ H locs _ hP hD hS _ _ => ?_)
          have hP := hP.sub (ws' := (mW g h0 a (upd I 0 (nI (8 - 1))) (va_up F 3 (va_cpy (F 1) (shP (F 3) 7) 0 (195 * (8 - 1)) 195)))) [0, 1, 7, 2, 8, 3, 4, 5, 6] rfl
          have hD := hD.sub (ws' := (mW g h0 a (upd I 0 (nI (8 - 1))) (va_up F 3 (va_cpy (F 1) (shP (F 3) 7) 0 (195 * (8 - 1)) 195)))) [0, 1, 7, 2, 8, 3, 4, 5, 6] (by decide) rfl
          refine lv_aload_n hx hb dX4_changed_76 rfl (lv_at hl 1 rfl) ?_
          refine lv_dup hx hb dX4_changed_77 rfl ?_
          refine va_get (D := gD g) (ci := 0) (v := .int (nI (8 - 1))) (C := RX4) (T := TX4) (N := 21) hx hb hts in_X4 hown hK hP 0 rfl rfl 4 (by decide) (hts _ q2318) (fun _ h9 => h9) rfl dX4_changed_78 ?_
          refine lv_iconst (v := 1) hx hb dX4_changed_81 (by decide) ?_
          refine lv_iadd hx hb dX4_changed_82 ?_
          refine h_topi (v := nI (8 - 1 + 1)) (h_nadd (a := 8 - 1) (b := 1) (rfl) (rfl)) ?_
          refine va_put (D := gD g) (ci := 0) (v := .int (nI (8 - 1 + 1))) (ty := .int) (C := RX4) (T := TX4) (N := 21) hx hb hts in_X4 tyX4 tyX4_ok nmX4 hown hK hP hD hS 0 rfl rfl 4 (by decide) (hts _ q2318) (fun _ h9 => h9) rfl (by decide +kernel) rfl rfl (Nat.le_of_ble_eq_true rfl) dX4_changed_83 (fun H locs hP hD hS => ?_)
          have hP : va_P (gD g) Cl (mW g h0 a (upd I 0 (nI (8 - 1 + 1))) (va_up F 3 (va_cpy (F 1) (shP (F 3) 7) 0 (195 * (8 - 1)) 195))) H := hP
          have hD : va_D A (mW g h0 a (upd I 0 (nI (8 - 1 + 1))) (va_up F 3 (va_cpy (F 1) (shP (F 3) 7) 0 (195 * (8 - 1)) 195))) := hD
          have hW1 : (mW g h0 a (upd I 0 (nI (8 - 1 + 1))) (va_up F 3 (va_cpy (F 1) (shP (F 3) 7) 0 (195 * (8 - 1)) 195))) = mW g h0 a (chI I 8) (chF F 8) := rfl
          rw [hW1] at hP hD
          exact hm_v hQ hx hb hr hlk () rfl trivial hP hD hS (by decide) (by decide) dX4_changed_86
        have hlt : i < 7 := by
          rcases Nat.lt_or_ge i 7 with q | q
          · exact q
          · exact absurd (nI_le (a := 8) (b := i + 1) (by omega) (by omega)) c_2
        refine lv_aload_n hx hb dX4_changed_17 rfl (lv_at hl 1 rfl) ?_
        refine va_get (D := gD g) (ci := 0) (v := .ref (a 3)) (C := RX4) (T := TX4) (N := 21) hx hb hts in_X4 hown hK hP 0 rfl rfl 3 (by decide) (hts _ q2317) (fun _ h9 => h9) rfl dX4_changed_18 ?_
        refine lv_sipush (v := 195) hx hb dX4_changed_21 (by decide) ?_
        refine lv_iload_n hx hb dX4_changed_24 rfl (lv_at hl 0 rfl) ?_
        refine lv_imul hx hb dX4_changed_25 ?_
        refine h_topi (v := nI (195 * (i + 1))) (h_nmul (a := 195) (b := i + 1) (rfl) (rfl)) ?_
        refine lv_aload_n hx hb dX4_changed_26 rfl (lv_at hl 1 rfl) ?_
        refine va_get (D := gD g) (ci := 0) (v := .ref (a 3)) (C := RX4) (T := TX4) (N := 21) hx hb hts in_X4 hown hK hP 0 rfl rfl 3 (by decide) (hts _ q2317) (fun _ h9 => h9) rfl dX4_changed_27 ?_
        refine lv_sipush (v := 195) hx hb dX4_changed_30 (by decide) ?_
        refine lv_iload_n hx hb dX4_changed_33 rfl (lv_at hl 0 rfl) ?_
        refine lv_iconst (v := 1) hx hb dX4_changed_34 (by decide) ?_
        refine lv_isub hx hb dX4_changed_35 ?_
        refine h_topi (v := nI ((i + 1) - 1)) (h_nsub (a := i + 1) (b := 1) (rfl) (rfl) (by omega)) ?_
        refine lv_imul hx hb dX4_changed_36 ?_
        refine h_topi (v := nI (195 * ((i + 1) - 1))) (h_nmul (a := 195) (b := (i + 1) - 1) (rfl) (rfl)) ?_
        refine mcS (As := [.ref (a 3), .int (nI (195 * (i + 1))), .ref (a 3), .int (nI (195 * ((i + 1) - 1)))]) (rest := []) (st0 := [.int (nI (195 * ((i + 1) - 1))), .ref (a 3), .int (nI (195 * (i + 1))), .ref (a 3)]) (wr := [(h0, .inr (0, mO a I)), (a 0, .inl (g.2.2.1 0, 195, .inl (F 0))), (a 1, .inl (g.2.2.1 0, 195, .inl (F 1))), (a 2, .inl (g.2.2.1 0, 195, .inl (F 2))), (a 5, .inl (g.2.2.1 0, 60, .inl (F 4))), (a 6, .inl (g.2.2.1 0, 36, .inl (F 5))), (a 7, .inl (g.2.2.1 0, 260, .inl (F 6))), (a 4, .inl (g.2.2.1 5, 8, .inr (.inr (.inr (.inr (fun j => some (gA g (60 + j))))))))]) (mX4_copies1 l g E ho (a 3) 1560 (shP (F 3) i) (195 * (i + 1)) (195 * ((i + 1) - 1)) (by omega) (by omega) (by decide) (by omega)) kX4_copies q2394 hx hb hml hown hts hRf hRl ho.1 hE hS hP hD hA [4] [0, 1, 2, 3, 5, 6, 7, 8] rfl (by decide) rfl (by decide) (by decide) ⟨Nat.zero_le _, Nat.zero_le _⟩ hl ⟨rfl, rfl⟩ rfl rfl (Nat.le_of_ble_eq_true rfl) dX4_changed_37 (fun _ H locs _ hP hD hS _ _ => ?_)
        have hP := hP.sub (ws' := (mW g h0 a I (va_up F 3 (va_cpy (shP (F 3) i) (shP (F 3) i) (195 * (i + 1)) (195 * ((i + 1) - 1)) 195)))) [0, 1, 2, 3, 8, 4, 5, 6, 7] rfl
        have hD := hD.sub (ws' := (mW g h0 a I (va_up F 3 (va_cpy (shP (F 3) i) (shP (F 3) i) (195 * (i + 1)) (195 * ((i + 1) - 1)) 195)))) [0, 1, 2, 3, 8, 4, 5, 6, 7] (by decide) rfl
        refine lv_iinc (v := nI (i + 1 + 1)) (lv' := [(1, .int (nI (i + 1 + 1))), (0, .ref h0)]) hx hb dX4_changed_40 hl (k := 0) rfl (h_ninc (a := i + 1) (k := 1) (rfl)) (by decide) rfl (fun ls hl => ?_)
        refine lv_goto (tgt := 11) hx hb dX4_changed_43 (by decide) ?_
        have hsh : va_cpy (shP (F 3) i) (shP (F 3) i) (195 * (i + 1)) (195 * (i + 1 - 1)) 195 = shP (F 3) (i + 1) := rfl
        rw [hsh] at hP hD
        exact ih_11 (i + 1) (by omega) H locs hP hD hS ls (lv_sub hl [0, 1] rfl)
    have hsh0 : F = va_up F 3 (shP (F 3) 0) := (hup_id F 3).symm
    rw [hsh0] at hP hD
    exact loop_11 8 0 (by omega) H locs hP hD hS ls (lv_sub hl [0, 1] rfl)
  have hne : n ≠ 8 := fun q => c_1 (by rw [q]; rfl)
  refine lv_aload_n hx hb dX4_changed_56 rfl (lv_at hl 0 rfl) ?_
  refine va_get (D := gD g) (ci := 0) (v := .ref (a 1)) (C := RX4) (T := TX4) (N := 21) hx hb hts in_X4 hown hK hP 0 rfl rfl 1 (by decide) (hts _ q2315) (fun _ h9 => h9) rfl dX4_changed_57 ?_
  refine lv_iconst (v := 0) hx hb dX4_changed_60 (by decide) ?_
  refine lv_aload_n hx hb dX4_changed_61 rfl (lv_at hl 0 rfl) ?_
  refine va_get (D := gD g) (ci := 0) (v := .ref (a 3)) (C := RX4) (T := TX4) (N := 21) hx hb hts in_X4 hown hK hP 0 rfl rfl 3 (by decide) (hts _ q2317) (fun _ h9 => h9) rfl dX4_changed_62 ?_
  refine lv_sipush (v := 195) hx hb dX4_changed_65 (by decide) ?_
  refine lv_aload_n hx hb dX4_changed_68 rfl (lv_at hl 0 rfl) ?_
  refine va_get (D := gD g) (ci := 0) (v := .int (I 0)) (C := RX4) (T := TX4) (N := 21) hx hb hts in_X4 hown hK hP 0 rfl rfl 4 (by decide) (hts _ q2318) (fun _ h9 => h9) rfl dX4_changed_69 ?_
  refine h_topi (v := nI n) (hn) ?_
  refine lv_imul hx hb dX4_changed_72 ?_
  refine h_topi (v := nI (195 * n)) (h_nmul (a := 195) (b := n) (rfl) (rfl)) ?_
  refine mcS (As := [.ref (a 1), .int 0, .ref (a 3), .int (nI (195 * n))]) (rest := []) (st0 := [.int (nI (195 * n)), .ref (a 3), .int 0, .ref (a 1)]) (wr := [(h0, .inr (0, mO a I)), (a 0, .inl (g.2.2.1 0, 195, .inl (F 0))), (a 2, .inl (g.2.2.1 0, 195, .inl (F 2))), (a 5, .inl (g.2.2.1 0, 60, .inl (F 4))), (a 6, .inl (g.2.2.1 0, 36, .inl (F 5))), (a 7, .inl (g.2.2.1 0, 260, .inl (F 6))), (a 4, .inl (g.2.2.1 5, 8, .inr (.inr (.inr (.inr (fun j => some (gA g (60 + j))))))))]) (mX4_copies2 l g E ho (a 1) 195 (F 1) (a 3) 1560 (F 3) 0 (195 * n) (by omega) (by omega) (by decide) (by decide)) kX4_copies q2394 hx hb hml hown hts hRf hRl ho.1 hE hS hP hD hA [2, 4] [0, 1, 3, 5, 6, 7, 8] rfl (by decide) rfl (by decide) (by decide) ⟨Nat.zero_le _, Nat.zero_le _⟩ hl ⟨rfl, rfl⟩ rfl rfl (Nat.le_of_ble_eq_true rfl) dX4_changed_73 (fun _ H locs _ hP hD hS _ _ => ?_)
  have hP := hP.sub (ws' := (mW g h0 a I (va_up F 3 (va_cpy (F 1) (F 3) 0 (195 * n) 195)))) [0, 1, 7, 2, 8, 3, 4, 5, 6] rfl
  have hD := hD.sub (ws' := (mW g h0 a I (va_up F 3 (va_cpy (F 1) (F 3) 0 (195 * n) 195)))) [0, 1, 7, 2, 8, 3, 4, 5, 6] (by decide) rfl
  refine lv_aload_n hx hb dX4_changed_76 rfl (lv_at hl 0 rfl) ?_
  refine lv_dup hx hb dX4_changed_77 rfl ?_
  refine va_get (D := gD g) (ci := 0) (v := .int (I 0)) (C := RX4) (T := TX4) (N := 21) hx hb hts in_X4 hown hK hP 0 rfl rfl 4 (by decide) (hts _ q2318) (fun _ h9 => h9) rfl dX4_changed_78 ?_
  refine h_topi (v := nI n) (hn) ?_
  refine lv_iconst (v := 1) hx hb dX4_changed_81 (by decide) ?_
  refine lv_iadd hx hb dX4_changed_82 ?_
  refine h_topi (v := nI (n + 1)) (h_nadd (a := n) (b := 1) (rfl) (rfl)) ?_
  refine va_put (D := gD g) (ci := 0) (v := .int (nI (n + 1))) (ty := .int) (C := RX4) (T := TX4) (N := 21) hx hb hts in_X4 tyX4 tyX4_ok nmX4 hown hK hP hD hS 0 rfl rfl 4 (by decide) (hts _ q2318) (fun _ h9 => h9) rfl (by decide +kernel) rfl rfl (Nat.le_of_ble_eq_true rfl) dX4_changed_83 (fun H locs hP hD hS => ?_)
  have hP : va_P (gD g) Cl (mW g h0 a (upd I 0 (nI (n + 1))) (va_up F 3 (va_cpy (F 1) (F 3) 0 (195 * n) 195))) H := hP
  have hD : va_D A (mW g h0 a (upd I 0 (nI (n + 1))) (va_up F 3 (va_cpy (F 1) (F 3) 0 (195 * n) 195))) := hD
  have hW1 : (mW g h0 a (upd I 0 (nI (n + 1))) (va_up F 3 (va_cpy (F 1) (F 3) 0 (195 * n) 195))) = mW g h0 a (chI I n) (chF F n) := by simp only [chI, chF, chN, chP, if_neg hne]
  rw [hW1] at hP hD
  exact hm_v hQ hx hb hr hlk () rfl trivial hP hD hS (by decide) (by decide) dX4_changed_86
theorem kX4_ends : hkV RX4 yX4_ends cX4_ends 2 (some .int) 1 := ⟨q2413, qs27, q78, q2414, rfl, by decide +kernel⟩
set_option maxHeartbeats 4000000 in
theorem mX4_ends1 (l : Launch) (g : hG) (E : hEnv) (ho : mOk g E) (h0 : Nat) (a : Nat → Nat) (I : Nat → Int32) (F : Nat → Nat → Int32) (v : Int32) (hz : ¬ I 1 = 0) : RM l yX4_ends cX4_ends 2 (some .int) 0 0 [.ref h0, .int v] g E (mW g h0 a I F) (some (.int 0)) := by
  refine RM.mk (by decide) (Nat.le_of_ble_eq_true rfl) ?_
  intro p e R s m args below meth c Q ls hX hP hE hS hl hQ
  obtain ⟨hx, hb, hr, hlk, hml, hown, hts, hRf, hRl⟩ := hX
  have hown : s.vm.findClass RX4 = some m.cls := hown
  have hK := ho.2 _ _ _ hE
  have hl : lv_has ls 2 [(0, .ref h0), (1, .int v)] := hl
  refine lv_aload_n hx hb dX4_ends_0 rfl (lv_at hl 0 rfl) ?_
  refine va_get (D := gD g) (ci := 0) (v := .int (I 1)) (C := RX4) (T := TX4) (N := 21) hx hb hts in_X4 hown hK hP 0 rfl rfl 5 (by decide) (hts _ q2319) (fun _ h9 => h9) rfl dX4_ends_1 ?_
  refine lv_if_eq (tgt := 9) hx hb dX4_ends_4 (by decide) (fun c_1 => ?_) (fun c_1 => ?_)
  · exact (hz c_1).elim
  refine lv_iconst (v := 0) hx hb dX4_ends_7 (by decide) ?_
  exact hr_i hQ hx hb hr hlk rfl (rfl) dX4_ends_8
set_option maxHeartbeats 4000000 in
theorem mX4_ends0 (l : Launch) (g : hG) (E : hEnv) (ho : mOk g E) (h0 : Nat) (a : Nat → Nat) (I : Nat → Int32) (F : Nat → Nat → Int32) (v : Int32) (n : Nat) (hz : I 1 = 0) (hn : I 0 = nI n) (hn8 : n ≤ 8) : MM l yX4_ends cX4_ends 2 (some .int) 2 45 0 0 [.ref h0, .int v] g E (mW g h0 a I F) (S := Unit) (fun _ => (some (.int v))) (fun _ => True) (fun _ => mW g h0 a (chI I n) (chF F n)) := by
  refine MM.mk (by decide) (Nat.le_of_ble_eq_true rfl) ?_
  intro p e R s m args below meth c Q A H locs ls hX hRc hRs hP hD hE hS hA hnm hl hQ
  obtain ⟨hx, hb, hr, hlk, hml, hown, hts, hRf, hRl⟩ := hX
  have hown : s.vm.findClass RX4 = some m.cls := hown
  have hK := ho.2 _ _ _ hE
  have hl : lv_has ls 2 [(0, .ref h0), (1, .int v)] := hl
  refine lv_aload_n hx hb dX4_ends_0 rfl (lv_at hl 0 rfl) ?_
  refine va_get (D := gD g) (ci := 0) (v := .int (I 1)) (C := RX4) (T := TX4) (N := 21) hx hb hts in_X4 hown hK hP 0 rfl rfl 5 (by decide) (hts _ q2319) (fun _ h9 => h9) rfl dX4_ends_1 ?_
  refine lv_if_eq (tgt := 9) hx hb dX4_ends_4 (by decide) (fun c_1 => ?_) (fun c_1 => ?_)
  · refine lv_aload_n hx hb dX4_ends_9 rfl (lv_at hl 0 rfl) ?_
    refine mcV (As := []) (rest := []) (wr := []) (mX4_changed l g E ho h0 a I F n hn hn8) kX4_changed q2415 hx hb hml hown hts hRf hRl ho.1 hE hS hP hD hA [0, 1, 2, 3, 4, 5, 6, 7, 8] [] rfl (by decide) rfl (by decide) (by decide) ⟨Nat.zero_le _, Nat.zero_le _⟩ (va_recv hK hP (ci := 0) (q0 := 0) rfl rfl) hl ⟨rfl, rfl⟩ rfl rfl (Nat.le_of_ble_eq_true rfl) dX4_ends_10 (fun _ H locs _ hP hD hS _ _ => ?_)
    have hP : va_P (gD g) Cl (mW g h0 a (chI I n) (chF F n)) H := hP
    have hD : va_D A (mW g h0 a (chI I n) (chF F n)) := hD
    refine lv_iload_n hx hb dX4_ends_13 rfl (lv_at hl 1 rfl) ?_
    exact hm_i hQ hx hb hr hlk rfl () (rfl) trivial hP hD hS (by decide) (by decide) dX4_ends_14
  exact (c_1 hz).elim
theorem kX4_cannotPay : hkV RX4 yX4_cannotPay cX4_cannotPay 2 (some .boolean) 1 := ⟨q2406, qs26, q78, q2407, rfl, by decide +kernel⟩
set_option maxHeartbeats 4000000 in
theorem mX4_cannotPay1 (l : Launch) (g : hG) (E : hEnv) (ho : mOk g E) (h0 : Nat) (a : Nat → Nat) (I : Nat → Int32) (F : Nat → Nat → Int32) (k : Int32) (hlt : F 0 0 < k) : MM l yX4_cannotPay cX4_cannotPay 2 (some .boolean) 1 23 0 0 [.ref h0, .int k] g E (mW g h0 a I F) (S := Unit) (fun _ => (some (.int 1))) (fun _ => True) (fun _ => mW g h0 a (refI I 4 (k - F 0 0)) F) := by
  refine MM.mk (by decide) (Nat.le_of_ble_eq_true rfl) ?_
  intro p e R s m args below meth c Q A H locs ls hX hRc hRs hP hD hE hS hA hnm hl hQ
  obtain ⟨hx, hb, hr, hlk, hml, hown, hts, hRf, hRl⟩ := hX
  have hown : s.vm.findClass RX4 = some m.cls := hown
  have hK := ho.2 _ _ _ hE
  have hl : lv_has ls 2 [(0, .ref h0), (1, .int k)] := hl
  refine lv_aload_n hx hb dX4_cannotPay_0 rfl (lv_at hl 0 rfl) ?_
  refine lv_aload_n hx hb dX4_cannotPay_1 rfl (lv_at hl 0 rfl) ?_
  refine va_get (D := gD g) (ci := 0) (v := .ref (a 0)) (C := RX4) (T := TX4) (N := 21) hx hb hts in_X4 hown hK hP 0 rfl rfl 0 (by decide) (hts _ q2314) (fun _ h9 => h9) rfl dX4_cannotPay_2 ?_
  refine lv_iconst (v := 0) hx hb dX4_cannotPay_5 (by decide) ?_
  refine h_iald (f := (F 0)) hx hb hK hP 1 0 rfl rfl 0 rfl (by decide) (by decide) dX4_cannotPay_6 ?_
  refine lv_iload_n hx hb dX4_cannotPay_7 rfl (lv_at hl 1 rfl) ?_
  refine lv_icmp_ge (tgt := 15) hx hb dX4_cannotPay_8 (by decide) (fun c_1 => ?_) (fun c_1 => ?_)
  · exact ((Int32.not_le.mpr hlt) c_1).elim
  refine lv_iconst (v := 1) hx hb dX4_cannotPay_11 (by decide) ?_
  refine lv_goto (tgt := 16) hx hb dX4_cannotPay_12 (by decide) ?_
  refine lv_iconst (v := 4) hx hb dX4_cannotPay_16 (by decide) ?_
  refine lv_iload_n hx hb dX4_cannotPay_17 rfl (lv_at hl 1 rfl) ?_
  refine lv_aload_n hx hb dX4_cannotPay_18 rfl (lv_at hl 0 rfl) ?_
  refine va_get (D := gD g) (ci := 0) (v := .ref (a 0)) (C := RX4) (T := TX4) (N := 21) hx hb hts in_X4 hown hK hP 0 rfl rfl 0 (by decide) (hts _ q2314) (fun _ h9 => h9) rfl dX4_cannotPay_19 ?_
  refine lv_iconst (v := 0) hx hb dX4_cannotPay_22 (by decide) ?_
  refine h_iald (f := (F 0)) hx hb hK hP 1 0 rfl rfl 0 rfl (by decide) (by decide) dX4_cannotPay_23 ?_
  refine lv_isub hx hb dX4_cannotPay_24 ?_
  refine mcV (As := [.int 1, .int 4, .int (k - (F 0 0))]) (rest := []) (wr := []) (mX4_isRefused1 l g E ho h0 a I F 4 (k - (F 0 0))) kX4_isRefused q2400 hx hb hml hown hts hRf hRl ho.1 hE hS hP hD hA [0, 1, 2, 3, 4, 5, 6, 7, 8] [] rfl (by decide) rfl (by decide) (by decide) ⟨Nat.zero_le _, Nat.zero_le _⟩ (va_recv hK hP (ci := 0) (q0 := 0) rfl rfl) hl ⟨rfl, rfl⟩ rfl rfl (Nat.le_of_ble_eq_true rfl) dX4_cannotPay_25 (fun _ H locs _ hP hD hS _ _ => ?_)
  have hP : va_P (gD g) Cl (mW g h0 a (refI I 4 (k - (F 0 0))) F) H := hP
  have hD : va_D A (mW g h0 a (refI I 4 (k - (F 0 0))) F) := hD
  refine lv_if_eq (tgt := 33) hx hb dX4_cannotPay_28 (by decide) (fun c => absurd c (by decide)) (fun _ => ?_)
  refine lv_iconst (v := 1) hx hb dX4_cannotPay_31 (by decide) ?_
  have hW1 : (mW g h0 a (refI I 4 (k - (F 0 0))) F) = mW g h0 a (refI I 4 (k - F 0 0)) F := by simp only [*, if_true, if_false, not_true_eq_false, not_false_eq_true, reduceIte]
  rw [hW1] at hP hD
  exact hm_i hQ hx hb hr hlk rfl () (rfl) trivial hP hD hS (by decide) (by decide) dX4_cannotPay_32
set_option maxHeartbeats 4000000 in
theorem mX4_cannotPay0 (l : Launch) (g : hG) (E : hEnv) (ho : mOk g E) (h0 : Nat) (a : Nat → Nat) (I : Nat → Int32) (F : Nat → Nat → Int32) (k : Int32) (hlt : ¬ F 0 0 < k) : MM l yX4_cannotPay cX4_cannotPay 2 (some .boolean) 1 23 0 0 [.ref h0, .int k] g E (mW g h0 a I F) (S := Unit) (fun _ => (some (.int 0))) (fun _ => True) (fun _ => mW g h0 a I (va_up F 0 (upd (F 0) 0 (F 0 0 - k)))) := by
  refine MM.mk (by decide) (Nat.le_of_ble_eq_true rfl) ?_
  intro p e R s m args below meth c Q A H locs ls hX hRc hRs hP hD hE hS hA hnm hl hQ
  obtain ⟨hx, hb, hr, hlk, hml, hown, hts, hRf, hRl⟩ := hX
  have hown : s.vm.findClass RX4 = some m.cls := hown
  have hK := ho.2 _ _ _ hE
  have hl : lv_has ls 2 [(0, .ref h0), (1, .int k)] := hl
  refine lv_aload_n hx hb dX4_cannotPay_0 rfl (lv_at hl 0 rfl) ?_
  refine lv_aload_n hx hb dX4_cannotPay_1 rfl (lv_at hl 0 rfl) ?_
  refine va_get (D := gD g) (ci := 0) (v := .ref (a 0)) (C := RX4) (T := TX4) (N := 21) hx hb hts in_X4 hown hK hP 0 rfl rfl 0 (by decide) (hts _ q2314) (fun _ h9 => h9) rfl dX4_cannotPay_2 ?_
  refine lv_iconst (v := 0) hx hb dX4_cannotPay_5 (by decide) ?_
  refine h_iald (f := (F 0)) hx hb hK hP 1 0 rfl rfl 0 rfl (by decide) (by decide) dX4_cannotPay_6 ?_
  refine lv_iload_n hx hb dX4_cannotPay_7 rfl (lv_at hl 1 rfl) ?_
  refine lv_icmp_ge (tgt := 15) hx hb dX4_cannotPay_8 (by decide) (fun c_1 => ?_) (fun c_1 => ?_)
  · refine lv_iconst (v := 0) hx hb dX4_cannotPay_15 (by decide) ?_
    refine lv_iconst (v := 4) hx hb dX4_cannotPay_16 (by decide) ?_
    refine lv_iload_n hx hb dX4_cannotPay_17 rfl (lv_at hl 1 rfl) ?_
    refine lv_aload_n hx hb dX4_cannotPay_18 rfl (lv_at hl 0 rfl) ?_
    refine va_get (D := gD g) (ci := 0) (v := .ref (a 0)) (C := RX4) (T := TX4) (N := 21) hx hb hts in_X4 hown hK hP 0 rfl rfl 0 (by decide) (hts _ q2314) (fun _ h9 => h9) rfl dX4_cannotPay_19 ?_
    refine lv_iconst (v := 0) hx hb dX4_cannotPay_22 (by decide) ?_
    refine h_iald (f := (F 0)) hx hb hK hP 1 0 rfl rfl 0 rfl (by decide) (by decide) dX4_cannotPay_23 ?_
    refine lv_isub hx hb dX4_cannotPay_24 ?_
    refine rcV (As := [.int 0, .int 4, .int (k - (F 0 0))]) (rest := []) (st1 := [.int 0]) (mX4_isRefused0 l g E ho h0 a I F 4 (k - (F 0 0))) kX4_isRefused q2400 hx hb hml hown hts hRf hRl ho.1 hE hS hP (va_recv hK hP (ci := 0) (q0 := 0) rfl rfl) ⟨Nat.zero_le _, Nat.zero_le _⟩ hl ⟨rfl, rfl⟩ rfl rfl (Nat.le_of_ble_eq_true rfl) rfl dX4_cannotPay_25 ?_
    refine lv_if_eq (tgt := 33) hx hb dX4_cannotPay_28 (by decide) (fun _ => ?_) (fun c => absurd c (by decide))
    refine lv_aload_n hx hb dX4_cannotPay_33 rfl (lv_at hl 0 rfl) ?_
    refine va_get (D := gD g) (ci := 0) (v := .ref (a 0)) (C := RX4) (T := TX4) (N := 21) hx hb hts in_X4 hown hK hP 0 rfl rfl 0 (by decide) (hts _ q2314) (fun _ h9 => h9) rfl dX4_cannotPay_34 ?_
    refine lv_iconst (v := 0) hx hb dX4_cannotPay_37 (by decide) ?_
    refine lv_dup2_11 hx hb dX4_cannotPay_38 rfl rfl ?_
    refine h_iald (f := (F 0)) hx hb hK hP 1 0 rfl rfl 0 rfl (by decide) (by decide) dX4_cannotPay_39 ?_
    refine lv_iload_n hx hb dX4_cannotPay_40 rfl (lv_at hl 1 rfl) ?_
    refine lv_isub hx hb dX4_cannotPay_41 ?_
    refine h_iast (f := (F 0)) hx hb hK hP hD hS 1 0 rfl rfl 0 rfl (by decide) (by decide) dX4_cannotPay_42 (fun H locs hP hD hS => ?_)
    have hP : va_P (gD g) Cl (mW g h0 a I (va_up F 0 (upd (F 0) 0 ((F 0 0) - k)))) H := hP
    have hD : va_D A (mW g h0 a I (va_up F 0 (upd (F 0) 0 ((F 0 0) - k)))) := hD
    refine lv_iconst (v := 0) hx hb dX4_cannotPay_43 (by decide) ?_
    have hW1 : (mW g h0 a I (va_up F 0 (upd (F 0) 0 ((F 0 0) - k)))) = mW g h0 a I (va_up F 0 (upd (F 0) 0 (F 0 0 - k))) := by simp only [*, if_true, if_false, not_true_eq_false, not_false_eq_true, reduceIte]
    rw [hW1] at hP hD
    exact hm_i hQ hx hb hr hlk rfl () (rfl) trivial hP hD hS (by decide) (by decide) dX4_cannotPay_44
  exact (hlt (Int32.not_le.mp c_1)).elim
